/-! soundness: calls -/
theorem cat_le (v : Value) : v.category ≤ 2 := by cases v <;> exact Nat.le_of_ble_eq_true rfl
theorem cat_sum (l : List Value) : (l.map fun v => v.category).sum ≤ 2 * l.length := by
  induction l with
  | nil => exact Nat.le_refl _
  | cons v l ih =>
    have := cat_le v
    simp only [List.map_cons, List.sum_cons, List.length_cons]
    omega
theorem W.mono {p : Program} {l : Launch} {e : Env} {R : Room} {s : State} {m : MethodId} {args : Array Value} {below : List Frame} {meth : Method} {c : Code} {H : Heap} {locs : List Loc} {cells slots : Nat} {Q Q' : State → Prop} {g : JFrame} (h : ∀ t, Q t → Q' t) (k : W p l e R s m args below meth c H locs cells slots Q g) : W p l e R s m args below meth c H locs cells slots Q' g := by
  intro T hT X
  obtain ⟨t, a, b⟩ := k T hT X
  exact ⟨t, a, h t b⟩
/-- a call has run: it gave back, or threw -/
def VR (len : Nat) (p : Program) (l : Launch) (e : Env) (R : Room) (s : State) (m : MethodId) (args : Array Value) (below : List Frame) (meth : Method) (c : Code) (H : Heap) (locs : List Loc) (cells slots mc ms : Nat) (g : JFrame) (rest : List Value) (Qa : State → Outcome → State → Prop) (XC : String → Nat → State → State → Prop) (free : Addr → Prop) : Prop :=
  ∀ T : State, T.heap = H → Stand p l e R s m args below meth c T locs cells slots →
    (∃ (v : Option Value) (st₀ t T' : State) (L : List Loc), st₀.heap = H ∧ Stand p l e R s m args below meth c T' (locs ++ L) (cells + mc) (slots + ms) ∧ (∀ q ∈ L, free q.base) ∧ T'.heap = t.heap ∧ T'.vm = t.vm ∧ Qa st₀ (.returned v) t ∧
      Goes p e below T g T' { g with pc := g.pc + len, stack := v.toList ++ rest }) ∨
    (∃ (q : Addr) (st₀ t T' : State) (L : List Loc) (E : String) (ce : Cell), st₀.heap = H ∧ Stand p l e R s m args below meth c T' (locs ++ L) (cells + mc) (slots + ms) ∧ (∀ z ∈ L, free z.base) ∧ T'.heap = t.heap ∧ T'.vm = t.vm ∧ XC E q st₀ t ∧ t.heap[q]? = some ce ∧ ce.vm = .none ∧ s.vm.findClass E = some ce.cls ∧
      Steps p.tables e below (T.setTop g) ((T'.setTop { g with stack := rest }).pushFrame (.throwing q)))
/-- the handlers over pc: none; or those of the list -/
def HdOK (mi : Mi) (pc : Nat) (hd : Option (List (Nat × Nat))) : Prop := match hd with
  | none => ∀ x ∈ tableOf mi.2.2.2.1, covers x pc = false
  | some l9 => ∀ q ∈ l9, ∃ (r : vw_C) (pre : List ExceptionTableEntry) (x : ExceptionTableEntry) (suf : List ExceptionTableEntry) (name : String), CL[q.1]? = some r ∧ tableOf mi.2.2.2.1 = pre ++ x :: suf ∧
      (∀ z ∈ pre, covers z pc = false ∨ (z.catchType ≠ 0 ∧ ∃ nm : String, Cond.classLink mi.1 z.catchType nm ∈ lw_all ∧ (r.1, nm) ∈ NCL)) ∧ covers x pc = true ∧ x.catchType ≠ 0 ∧ Cond.classLink mi.1 x.catchType name ∈ lw_all ∧ Cond.castable r.1 name ∈ lw_tbl ∧ x.handlerPc = q.2
theorem lkn_mem {l9 : List (Nat × Nat)} {k h : Nat} (e : lkn l9 k = some h) : (k, h) ∈ l9 := by
  induction l9 with
  | nil => cases e
  | cons q l9 ih =>
    obtain ⟨a, b⟩ := q
    unfold lkn at e
    split at e
    · next hq => cases e; subst hq; exact List.mem_cons_self
    · exact List.mem_cons_of_mem _ (ih e)
/-- thrown over the frame: caught here, or it goes on -/
theorem thr_go {G : Ge} {p : Program} {l : Launch} {e : Env} {R : Room} {s : State} {m : MethodId} {args : Array Value} {below : List Frame} {meth : Method} {c : Code} {mi : Mi} {d b0 c0 pc : Nat} {Q : State → Prop} {hd : Option (List (Nat × Nat))} {H : Heap} {locs : List Loc} {ls : Array Slot} {L : Lc} {cells slots ci q : Nat} {r : vw_C} {A : Hp} {ce : Cell} {rest : List Value}
    (hC : Cx G p l R s m args meth c mi d) (hH : HdOK mi pc hd) (hr : CL[ci]? = some r) (hR : RepH G A H) (hS : va_S (geA G) s.heap H locs) (hl : lvh ls mi.2.2.1 L) (h1 : cells + b0 = nx A) (h2 : slots + c0 = su A) (hce : H[q]? = some ce) (hv : ce.vm = .none) (hcl : s.vm.findClass r.1 = some ce.cls)
    (k : ThrK G p l e R s m args below meth c mi.2.2.1 b0 c0 Q hd L ci q A) : vx_W p l e R s m args below meth c H locs cells slots Q (F0 m pc ls rest) q := by
  obtain ⟨hx, hb, hml, hown, htab, hret, hini, hts, hlk, htr, hd1, hd2, hG, hBs, hag⟩ := hC
  cases hd with
  | none =>
    have w := vx_out (p := p) (l := l) (e := e) (R := R) (m := m) (args := args) (below := below) (locs := locs) (cells := cells) (slots := slots) (ls := ls) (rest := rest) (Qc := Qr G (.inr (ci, q), A)) (XC := Xr G (.inr (ci, q), A)) (mc := nx A - b0) (ms := su A - c0) (free := geA G) (pc := pc) (E := r.1) (by rw [htab]; exact hH) hlk hce hv hcl (fun t ht _ => ⟨ci, r, rfl, hr, rfl, by rw [ht]; exact hR⟩) hS.2.2 (by omega) (by omega)
    intro T hT X
    obtain ⟨t, a1, b1⟩ := w T hT X
    exact ⟨t, a1, k t b1⟩
  | some l9 =>
    unfold ThrK at k
    dsimp only at k
    cases hh : lkn l9 ci with
    | none => rw [hh] at k; exact k.elim
    | some h =>
      rw [hh] at k
      obtain ⟨r', pre, x, suf, name, g1, g2, g3, g4, g5, g6, g7, g8⟩ := hH _ (lkn_mem hh)
      have e9 : r' = r := Option.some.inj (g1.symm.trans hr)
      subst e9
      have k' := k H locs ls cells slots hR hS hl h1 h2
      exact vx_catch hown pre x suf (by rw [htab]; exact g2) (fun z hz => (g3 z hz).imp id (fun ⟨a, nm, b, c9⟩ => ⟨a, nm, hts _ b, g_nc hG _ c9⟩)) g4 g5 (hts _ g6) (va_Nw.use rfl (hG.2.2.2.1 _ _ g7)) hce hv hcl (by rw [g8]; exact k')
theorem call_go {G : Ge} {p : Program} {l : Launch} {e : Env} {R : Room} {s : State} {m : MethodId} {args : Array Value} {below : List Frame} {meth : Method} {c : Code} {mi : Mi} {d b0 c0 pc len : Nat} {Q : State → Prop} {k : Cl} {x : Out × Hp} {H : Heap} {locs : List Loc} {ls : Array Slot} {cells slots : Nat} {st0 : List Value} {a9 : Array Value} {A : Hp}
    (hC : Cx G p l R s m args meth c mi d) (hH : HdOK mi pc k.2.2.2.2.2.2.1) (hp : k.2.2.2.1 = pc + len) (hA : k.2.2.2.2.2.2.2 = A) (hle : nx A ≤ nx x.2) (hle2 : su A ≤ su x.2)
    (hr : VR len p l e R s m args below meth c H locs cells slots (nx x.2 - nx A) (su x.2 - su A) (F0 m pc ls st0) k.2.2.2.2.2.1 (Qr G x a9) (Xr G x) (geA G))
    (hR : RepH G A H) (hS : va_S (geA G) s.heap H locs) (hl : lvh ls mi.2.2.1 k.2.2.2.2.1) (h1 : cells + b0 = nx A) (h2 : slots + c0 = su A)
    (haft : AftOK G p l e R s m args below meth c mi.2.2.1 b0 c0 Q k x) : W p l e R s m args below meth c H locs cells slots Q (F0 m pc ls st0) := by
  have hag := hC.2.2.2.2.2.2.2.2.2.2.2.2.2.2
  intro T hT X
  rcases hr T hT X with ⟨v, st₀, t, T', L9, h0, X', hL, e1, e2, ⟨v9, hv, hv2, hR'⟩, go⟩ | ⟨q, st₀, t, T', L9, E, ce, h0, X', hL, e1, e2, ⟨ci, r, hv, hr9, hE, hR'⟩, hce, hvm, hcl, go⟩
  · have hS' : va_S (geA G) s.heap T'.heap (locs ++ L9) := by
      rw [e1]
      refine ⟨?_, fun q a b => ?_, fun z hz => (List.mem_append.mp hz).elim (hS.2.2 z) (hL z)⟩
      · rw [hR'.2.1]; have := hS.1; rw [hR.2.1] at this; omega
      · have hq : q < geB G := Nat.not_le.mp b
        rw [hR'.2.2.2.1 q hq, hag q hq]
    cases hv2
    unfold AftOK at haft
    rw [hv] at haft
    cases v with
    | none =>
      have w := haft.2 T'.heap (locs ++ L9) ls (cells + (nx x.2 - nx A)) (slots + (su x.2 - su A)) (by rw [e1]; exact hR') hS' hl (by show _ = nx x.2; omega) (by show _ = su x.2; omega)
      rw [hp] at w
      obtain ⟨t2, a1, b1⟩ := w T' rfl X'
      exact ⟨t2, go t2 a1, b1⟩
    | some w9 =>
      have w := haft.2 T'.heap (locs ++ L9) ls (cells + (nx x.2 - nx A)) (slots + (su x.2 - su A)) (by rw [e1]; exact hR') hS' hl (by show _ = nx x.2; omega) (by show _ = su x.2; omega)
      rw [hp] at w
      obtain ⟨t2, a1, b1⟩ := w T' rfl X'
      exact ⟨t2, go t2 a1, b1⟩
  · have hS' : va_S (geA G) s.heap T'.heap (locs ++ L9) := by
      rw [e1]
      refine ⟨?_, fun q a b => ?_, fun z hz => (List.mem_append.mp hz).elim (hS.2.2 z) (hL z)⟩
      · rw [hR'.2.1]; have := hS.1; rw [hR.2.1] at this; omega
      · have hq : q < geB G := Nat.not_le.mp b
        rw [hR'.2.2.2.1 q hq, hag q hq]
    obtain ⟨o9, A9⟩ := x
    dsimp only at hv
    subst hv
    subst hE
    have w := thr_go (b0 := b0) (c0 := c0) (q := q) (rest := k.2.2.2.2.2.1) (ls := ls) (cells := cells + (nx A9 - nx A)) (slots := slots + (su A9 - su A)) hC hH hr9 (H := T'.heap) (by rw [e1]; exact hR') hS' hl (by show _ = nx A9; dsimp only at hle; omega) (by show _ = su A9; dsimp only at hle2; omega) (by rw [e1]; exact hce) hvm hcl haft
    obtain ⟨t2, a1, b1⟩ := w T' rfl X'
    exact ⟨t2, go.trans a1, b1⟩
theorem blindG {G : Ge} {A : Hp} {as : List Value} : FrameBlind (va_Pc as (fun U => GS G U ∧ geB G ≤ U.heap.size ∧ RepH G A U.heap)) := fun a U g mk q => by
  obtain ⟨q0, q1, q2, q3⟩ := q
  exact ⟨q0, GS.moved (State.WarmedH.refl U) q1, q2, q3⟩
theorem preG {G : Ge} {s : State} {H : Heap} {A : Hp} {as : List Value} (hG : GS G s) (hR : RepH G A H) : PreS s H (va_Pc as (fun U => GS G U ∧ geB G ≤ U.heap.size ∧ RepH G A U.heap)) as :=
  ⟨blindG, fun U hU hW => ⟨rfl, hG.moved hW, by rw [hU, hR.2.1]; exact hR.2.2.1, by rw [hU]; exact hR⟩⟩
theorem gck_ok {l : List Value} (h : gck l = true) : (l.map fun v => v.category).sum ≤ 8 := by
  have h0 := cat_sum l
  rcases (Bool.or_eq_true _ _).mp h with h | h
  · have := Nat.le_of_ble_eq_true h; omega
  · obtain ⟨h1, h2⟩ := (Bool.and_eq_true_iff).mp h
    have h1 := Nat.le_of_ble_eq_true h1
    have : ∀ l : List Value, l.all c1 = true → (l.map fun v => v.category).sum ≤ l.length := by
      intro l
      induction l with
      | nil => intro _; exact Nat.le_refl _
      | cons v l ih =>
        intro h
        obtain ⟨a, b⟩ := (Bool.and_eq_true_iff).mp h
        have a' : v.category = 1 := by simpa [c1] using a
        have := ih b
        simp only [List.map_cons, List.sum_cons, List.length_cons]
        omega
    have := this l h2
    omega
/-- a target's call runs, by its contract: the receiver is of class ci (none: there is no receiver, or none is asked) -/
def TgOK (N : Nt) (mi : Mi) (pc n len y : Nat) (ci : Option Nat) (rcv : Bool) : Prop := ∀ (G : Ge) (p : Program) (l : Launch) (e : Env) (R : Room) (s : State) (m : MethodId) (args : Array Value) (below : List Frame) (meth : Method) (c : Code) (d' b : Nat) (A : Hp) (x : Out × Hp) (As rest st : List Value) (H : Heap) (locs : List Loc) (ls : Array Slot) (cells slots : Nat),
  Cx G p l R s m args meth c mi (d' + 1) → CtM l G d' (N y).1 (N y).2 (if rcv = true then .ref b :: As else As) A x → RepH G A H → va_S (geA G) s.heap H locs → (∀ k, ci = some k → gcs A b = some k) → As.length = n → ls.size = mi.2.2.1 → st = As.reverse ++ (if rcv = true then .ref b :: rest else rest) → (rest.map fun v => v.category).sum ≤ 8 → cells + (nx x.2 - nx A) ≤ R.cells ∧ slots + (su x.2 - su A) ≤ R.slots →
  VR len p l e R s m args below meth c H locs cells slots (nx x.2 - nx A) (su x.2 - su A) (F0 m pc ls st) rest (Qr G x (if rcv = true then .ref b :: As else As).toArray) (Xr G x) (geA G)
/-- of the callee: its name, words, number of locals -/
def NmOK (N : Nt) (y : Nat) (ny : MethodName) (cb : ByteArray) (nl : Nat) (rt : Option FieldType) : Prop := N y = (ny, ws_ ny cb nl rt) ∧ nl ≤ 44
def NmOKW (N : Nt) (y : Nat) (ny : MethodName) (cb : ByteArray) (nl : Nat) (rt : Option FieldType) (hh : List (Nat × Nat × Nat × Nat)) : Prop := N y = (ny, wsW_ ny cb nl rt hh) ∧ nl ≤ 44
def PnOK (ny : MethodName) (n : Nat) : Prop := ny.cls ≠ "java/lang/invoke/MethodHandle" ∧ ny.cls ≠ "java/lang/invoke/VarHandle" ∧ (parseMethodDescriptor ny.desc).map (fun d => d.parameters.length) = some n
theorem tg_S {N : Nt} {mi : Mi} {pc index y n : Nat} {ny : MethodName} {cb : ByteArray} {nl : Nat} {rt : Option FieldType} (hN0 : NmOK N y ny cb nl rt) (w1 : Cond.methodLink mi.1 index ny ∈ lw_all) (w2 : Cond.static ny ∈ lw_all) (w3 : Cond.initialized ny.cls ∈ lw_all) (w4 : Cond.code ny cb nl rt ∈ lw_all) (hp : PnOK ny n) (d : decode mi.2.1 pc = .ok (.invokestatic index, 3)) : TgOK N mi pc n 3 y none false := by
  intro G p l e R s m args below meth c d' b A x As rest st H locs ls cells slots hC hM hR hS hc hn hsz hst hre hrm
  obtain ⟨hx, hb, hml, hown, htab, hret, hini, hts, hlk, htr, hd1, hd2, hG, hBs, hag⟩ := hC
  obtain ⟨hN, hnl⟩ := hN0
  rw [hN] at hM
  have hW : 2 * (F0 m pc ls st).monitorRoom + (rest.map fun v => v.category).sum ≤ 8 := by
    have := cat_sum rest
    show 2 * 0 + _ ≤ 8
    omega
  have hroom : (rmD d' (nx x.2 - nx A) (su x.2 - su A)).frames + 1 ≤ R.frames ∧ 8 + (nl + 11) + (rmD d' (nx x.2 - nx A) (su x.2 - su A)).locals ≤ R.locals := rmD_room hd1 hd2 hnl
  exact vx_runS ⟨hx, hb, hml, hown, hts⟩ hM (va_cwS n hts (lw_S w1 w2 w3 w4) rfl rfl rfl hp hroom) (preG hG hR) rfl hn hsz hst hW d hrm
theorem tg_SW {N : Nt} {mi : Mi} {pc index y n : Nat} {ny : MethodName} {cb : ByteArray} {nl : Nat} {rt : Option FieldType} {hh : List (Nat × Nat × Nat × Nat)} (hN0 : NmOKW N y ny cb nl rt hh) (w1 : Cond.methodLink mi.1 index ny ∈ lw_all) (w2 : Cond.static ny ∈ lw_all) (w3 : Cond.initialized ny.cls ∈ lw_all) (w4 : Cond.codeWith ny cb nl rt hh ∈ lw_all) (hp : PnOK ny n) (d : decode mi.2.1 pc = .ok (.invokestatic index, 3)) : TgOK N mi pc n 3 y none false := by
  intro G p l e R s m args below meth c d' b A x As rest st H locs ls cells slots hC hM hR hS hc hn hsz hst hre hrm
  obtain ⟨hx, hb, hml, hown, htab, hret, hini, hts, hlk, htr, hd1, hd2, hG, hBs, hag⟩ := hC
  obtain ⟨hN, hnl⟩ := hN0
  rw [hN] at hM
  have hW : 2 * (F0 m pc ls st).monitorRoom + (rest.map fun v => v.category).sum ≤ 8 := by
    have := cat_sum rest
    show 2 * 0 + _ ≤ 8
    omega
  have hroom : (rmD d' (nx x.2 - nx A) (su x.2 - su A)).frames + 1 ≤ R.frames ∧ 8 + (nl + 11) + (rmD d' (nx x.2 - nx A) (su x.2 - su A)).locals ≤ R.locals := rmD_room hd1 hd2 hnl
  exact vx_runSX ⟨hx, hb, hml, hown, hts⟩ hM (vx_cwSW n hts (lw_SW w1 w2 w3 w4) rfl rfl rfl hp hroom) (preG hG hR) rfl hn hsz hst hW d hrm
theorem tg_SN {N : Nt} {mi : Mi} {pc index y n : Nat} {ny : MethodName} {cb : ByteArray} {nl : Nat} {rt : Option FieldType} {host : String} (hN0 : NmOK N y ny cb nl rt) (w1 : Cond.methodLinkNest mi.1 index ny host ∈ lw_tbl) (w2 : Cond.static ny ∈ lw_all) (w3 : Cond.initialized ny.cls ∈ lw_all) (w4 : Cond.code ny cb nl rt ∈ lw_all) (hp : PnOK ny n) (d : decode mi.2.1 pc = .ok (.invokestatic index, 3)) : TgOK N mi pc n 3 y none false := by
  intro G p l e R s m args below meth c d' b A x As rest st H locs ls cells slots hC hM hR hS hc hn hsz hst hre hrm
  obtain ⟨hx, hb, hml, hown, htab, hret, hini, hts, hlk, htr, hd1, hd2, hG, hBs, hag⟩ := hC
  obtain ⟨hN, hnl⟩ := hN0
  rw [hN] at hM
  have hW : 2 * (F0 m pc ls st).monitorRoom + (rest.map fun v => v.category).sum ≤ 8 := by
    have := cat_sum rest
    show 2 * 0 + _ ≤ 8
    omega
  have hroom : (rmD d' (nx x.2 - nx A) (su x.2 - su A)).frames + 1 ≤ R.frames ∧ 8 + (nl + 11) + (rmD d' (nx x.2 - nx A) (su x.2 - su A)).locals ≤ R.locals := rmD_room hd1 hd2 hnl
  exact vx_runSN ⟨hx, hb, hml, hown, hts⟩ hM ⟨va_cnB n hts (lw_meth w4) rfl rfl rfl (hG.2.2.1 _ _ _ _ w1) (hts _ w3) hp hroom, hts _ w2, trivial⟩ (preG hG hR) rfl hn hsz hst hW d hrm
theorem tg_I {N : Nt} {mi : Mi} {pc index y n : Nat} {ny : MethodName} {cb : ByteArray} {nl : Nat} {rt : Option FieldType} (hN0 : NmOK N y ny cb nl none) (hi9 : ny.name = "<init>") (w1 : Cond.methodLink mi.1 index ny ∈ lw_all) (w2 : Cond.instanceMethod ny ∈ lw_all) (w3 : Cond.initialized ny.cls ∈ lw_all) (w4 : Cond.code ny cb nl none ∈ lw_all) (hp : PnOK ny n) (d : decode mi.2.1 pc = .ok (.invokespecial index, 3)) : TgOK N mi pc n 3 y none true := by
  intro G p l e R s m args below meth c d' b A x As rest st H locs ls cells slots hC hM hR hS hc hn hsz hst hre hrm
  obtain ⟨hx, hb, hml, hown, htab, hret, hini, hts, hlk, htr, hd1, hd2, hG, hBs, hag⟩ := hC
  obtain ⟨hN, hnl⟩ := hN0
  rw [hN] at hM
  have hW : 2 * (F0 m pc ls st).monitorRoom + (rest.map fun v => v.category).sum ≤ 8 := by
    have := cat_sum rest
    show 2 * 0 + _ ≤ 8
    omega
  have hroom : (rmD d' (nx x.2 - nx A) (su x.2 - su A)).frames + 1 ≤ R.frames ∧ 8 + (nl + 11) + (rmD d' (nx x.2 - nx A) (su x.2 - su A)).locals ≤ R.locals := rmD_room hd1 hd2 hnl
  exact vx_runI ⟨hx, hb, hml, hown, hts⟩ hM (cwI n hts (lw_meth w4) rfl rfl rfl (hts _ w3) (hts _ w1) (hts _ w2) hi9 hp hroom) (preG hG hR) rfl hn hsz hst hW d hrm
theorem tg_IN {N : Nt} {mi : Mi} {pc index y n : Nat} {ny : MethodName} {cb : ByteArray} {nl : Nat} {rt : Option FieldType} {host : String} (hN0 : NmOK N y ny cb nl none) (hi9 : ny.name = "<init>") (w1 : Cond.methodLinkNest mi.1 index ny host ∈ lw_tbl) (w2 : Cond.instanceMethod ny ∈ lw_all) (w3 : Cond.initialized ny.cls ∈ lw_all) (w4 : Cond.code ny cb nl none ∈ lw_all) (hp : PnOK ny n) (d : decode mi.2.1 pc = .ok (.invokespecial index, 3)) : TgOK N mi pc n 3 y none true := by
  intro G p l e R s m args below meth c d' b A x As rest st H locs ls cells slots hC hM hR hS hc hn hsz hst hre hrm
  obtain ⟨hx, hb, hml, hown, htab, hret, hini, hts, hlk, htr, hd1, hd2, hG, hBs, hag⟩ := hC
  obtain ⟨hN, hnl⟩ := hN0
  rw [hN] at hM
  have hW : 2 * (F0 m pc ls st).monitorRoom + (rest.map fun v => v.category).sum ≤ 8 := by
    have := cat_sum rest
    show 2 * 0 + _ ≤ 8
    omega
  have hroom : (rmD d' (nx x.2 - nx A) (su x.2 - su A)).frames + 1 ≤ R.frames ∧ 8 + (nl + 11) + (rmD d' (nx x.2 - nx A) (su x.2 - su A)).locals ≤ R.locals := rmD_room hd1 hd2 hnl
  exact vx_runIN ⟨hx, hb, hml, hown, hts⟩ hM ⟨va_cnB n hts (lw_meth w4) rfl rfl rfl (hG.2.2.1 _ _ _ _ w1) (hts _ w3) hp hroom, hi9, hts _ w2⟩ (preG hG hR) rfl hn hsz hst hW d hrm
theorem tg_V {N : Nt} {mi : Mi} {pc index y n : Nat} {ny : MethodName} {cb : ByteArray} {nl : Nat} {rt : Option FieldType} {ci : Nat} {r : vw_C} (hr : CL[ci]? = some r) (hN0 : NmOK N y ny cb nl rt) (hcl : ny.cls = r.1) (w1 : Cond.methodLink mi.1 index ny ∈ lw_all) (w2 : Cond.instanceMethod ny ∈ lw_all) (w3 : Cond.selects r.1 ny ny ∈ lw_all) (w5 : Cond.initialized r.1 ∈ lw_all) (w4 : Cond.code ny cb nl rt ∈ lw_all) (hp : PnOK ny n) (d : decode mi.2.1 pc = .ok (.invokevirtual index, 3)) : TgOK N mi pc n 3 y (some ci) true := by
  intro G p l e R s m args below meth c d' b A x As rest st H locs ls cells slots hC hM hR hS hc hn hsz hst hre hrm
  obtain ⟨hx, hb, hml, hown, htab, hret, hini, hts, hlk, htr, hd1, hd2, hG, hBs, hag⟩ := hC
  obtain ⟨hN, hnl⟩ := hN0
  rw [hN] at hM
  have hW : 2 * (F0 m pc ls st).monitorRoom + (rest.map fun v => v.category).sum ≤ 8 := by
    have := cat_sum rest
    show 2 * 0 + _ ≤ 8
    omega
  have hroom : (rmD d' (nx x.2 - nx A) (su x.2 - su A)).frames + 1 ≤ R.frames ∧ 8 + (nl + 11) + (rmD d' (nx x.2 - nx A) (su x.2 - su A)).locals ≤ R.locals := rmD_room hd1 hd2 hnl
  obtain ⟨r9, cell, e0, e1, e2, e3, e4⟩ := rep_cl hR hG hS hag (hc _ rfl)
  have e9 : r9 = r := Option.some.inj (e0.symm.trans hr)
  subst e9
  exact vx_runV ⟨hx, hb, hml, hown, hts⟩ hM (cwV n hts (lw_V w1 w2 w3 w5 w4) rfl rfl rfl ⟨hcl, hp⟩ hroom) ⟨(preG hG hR).1, ⟨cell, e1, e2, e3⟩, (preG hG hR).2⟩ rfl hn hsz hst hW d hrm
theorem tg_VW {N : Nt} {mi : Mi} {pc index y n : Nat} {ny : MethodName} {cb : ByteArray} {nl : Nat} {rt : Option FieldType} {hh : List (Nat × Nat × Nat × Nat)} {ci : Nat} {r : vw_C} (hr : CL[ci]? = some r) (hN0 : NmOKW N y ny cb nl rt hh) (hcl : ny.cls = r.1) (w1 : Cond.methodLink mi.1 index ny ∈ lw_all) (w2 : Cond.instanceMethod ny ∈ lw_all) (w3 : Cond.selects r.1 ny ny ∈ lw_all) (w5 : Cond.initialized r.1 ∈ lw_all) (w4 : Cond.codeWith ny cb nl rt hh ∈ lw_all) (hp : PnOK ny n) (d : decode mi.2.1 pc = .ok (.invokevirtual index, 3)) : TgOK N mi pc n 3 y (some ci) true := by
  intro G p l e R s m args below meth c d' b A x As rest st H locs ls cells slots hC hM hR hS hc hn hsz hst hre hrm
  obtain ⟨hx, hb, hml, hown, htab, hret, hini, hts, hlk, htr, hd1, hd2, hG, hBs, hag⟩ := hC
  obtain ⟨hN, hnl⟩ := hN0
  rw [hN] at hM
  have hW : 2 * (F0 m pc ls st).monitorRoom + (rest.map fun v => v.category).sum ≤ 8 := by
    have := cat_sum rest
    show 2 * 0 + _ ≤ 8
    omega
  have hroom : (rmD d' (nx x.2 - nx A) (su x.2 - su A)).frames + 1 ≤ R.frames ∧ 8 + (nl + 11) + (rmD d' (nx x.2 - nx A) (su x.2 - su A)).locals ≤ R.locals := rmD_room hd1 hd2 hnl
  obtain ⟨r9, cell, e0, e1, e2, e3, e4⟩ := rep_cl hR hG hS hag (hc _ rfl)
  have e9 : r9 = r := Option.some.inj (e0.symm.trans hr)
  subst e9
  exact vx_runVX ⟨hx, hb, hml, hown, hts⟩ hM (vx_cwVW n hts (lw_VW w1 w2 w3 w5 w4) rfl rfl rfl ⟨hcl, hp⟩ hroom) ⟨(preG hG hR).1, ⟨cell, e1, e2, e3⟩, (preG hG hR).2⟩ rfl hn hsz hst hW d hrm
theorem tg_U {N : Nt} {mi : Mi} {pc index y n : Nat} {ny : MethodName} {cb : ByteArray} {nl : Nat} {rt : Option FieldType} {ci : Nat} {r : vw_C} (hr : CL[ci]? = some r) {owner : String} {x0 : MethodName} (hN0 : NmOK N y ny cb nl rt) (w1 : Cond.methodLink mi.1 index x0 ∈ lw_all) (w2 : Cond.sameMethod x0.cls owner x0.name x0.desc ∈ lw_all) (w3 : Cond.selects r.1 x0 ny ∈ lw_all) (w5 : Cond.instanceMethod ny ∈ lw_all) (w6 : Cond.initialized ny.cls ∈ lw_all) (w4 : Cond.code ny cb nl rt ∈ lw_all) (hp : owner ≠ "java/lang/invoke/MethodHandle" ∧ owner ≠ "java/lang/invoke/VarHandle" ∧ (parseMethodDescriptor x0.desc).map (fun d => d.parameters.length) = some n) (hyx : ny = ⟨owner, x0.name, x0.desc⟩) (d : decode mi.2.1 pc = .ok (.invokevirtual index, 3)) : TgOK N mi pc n 3 y (some ci) true := by
  intro G p l e R s m args below meth c d' b A x As rest st H locs ls cells slots hC hM hR hS hc hn hsz hst hre hrm
  obtain ⟨hx, hb, hml, hown, htab, hret, hini, hts, hlk, htr, hd1, hd2, hG, hBs, hag⟩ := hC
  obtain ⟨hN, hnl⟩ := hN0
  rw [hN] at hM
  have hW : 2 * (F0 m pc ls st).monitorRoom + (rest.map fun v => v.category).sum ≤ 8 := by
    have := cat_sum rest
    show 2 * 0 + _ ≤ 8
    omega
  have hroom : (rmD d' (nx x.2 - nx A) (su x.2 - su A)).frames + 1 ≤ R.frames ∧ 8 + (nl + 11) + (rmD d' (nx x.2 - nx A) (su x.2 - su A)).locals ≤ R.locals := rmD_room hd1 hd2 hnl
  obtain ⟨r9, cell, e0, e1, e2, e3, e4⟩ := rep_cl hR hG hS hag (hc _ rfl)
  have e9 : r9 = r := Option.some.inj (e0.symm.trans hr)
  subst e9
  exact vx_runU ⟨hx, hb, hml, hown, hts⟩ hM (va_cwU n hts (lw_app (fun w hw => by simp only [List.mem_cons, List.not_mem_nil, or_false] at hw; rcases hw with rfl | rfl | rfl | rfl | rfl <;> assumption) (lw_meth w4)) rfl rfl rfl hyx hp hroom) ⟨(preG hG hR).1, ⟨cell, e1, e2, e3⟩, (preG hG hR).2⟩ rfl hn hsz hst hW d hrm
theorem tg_A {N : Nt} {mi : Mi} {pc index y n : Nat} {ny : MethodName} {cb : ByteArray} {nl : Nat} {rt : Option FieldType} {ci : Nat} {r : vw_C} (hr : CL[ci]? = some r) {owner : String} {x0 : MethodName} (hN0 : NmOK N y ny cb nl rt) (w1 : Cond.methodLink mi.1 index x0 ∈ lw_all) (w2 : Cond.sameMethod x0.cls owner x0.name x0.desc ∈ lw_all) (w3 : Cond.selects r.1 x0 ny ∈ lw_all) (w5 : Cond.instanceMethod ny ∈ lw_all) (w6 : Cond.initialized ny.cls ∈ lw_all) (w4 : Cond.code ny cb nl rt ∈ lw_all) (hp : owner ≠ "java/lang/invoke/MethodHandle" ∧ owner ≠ "java/lang/invoke/VarHandle" ∧ (parseMethodDescriptor x0.desc).map (fun d => d.parameters.length) = some n) (hz : Cond.declares ⟨owner, x0.name, x0.desc⟩ ∈ lw_tbl) (d : decode mi.2.1 pc = .ok (.invokevirtual index, 3)) : TgOK N mi pc n 3 y (some ci) true := by
  intro G p l e R s m args below meth c d' b A x As rest st H locs ls cells slots hC hM hR hS hc hn hsz hst hre hrm
  obtain ⟨hx, hb, hml, hown, htab, hret, hini, hts, hlk, htr, hd1, hd2, hG, hBs, hag⟩ := hC
  obtain ⟨hN, hnl⟩ := hN0
  rw [hN] at hM
  have hW : 2 * (F0 m pc ls st).monitorRoom + (rest.map fun v => v.category).sum ≤ 8 := by
    have := cat_sum rest
    show 2 * 0 + _ ≤ 8
    omega
  have hroom : (rmD d' (nx x.2 - nx A) (su x.2 - su A)).frames + 1 ≤ R.frames ∧ 8 + (nl + 11) + (rmD d' (nx x.2 - nx A) (su x.2 - su A)).locals ≤ R.locals := rmD_room hd1 hd2 hnl
  obtain ⟨r9, cell, e0, e1, e2, e3, e4⟩ := rep_cl hR hG hS hag (hc _ rfl)
  have e9 : r9 = r := Option.some.inj (e0.symm.trans hr)
  subst e9
  exact vx_runU ⟨hx, hb, hml, hown, hts⟩ hM (va_cwA n hts (lw_app (fun w hw => by simp only [List.mem_cons, List.not_mem_nil, or_false] at hw; rcases hw with rfl | rfl | rfl | rfl | rfl <;> assumption) (lw_meth w4)) rfl rfl rfl (hG.2.2.2.2.2.1 _ hz) hp hroom) ⟨(preG hG hR).1, ⟨cell, e1, e2, e3⟩, (preG hG hR).2⟩ rfl hn hsz hst hW d hrm
theorem tg_F {N : Nt} {mi : Mi} {pc index y n : Nat} {ny : MethodName} {cb : ByteArray} {nl : Nat} {rt : Option FieldType} {ci : Nat} {r : vw_C} (hr : CL[ci]? = some r) {x0 : MethodName} {count : Nat} (hN0 : NmOK N y ny cb nl rt) (w1 : Cond.methodLink mi.1 index x0 ∈ lw_all) (w3 : Cond.selects r.1 x0 ny ∈ lw_all) (w5 : Cond.instanceMethod ny ∈ lw_all) (w6 : Cond.initialized ny.cls ∈ lw_all) (w4 : Cond.code ny cb nl rt ∈ lw_all) (f1 : Cond.declares x0 ∈ lw_tbl) (f2 : Cond.interfaceMethod x0.cls x0.cls x0.name x0.desc ∈ lw_tbl) (f3 : Cond.publicMethod ny ∈ lw_tbl) (f4 : Cond.unhidden r.1 x0.name x0.desc ∈ lw_tbl) (f5 : Cond.castable r.1 x0.cls ∈ lw_tbl) (hp : PnOK x0 n) (d : decode mi.2.1 pc = .ok (.invokeinterface index count, 5)) : TgOK N mi pc n 5 y (some ci) true := by
  intro G p l e R s m args below meth c d' b A x As rest st H locs ls cells slots hC hM hR hS hc hn hsz hst hre hrm
  obtain ⟨hx, hb, hml, hown, htab, hret, hini, hts, hlk, htr, hd1, hd2, hG, hBs, hag⟩ := hC
  obtain ⟨hN, hnl⟩ := hN0
  rw [hN] at hM
  have hW : 2 * (F0 m pc ls st).monitorRoom + (rest.map fun v => v.category).sum ≤ 8 := by
    have := cat_sum rest
    show 2 * 0 + _ ≤ 8
    omega
  have hroom : (rmD d' (nx x.2 - nx A) (su x.2 - su A)).frames + 1 ≤ R.frames ∧ 8 + (nl + 11) + (rmD d' (nx x.2 - nx A) (su x.2 - su A)).locals ≤ R.locals := rmD_room hd1 hd2 hnl
  obtain ⟨r9, cell, e0, e1, e2, e3, e4⟩ := rep_cl hR hG hS hag (hc _ rfl)
  have e9 : r9 = r := Option.some.inj (e0.symm.trans hr)
  subst e9
  exact vx_runF e4 ⟨hx, hb, hml, hown, hts⟩ hM (va_cwF n hts (lw_app (fun w hw => by simp only [List.mem_cons, List.not_mem_nil, or_false] at hw; rcases hw with rfl | rfl | rfl | rfl <;> assumption) (lw_meth w4)) rfl rfl rfl (hG.2.2.2.2.2.2.1 _ _ _ ⟨hp.1, hp.2.1⟩ f1 f2 f3 f4 f5) hp hroom) ⟨(preG hG hR).1, ⟨cell, e1, e2, e3⟩, (preG hG hR).2⟩ rfl hn hsz hst hW d hrm
theorem callR_some {y : Nat} {as : List Value} {vd : Bool} {pc : Nat} {L : Lc} {rest : List Value} {hd : Option (List (Nat × Nat))} {A : Hp} {r : Cf ⊕ ((Out × Hp) ⊕ Cl)} (h : callR y as vd pc L rest hd A = some r) : (rest.map fun v => v.category).sum ≤ 8 ∧ r = .inr (.inr (y, (as, (vd, (pc, (L, (rest, (hd, A)))))))) := by
  obtain ⟨a, b⟩ := gd_some h
  exact ⟨gck_ok a, (Option.some.inj b).symm⟩
theorem ok_cs {N : Nt} {mi : Mi} {pc y n : Nat} {vd : Bool} {hd : Option (List (Nat × Nat))} (ht : TgOK N mi pc n 3 y none false) (hH : HdOK mi pc hd) : OpOK N mi pc (o_cs y n vd hd) := by
  intro G p l e R s m args below meth c b0 c0 d0 Q hC L st A r hr hP
  unfold o_cs at hr
  obtain ⟨hlen, hr⟩ := gd_some hr
  obtain ⟨hre, rfl⟩ := callR_some hr
  obtain ⟨x, d', rfl, hM, hrm, hle, hle2, haft⟩ := hP
  have hlen := Nat.le_of_ble_eq_true hlen
  have hml := hC.2.2.1
  intro H locs ls cells slots hR hS hl h1 h2
  have h1 : cells + b0 = nx A := h1
  have h2 : slots + c0 = su A := h2
  have hle : nx A ≤ nx x.2 := hle
  have hle2 : su A ≤ su x.2 := hle2
  have q1 := hrm.1
  have q2 := hrm.2
  refine call_go hC hH rfl rfl hle hle2 (ht G p l e R s m args below meth c d' 0 A x (st.take n).reverse (st.drop n) st H locs ls cells slots hC hM hR hS (fun k h => by cases h) (by rw [List.length_reverse, List.length_take]; omega) hl.2.1 ?_ hre ⟨by omega, by omega⟩) hR hS hl h1 h2 haft
  rw [List.reverse_reverse]
  exact (List.take_append_drop n st).symm
theorem rcv_st {st : List Value} {n p : Nat} {r : List Value} (h : st.drop n = .ref p :: r) : st = ((st.take n).reverse).reverse ++ .ref p :: r ∧ ((st.take n).reverse).length = n := by
  rw [List.reverse_reverse, ← h]
  refine ⟨(List.take_append_drop n st).symm, ?_⟩
  have := congrArg List.length h
  rw [List.length_drop, List.length_cons] at this
  rw [List.length_reverse, List.length_take]
  omega
theorem ok_ci {N : Nt} {mi : Mi} {pc y n : Nat} (ht : TgOK N mi pc n 3 y none true) (hH : HdOK mi pc none) : OpOK N mi pc (o_ci y n) := by
  intro G p l e R s m args below meth c b0 c0 d0 Q hC L st A r hr hP
  unfold o_ci at hr
  split at hr
  · next q rest hst =>
    obtain ⟨hre, rfl⟩ := callR_some hr
    obtain ⟨x, d', rfl, hM, hrm, hle, hle2, haft⟩ := hP
    obtain ⟨g1, g2⟩ := rcv_st hst
    intro H locs ls cells slots hR hS hl h1 h2
    have h1 : cells + b0 = nx A := h1
    have h2 : slots + c0 = su A := h2
    have hle : nx A ≤ nx x.2 := hle
    have hle2 : su A ≤ su x.2 := hle2
    have q1 := hrm.1
    have q2 := hrm.2
    exact call_go hC hH rfl rfl hle hle2 (ht G p l e R s m args below meth c d' q A x (st.take n).reverse rest st H locs ls cells slots hC hM hR hS (fun k h => by cases h) g2 hl.2.1 g1 hre ⟨by omega, by omega⟩) hR hS hl h1 h2 haft
  · cases hr
theorem sel_spec {c : Option Nat} {tg : List (Nat × Nat)} {y : Nat} (h : sel c tg = some y) : ∃ ci, c = some ci ∧ (ci, y) ∈ tg := by
  obtain ⟨ci, h1, h2⟩ := Option.bind_eq_some_iff.mp h
  exact ⟨ci, h1, lkn_mem h2⟩
theorem ok_cv {N : Nt} {mi : Mi} {pc n len : Nat} {tg : List (Nat × Nat)} {vd : Bool} {hd : Option (List (Nat × Nat))} (ht : ∀ q ∈ tg, TgOK N mi pc n len q.2 (some q.1) true) (hH : HdOK mi pc hd) : OpOK N mi pc (o_cv tg n len vd hd) := by
  intro G p l e R s m args below meth c b0 c0 d0 Q hC L st A r hr hP
  unfold o_cv at hr
  split at hr
  · next q rest hst =>
    obtain ⟨y, hy, hr⟩ := Option.bind_eq_some_iff.mp hr
    obtain ⟨ci, hci, hm⟩ := sel_spec hy
    obtain ⟨hre, rfl⟩ := callR_some hr
    obtain ⟨x, d', rfl, hM, hrm, hle, hle2, haft⟩ := hP
    obtain ⟨g1, g2⟩ := rcv_st hst
    intro H locs ls cells slots hR hS hl h1 h2
    have h1 : cells + b0 = nx A := h1
    have h2 : slots + c0 = su A := h2
    have hle : nx A ≤ nx x.2 := hle
    have hle2 : su A ≤ su x.2 := hle2
    have q1 := hrm.1
    have q2 := hrm.2
    exact call_go hC hH rfl rfl hle hle2 (ht _ hm G p l e R s m args below meth c d' q A x (st.take n).reverse rest st H locs ls cells slots hC hM hR hS (fun k h => by cases h; show (gc A q).or _ = _; rw [hci]; rfl) g2 hl.2.1 g1 hre ⟨by omega, by omega⟩) hR hS hl h1 h2 haft
  · cases hr
theorem ok_cvs {N : Nt} {mi : Mi} {pc n len : Nat} {tg : List (Nat × Nat)} {vd : Bool} (ht : ∀ q ∈ tg, TgOK N mi pc n len q.2 (some q.1) true) (hH : HdOK mi pc none) : OpOK N mi pc (o_cvs tg n len vd) := by
  intro G p l e R s m args below meth c b0 c0 d0 Q hC L st A r hr hP
  unfold o_cvs at hr
  split at hr
  · next q rest hst =>
    obtain ⟨y, hy, hr⟩ := Option.bind_eq_some_iff.mp hr
    obtain ⟨ci, hci, hm⟩ := sel_spec hy
    obtain ⟨hre, rfl⟩ := callR_some hr
    obtain ⟨x, d', rfl, hM, hrm, hle, hle2, haft⟩ := hP
    obtain ⟨g1, g2⟩ := rcv_st hst
    intro H locs ls cells slots hR hS hl h1 h2
    have h1 : cells + b0 = nx A := h1
    have h2 : slots + c0 = su A := h2
    have hle : nx A ≤ nx x.2 := hle
    have hle2 : su A ≤ su x.2 := hle2
    have q1 := hrm.1
    have q2 := hrm.2
    exact call_go hC hH rfl rfl hle hle2 (ht _ hm G p l e R s m args below meth c d' q A x (st.take n).reverse rest st H locs ls cells slots hC hM hR hS (fun k h => by cases h; exact hci) g2 hl.2.1 g1 hre ⟨by omega, by omega⟩) hR hS hl h1 h2 haft
  · cases hr
