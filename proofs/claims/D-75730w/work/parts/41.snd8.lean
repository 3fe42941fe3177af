/-! soundness: default methods of interfaces, super's methods -/
section
variable {p : Program} {l : Launch} {e : Env} {R : Room} {s : State} {m : MethodId} {args : Array Value} {below : List Frame} {meth : Method} {c : Code} {H : Heap} {locs : List Loc} {cells slots : Nat} {Q : State → Prop}
theorem vx_callID {T : State} (X : Stand p l e R s m args below meth c T locs cells slots) (hexec : p.tables.exec = Jvm.exec) {own C : String} {index count : Nat} {x y : MethodName} {bytes : ByteArray} {maxL : Nat} {ret : Option FieldType}
    (hown : s.vm.findClass own = some m.cls) (hlink : (Cond.methodLink own index x).before args s = true) (hdecl : (Cond.declares x).before args s = true) (hface : (Cond.interfaceMethod x.cls x.cls x.name x.desc).before args s = true)
    (hsel : (Cond.landsInDefault C x y).before args s = true) (hinst : (Cond.instanceMethod y).before args s = true) (hpub : (Cond.publicMethod y).before args s = true) 
    (hcast : (Cond.castable C x.cls).before args s = true) (hcode : (Cond.code y bytes maxL ret).before args s = true) (hx : x.cls ≠ "java/lang/invoke/MethodHandle" ∧ x.cls ≠ "java/lang/invoke/VarHandle")
    {W9 : Nat} {Pre : Pt → Array Value → Prop} {Post : Pt → Array Value → Option Value → Pt → Prop} {PostX : Pt → Array Value → Addr → Pt → Prop} (hK : vx_Back l R p e below s args y 5 W9 Pre Post PostX)
    {b : Addr} {cellB : Cell} {kB : Class} (hcell : T.heap[b]? = some cellB) (hobj : cellB.vm.isStatics = false) (hcls : s.vm.findClass C = some cellB.cls) (hkB : s.vm.classes[cellB.cls]? = some kB)
    {g : JFrame} (hg : g.method = m) (hsize : g.locals.size = c.maxLocals) {argsL rest : List Value} (hlen : ∀ sig, parseMethodDescriptor x.desc = some sig → argsL.length = sig.parameters.length)
    (hstack : g.stack = argsL.reverse ++ .ref b :: rest) (hW : 2 * g.monitorRoom + (rest.map fun v => v.category).sum ≤ W9) (hdg : decode c.code g.pc = .ok (.invokeinterface index count, 5))
    (hpre : ∀ vm₁, s.WarmedH vm₁ → Pre ⟨T.setVm vm₁, locs, cells, slots⟩ (Value.ref b :: argsL).toArray) :
    (∃ (v : Option Value) (vm₁ : Vm) (B : Pt), s.WarmedH vm₁ ∧ Stand p l e R s m args below meth c B.U B.locs B.cells B.slots ∧ Post ⟨T.setVm vm₁, locs, cells, slots⟩ (Value.ref b :: argsL).toArray v B ∧
      ∀ target, Steps p.tables e below (B.U.setTop { g with pc := g.pc + 5, stack := v.toList ++ rest }) target → Steps p.tables e below (T.setTop g) target) ∨
    (∃ (q : Addr) (vm₁ : Vm) (B : Pt), s.WarmedH vm₁ ∧ Stand p l e R s m args below meth c B.U B.locs B.cells B.slots ∧ PostX ⟨T.setVm vm₁, locs, cells, slots⟩ (Value.ref b :: argsL).toArray q B ∧
      Steps p.tables e below (T.setTop g) ((B.U.setTop { g with stack := rest }).pushFrame (.throwing q))) := by
  obtain ⟨r0, r, hn, hrm, hstR, hsigR⟩ := Cond.declares_spec hdecl
  obtain ⟨cL, kL, r1, hcL, hkL, hiL, hfoundL, hn1⟩ := Cond.interfaceMethod_spec hface
  cases hn.symm.trans hn1
  have hr0cls : r0.cls = cL := Option.some.inj ((findClass_of_methodNamed hn).symm.trans hcL)
  obtain ⟨mk, methM, hnamed, hmethM, -, habM⟩ := Cond.instanceMethod_spec hinst
  obtain ⟨c2, r2, m2, rm, q1, q2, q3, q5, q4, -, q6, -⟩ := Cond.landsInDefault_spec hsel
  cases hcls.symm.trans q1
  cases hfoundL.symm.trans q2
  cases hnamed.symm.trans q3
  cases hrm.symm.trans q5
  have hselP : selectMethod e.platform s.vm cellB.cls r0 = .method mk := by rw [Launch.admits_selectMethod X.admits]; exact q4
  have hpubM : hasFlag methM.accessFlags Acc.public_ = true := Cond.publicMethod_spec hnamed hmethM hpub
  have hway : ((cellB.cls :: s.vm.superclasses cellB.cls).any fun k => (declaredIn s.vm r.name r.desc k).any fun (_, z) => z.isPrivate || z.isStatic) = false := q6
  obtain ⟨c3, t3, w1, w2, w3⟩ := Cond.castable_spec hcast
  cases hcls.symm.trans w1
  cases hcL.symm.trans w2
  obtain ⟨vm₁, X₁, hstep₁⟩ := X.invokeinterface hexec hown hlink hn hrm hstR (by rw [hr0cls]; exact hkL) hiL hx (a := b) (cell := cellB) (kcell := kB) hcell
    (fun z h => by rw [h] at hobj; cases hobj) hkB (by rw [hr0cls]; exact w3) hselP hmethM hway hpubM habM (g := g) hg (argsL := argsL) (rest := rest) (hlen _ hsigR) hstack hdg
  rcases hK m meth c ⟨T.setVm vm₁, locs, cells, slots⟩ { g with stack := rest } (.invokeinterface index count) mk (Value.ref b :: argsL).toArray X₁ hg hsize hdg hW (X₁.named hnamed) (hpre vm₁ X₁.warmed) with ⟨v, B, X', hpost, hsteps⟩ | ⟨q, B, X', hpost, hsteps⟩
  · exact Or.inl ⟨v, vm₁, B, X₁.warmed, X', hpost, fun target h => hstep₁ _ fun acts => by rw [doInvoke_state]; exact hsteps.trans h⟩
  · exact Or.inr ⟨q, vm₁, B, X₁.warmed, X', hpost, hstep₁ _ fun acts => by rw [doInvoke_state]; exact hsteps⟩
theorem vx_runD {x y : MethodName} {bytes cc : ByteArray} {maxL nL mc ms n index count : Nat} {ret : Option FieldType} {ws : List Cond} {rm : Room} {Pc : Array Value → State → Prop} {Qc : Array Value → State → Outcome → State → Prop} {XC : String → Nat → State → State → Prop} {free : Addr → Prop} {Ts : List Cond} {own C : String} {cC : ClassId} {b : Addr} {As rest : List Value} {g : JFrame}
    (hat : ClassAt s C cC) (S : CallFix p m c cc nL s args Ts own) (hM : vx_Met l y ws rm Pc Qc XC mc ms free) (cw : rm.cells = mc ∧ rm.slots = ms ∧ rm.frames + 1 ≤ R.frames ∧ 8 + (maxL + 11) + rm.locals ≤ R.locals ∧ (∀ w ∈ ws, ∀ (a' : Array Value) (U : State), s.WarmedH U.vm → w.before a' U = true) ∧ Cond.code y bytes maxL ret ∈ ws) (k1 : (Cond.methodLink own index x).before args s = true) (k2 : (Cond.declares x).before args s = true) (k3 : (Cond.interfaceMethod x.cls x.cls x.name x.desc).before args s = true) (k4 : (Cond.landsInDefault C x y).before args s = true) (k5 : (Cond.instanceMethod y).before args s = true) (k6 : (Cond.publicMethod y).before args s = true) (k7 : (Cond.castable C x.cls).before args s = true) (k8 : (Cond.initialized y.cls).before args s = true) (k9 : (Cond.code y bytes maxL ret).before args s = true) (kx : x.cls ≠ "java/lang/invoke/MethodHandle" ∧ x.cls ≠ "java/lang/invoke/VarHandle") (kl : ∀ sig, parseMethodDescriptor x.desc = some sig → n = sig.parameters.length) (hp : PreV s H C b Pc As)
    (hg : g.method = m) (hn : As.length = n) (hsize : g.locals.size = nL) (hstack : g.stack = As.reverse ++ .ref b :: rest) (hW : 2 * g.monitorRoom + (rest.map fun v => v.category).sum ≤ 8) (hdg : decode cc g.pc = .ok (.invokeinterface index count, 5)) (hf : cells + mc ≤ R.cells ∧ slots + ms ≤ R.slots) :
    vx_Run5 p l e R s m args below meth c H locs cells slots mc ms g rest (Qc (Value.ref b :: As).toArray) XC free := by
  obtain ⟨hrc, hrs, hfr, hlo, hws, hcw⟩ := cw
  have hini := k8
  have hK : vx_Back l R p e below s args y 5 8 (PreOf R mc ms Pc) (PostOf Qc mc ms free) (vx_Post XC mc ms free) := vx_back (bytes := bytes) (maxL := maxL) (ret := ret) hM hp.1 hrc hrs hfr hlo hws hcw (fun a' U hW => word_at hW (Or.inl (by first | rfl | simp [Cond.onTables, Cond.keeps, Cond.steady])) hini)
  obtain ⟨hx, hb, hml, ho, -⟩ := S
  obtain ⟨-, ⟨cellB, hcB, hoB, hclB⟩, hPc⟩ := hp
  obtain ⟨hfc, kB, hkB, -⟩ := hat
  cases hfc.symm.trans hclB
  intro T hT X
  rcases vx_callID X hx (C := C) (bytes := bytes) (maxL := maxL) (ret := ret) ho k1 k2 k3 k4 k5 k6 k7 k9 kx hK (by rw [hT]; exact hcB) hoB hclB hkB hg (hsize.trans hml.symm) (argsL := As) (rest := rest) (fun sig h => hn.trans (kl sig h)) hstack hW (by rw [hb]; exact hdg)
    (fun vm₁ hW₁ => ⟨hf.1, hf.2, hPc (T.setVm vm₁) hT hW₁⟩) with ⟨v, vm₁, ⟨U', l2, c2, s2⟩, hW₁, X', ⟨g', mk, t, L, e1, e2, hq, h1, hL, h2, h3⟩, st⟩ | ⟨q, vm₁, ⟨U', l2, c2, s2⟩, hW₁, X', ⟨g', mk, t, L, E, ce, e1, e2, hq, hce, hcv, hcl, h1, hL, h2, h3⟩, st⟩
  · dsimp only [Pt.U, Pt.locs, Pt.cells, Pt.slots] at X' e1 e2 h1 h2 h3 st
    subst h1; subst h2; subst h3
    exact Or.inl ⟨v, (T.setVm vm₁).calling g' mk (Value.ref b :: As).toArray, t, U', L, hT, X', hL, e1, e2, hq, st⟩
  · dsimp only [Pt.U, Pt.locs, Pt.cells, Pt.slots] at X' e1 e2 h1 h2 h3 st hcl
    subst h1; subst h2; subst h3
    exact Or.inr ⟨q, (T.setVm vm₁).calling g' mk (Value.ref b :: As).toArray, t, U', L, E, ce, hT, X', hL, e1, e2, hq, hce, hcv, vx_cls hW₁ hcl, st⟩
end
theorem tg_D {N : Nt} {mi : Mi} {pc index y n : Nat} {ny : MethodName} {cb : ByteArray} {nl : Nat} {rt : Option FieldType} {ci : Nat} {r : vw_C} (hr : CL[ci]? = some r) {x0 : MethodName} {count : Nat} (hN0 : NmOK N y ny cb nl rt) (w1 : Cond.methodLink mi.1 index x0 ∈ lw_all) (w3 : (r.1, x0) ∈ DFL) (hyx : ny = x0) (w5 : Cond.instanceMethod ny ∈ lw_all) (w6 : Cond.initialized ny.cls ∈ lw_all) (w4 : Cond.code ny cb nl rt ∈ lw_all) (f1 : Cond.declares x0 ∈ lw_tbl) (f2 : Cond.interfaceMethod x0.cls x0.cls x0.name x0.desc ∈ lw_tbl) (f3 : Cond.publicMethod ny ∈ lw_tbl) (f4 : Cond.unhidden r.1 x0.name x0.desc ∈ lw_tbl) (f5 : Cond.castable r.1 x0.cls ∈ lw_tbl) (hp : PnOK x0 n) (d : decode mi.2.1 pc = .ok (.invokeinterface index count, 5)) : TgOK N mi pc n 5 y (some ci) true := by
  intro G p l e R s m args below meth c d' b A x As rest st H locs ls cells slots hC hM hR hS hc hn hsz hst hre hrm
  obtain ⟨hx, hb, hml, hown, htab, hret, hini, hts, hlk, htr, hd1, hd2, hG, hBs, hag⟩ := hC
  obtain ⟨hN, hnl⟩ := hN0
  rw [hN] at hM
  have hW : 2 * (F0 m pc ls st).monitorRoom + (rest.map fun v => v.category).sum ≤ 8 := by
    have := cat_sum rest
    show 2 * 0 + _ ≤ 8
    omega
  have hroom : (rmD d' (nx x.2 - nx A) (su x.2 - su A)).frames + 1 ≤ R.frames ∧ 8 + (nl + 11) + (rmD d' (nx x.2 - nx A) (su x.2 - su A)).locals ≤ R.locals := rmD_room hd1 hd2 hnl
  obtain ⟨r9, cell, e0, e1, e2, e3, e4⟩ := rep_cl hR hG hS hag (hc _ rfl)
  have e9 : r9 = r := Option.some.inj (e0.symm.trans hr)
  subst e9
  subst hyx
  have hws : ∀ w ∈ ws_ ny cb nl rt, ∀ (a' : Array Value) (U : State), s.WarmedH U.vm → w.before a' U = true := pay_in hts (lw_meth w4)
  have hF : va_Fw r9.1 ny ny s := hG.2.2.2.2.2.2.1 _ _ _ ⟨hp.1, hp.2.1⟩ f1 f2 f3 f4 f5
  refine vx_runD e4 ⟨hx, hb, hml, hown, hts⟩ hM ⟨rfl, rfl, hroom.1, hroom.2, hws, List.mem_cons_self⟩ (hts _ w1) (va_any rfl hF.1) (va_any rfl hF.2.1) (lid_mv (s := s) (U := s) (Vm.Alike.refl _) (g_lid hG _ w3)) (hts _ w5) (va_any rfl hF.2.2.1) (va_any rfl hF.2.2.2.2) (hts _ w6) (hts _ w4) ⟨hp.1, hp.2.1⟩ (fun sig h => ?_) ⟨(preG hG hR).1, ⟨cell, e1, e2, e3⟩, (preG hG hR).2⟩ rfl hn hsz hst hW d hrm
  have h2 := hp.2.2
  rw [h] at h2
  exact (Option.some.inj h2).symm
theorem tg_SU {N : Nt} {mi : Mi} {pc index y n : Nat} {ny : MethodName} {cb : ByteArray} {nl : Nat} {rt : Option FieldType} {ci : Nat} {r : vw_C} (hr : CL[ci]? = some r) (hN0 : NmOK N y ny cb nl rt) (w1 : Cond.methodLink mi.1 index ny ∈ lw_all) (w2 : Cond.sameMethod ny.cls ny.cls ny.name ny.desc ∈ lw_all) (w3 : Cond.superclass mi.1 ny.cls ∈ lw_all) (w5 : Cond.instanceMethod ny ∈ lw_all) (w6 : Cond.initialized ny.cls ∈ lw_all) (w4 : Cond.code ny cb nl rt ∈ lw_all) (hp : ny.name ≠ "<init>" ∧ (parseMethodDescriptor ny.desc).map (fun d => d.parameters.length) = some n) (d : decode mi.2.1 pc = .ok (.invokespecial index, 3)) : TgOK N mi pc n 3 y (some ci) true := by
  intro G p l e R s m args below meth c d' b A x As rest st H locs ls cells slots hC hM hR hS hc hn hsz hst hre hrm
  obtain ⟨hx, hb, hml, hown, htab, hret, hini, hts, hlk, htr, hd1, hd2, hG, hBs, hag⟩ := hC
  obtain ⟨hN, hnl⟩ := hN0
  rw [hN] at hM
  have hW : 2 * (F0 m pc ls st).monitorRoom + (rest.map fun v => v.category).sum ≤ 8 := by
    have := cat_sum rest
    show 2 * 0 + _ ≤ 8
    omega
  have hroom : (rmD d' (nx x.2 - nx A) (su x.2 - su A)).frames + 1 ≤ R.frames ∧ 8 + (nl + 11) + (rmD d' (nx x.2 - nx A) (su x.2 - su A)).locals ≤ R.locals := rmD_room hd1 hd2 hnl
  obtain ⟨r9, cell, e0, e1, e2, e3, e4⟩ := rep_cl hR hG hS hag (hc _ rfl)
  have e9 : r9 = r := Option.some.inj (e0.symm.trans hr)
  subst e9
  exact vx_runSU e4 ⟨hx, hb, hml, hown, hts⟩ hM (va_cwSU n hts (lw_app (fun w hw => by simp only [List.mem_cons, List.not_mem_nil, or_false] at hw; rcases hw with rfl | rfl | rfl | rfl | rfl <;> assumption) (lw_meth w4)) rfl rfl rfl hp hroom) ⟨(preG hG hR).1, ⟨cell, e1, e2, e3⟩, (preG hG hR).2⟩ rfl hn hsz hst hW d hrm
theorem tg_O {N : Nt} {mi : Mi} {pc index y n : Nat} {ny : MethodName} {cb : ByteArray} {nl : Nat} {rt : Option FieldType} {ci : Nat} {r : vw_C} (hr : CL[ci]? = some r) {owner : String} {x0 : MethodName} (hN0 : NmOK N y ny cb nl rt) (w1 : Cond.methodLink mi.1 index x0 ∈ lw_all) (w2 : Cond.sameMethod x0.cls owner x0.name x0.desc ∈ lw_all) (w3 : Cond.selects r.1 x0 ny ∈ lw_all) (w5 : Cond.instanceMethod ny ∈ lw_all) (w6 : Cond.initialized ny.cls ∈ lw_all) (w4 : Cond.code ny cb nl rt ∈ lw_all) (hp : owner ≠ "java/lang/invoke/MethodHandle" ∧ owner ≠ "java/lang/invoke/VarHandle" ∧ (parseMethodDescriptor x0.desc).map (fun d => d.parameters.length) = some n) {b9 : ByteArray} {m9 : Nat} {r9 : Option FieldType} (hz : Cond.code ⟨owner, x0.name, x0.desc⟩ b9 m9 r9 ∈ lw_all) (hz2 : Cond.instanceMethod ⟨owner, x0.name, x0.desc⟩ ∈ lw_all) (d : decode mi.2.1 pc = .ok (.invokevirtual index, 3)) : TgOK N mi pc n 3 y (some ci) true := by
  intro G p l e R s m args below meth c d' b A x As rest st H locs ls cells slots hC hM hR hS hc hn hsz hst hre hrm
  obtain ⟨hx, hb, hml, hown, htab, hret, hini, hts, hlk, htr, hd1, hd2, hG, hBs, hag⟩ := hC
  obtain ⟨hN, hnl⟩ := hN0
  rw [hN] at hM
  have hW : 2 * (F0 m pc ls st).monitorRoom + (rest.map fun v => v.category).sum ≤ 8 := by
    have := cat_sum rest
    show 2 * 0 + _ ≤ 8
    omega
  have hroom : (rmD d' (nx x.2 - nx A) (su x.2 - su A)).frames + 1 ≤ R.frames ∧ 8 + (nl + 11) + (rmD d' (nx x.2 - nx A) (su x.2 - su A)).locals ≤ R.locals := rmD_room hd1 hd2 hnl
  obtain ⟨r9, cell, e0, e1, e2, e3, e4⟩ := rep_cl hR hG hS hag (hc _ rfl)
  have e9 : r9 = r := Option.some.inj (e0.symm.trans hr)
  subst e9
  exact vx_runU ⟨hx, hb, hml, hown, hts⟩ hM (va_cwO n hts (lw_app (fun w hw => by simp only [List.mem_cons, List.not_mem_nil, or_false] at hw; rcases hw with rfl | rfl | rfl | rfl | rfl | rfl <;> assumption) (lw_meth w4)) rfl rfl rfl hz hp hroom) ⟨(preG hG hR).1, ⟨cell, e1, e2, e3⟩, (preG hG hR).2⟩ rfl hn hsz hst hW d hrm
section
variable {p : Program} {l : Launch} {e : Env} {R : Room} {s : State} {m : MethodId} {args : Array Value} {below : List Frame} {meth : Method} {c : Code} {H : Heap} {locs : List Loc} {cells slots : Nat} {Q : State → Prop}
theorem vx_callP {T : State} {locs : List Loc} {cells slots : Nat} (X : Stand p l e R s m args below meth c T locs cells slots) (hexec : p.tables.exec = Jvm.exec) {own C : String} {index : Nat} {y : MethodName} {bytes : ByteArray} {maxL : Nat} {ret : Option FieldType}
    (hown : s.vm.findClass own = some m.cls) (hlink : (Cond.methodLink own index y).before args s = true) (hsame : (Cond.sameMethod y.cls y.cls y.name y.desc).before args s = true) (hy : y.cls ≠ "java/lang/invoke/MethodHandle" ∧ y.cls ≠ "java/lang/invoke/VarHandle")
    (hpriv : (Cond.privateMethod y).before args s = true) (hinst : (Cond.instanceMethod y).before args s = true) (hcode : (Cond.code y bytes maxL ret).before args s = true)
    {W : Nat} {Pre : Pt → Array Value → Prop} {Post : Pt → Array Value → Option Value → Pt → Prop} {PostX : Pt → Array Value → Addr → Pt → Prop} (hK : vx_Back l R p e below s args y 3 W Pre Post PostX)
    {b : Addr} {cellB : Cell} (hcell : T.heap[b]? = some cellB) (hobj : cellB.vm.isStatics = false) (hcls : s.vm.findClass C = some cellB.cls)
    {g : JFrame} (hg : g.method = m) (hsize : g.locals.size = c.maxLocals) {argsL rest : List Value} (hlen : ∀ sig, parseMethodDescriptor y.desc = some sig → argsL.length = sig.parameters.length)
    (hstack : g.stack = argsL.reverse ++ .ref b :: rest) (hW : 2 * g.monitorRoom + (rest.map fun v => v.category).sum ≤ W) (hdg : decode c.code g.pc = .ok (.invokevirtual index, 3))
    (hpre : ∀ vm₁, s.WarmedH vm₁ → Pre ⟨T.setVm vm₁, locs, cells, slots⟩ (Value.ref b :: argsL).toArray) :
    (∃ (v : Option Value) (vm₁ : Vm) (B : Pt), s.WarmedH vm₁ ∧ Stand p l e R s m args below meth c B.U B.locs B.cells B.slots ∧ Post ⟨T.setVm vm₁, locs, cells, slots⟩ (Value.ref b :: argsL).toArray v B ∧
      ∀ target, Steps p.tables e below (B.U.setTop { g with pc := g.pc + 3, stack := v.toList ++ rest }) target → Steps p.tables e below (T.setTop g) target) ∨
    (∃ (q : Addr) (vm₁ : Vm) (B : Pt), s.WarmedH vm₁ ∧ Stand p l e R s m args below meth c B.U B.locs B.cells B.slots ∧ PostX ⟨T.setVm vm₁, locs, cells, slots⟩ (Value.ref b :: argsL).toArray q B ∧
      Steps p.tables e below (T.setTop g) ((B.U.setTop { g with stack := rest }).pushFrame (.throwing q))) := by
  obtain ⟨mk, r, hn, hrm, hstR, hsigR⟩ := va_Decl.of hinst hcode
  obtain ⟨cn, ck, r1, hcn, hck, hni, hf, hn1⟩ := Cond.sameMethod_found hsame
  obtain ⟨mk2, methM, hnamed, hmethM, -, habM⟩ := Cond.instanceMethod_spec hinst
  cases hn.symm.trans hnamed
  cases hrm.symm.trans hmethM
  have hcl9 : mk.cls = cn := Option.some.inj ((findClass_of_methodNamed hn).symm.trans hcn)
  have hselP : selectMethod e.platform s.vm cellB.cls mk = .method mk := selectMethod_private hrm (Cond.privateMethod_at hpriv mk r hn hrm)
  obtain ⟨vm₁, X₁, hstep₁⟩ := X.invokevirtual hexec hown hlink hn hrm hstR (by rw [hcl9]; exact hck) hni hy (a := b) (cell := cellB) hcell
    (fun z h => by rw [h] at hobj; cases hobj) hselP hrm habM (by rw [hcl9]; exact hck) hni (g := g) hg (argsL := argsL) (rest := rest) (hlen _ hsigR) hstack hdg
  rcases hK m meth c ⟨T.setVm vm₁, locs, cells, slots⟩ { g with stack := rest } (.invokevirtual index) mk (Value.ref b :: argsL).toArray X₁ hg hsize hdg hW (X₁.named hnamed) (hpre vm₁ X₁.warmed) with ⟨v, B, X', hpost, hsteps⟩ | ⟨q, B, X', hpost, hsteps⟩
  · exact Or.inl ⟨v, vm₁, B, X₁.warmed, X', hpost, fun target h => hstep₁ _ fun acts => by rw [doInvoke_state]; exact hsteps.trans h⟩
  · exact Or.inr ⟨q, vm₁, B, X₁.warmed, X', hpost, hstep₁ _ fun acts => by rw [doInvoke_state]; exact hsteps⟩
theorem vx_runP {y : MethodName} {bytes cc : ByteArray} {maxL nL mc ms n index : Nat} {ret : Option FieldType} {ws : List Cond} {rm : Room} {Pc : Array Value → State → Prop} {Qc : Array Value → State → Outcome → State → Prop} {XC : String → Nat → State → State → Prop} {free : Addr → Prop} {Ts : List Cond} {own C : String} {b : Addr} {As rest : List Value} {g : JFrame}
    (S : CallFix p m c cc nL s args Ts own) (hM : vx_Met l y ws rm Pc Qc XC mc ms free) (cw : rm.cells = mc ∧ rm.slots = ms ∧ rm.frames + 1 ≤ R.frames ∧ 8 + (maxL + 11) + rm.locals ≤ R.locals ∧ (∀ w ∈ ws, ∀ (a9 : Array Value) (U : State), s.WarmedH U.vm → w.before a9 U = true) ∧ Cond.code y bytes maxL ret ∈ ws) (k1 : (Cond.methodLink own index y).before args s = true) (k2 : (Cond.sameMethod y.cls y.cls y.name y.desc).before args s = true) (k4 : (Cond.privateMethod y).before args s = true) (k5 : (Cond.instanceMethod y).before args s = true) (k8 : (Cond.initialized y.cls).before args s = true) (k9 : (Cond.code y bytes maxL ret).before args s = true) (kx : y.cls ≠ "java/lang/invoke/MethodHandle" ∧ y.cls ≠ "java/lang/invoke/VarHandle") (kl : ∀ sig, parseMethodDescriptor y.desc = some sig → n = sig.parameters.length) (hp : PreV s H C b Pc As)
    (hg : g.method = m) (hn : As.length = n) (hsize : g.locals.size = nL) (hstack : g.stack = As.reverse ++ .ref b :: rest) (hW : 2 * g.monitorRoom + (rest.map fun v => v.category).sum ≤ 8) (hdg : decode cc g.pc = .ok (.invokevirtual index, 3)) (hf : cells + mc ≤ R.cells ∧ slots + ms ≤ R.slots) :
    vx_Run p l e R s m args below meth c H locs cells slots mc ms g rest (Qc (Value.ref b :: As).toArray) XC free := by
  obtain ⟨hrc, hrs, hfr, hlo, hws, hcw⟩ := cw
  have hini := k8
  have hK : vx_Back l R p e below s args y 3 8 (PreOf R mc ms Pc) (PostOf Qc mc ms free) (vx_Post XC mc ms free) := vx_back (bytes := bytes) (maxL := maxL) (ret := ret) hM hp.1 hrc hrs hfr hlo hws hcw (fun a' U hW => word_at hW (Or.inl (by first | rfl | simp [Cond.onTables, Cond.keeps, Cond.steady])) hini)
  obtain ⟨hx, hb, hml, ho, -⟩ := S
  obtain ⟨-, ⟨cellB, hcB, hoB, hclB⟩, hPc⟩ := hp
  intro T hT X
  rcases vx_callP X hx (C := C) (bytes := bytes) (maxL := maxL) (ret := ret) ho k1 k2 kx k4 k5 k9 hK (by rw [hT]; exact hcB) hoB hclB hg (hsize.trans hml.symm) (argsL := As) (rest := rest) (fun sig h => hn.trans (kl sig h)) hstack hW (by rw [hb]; exact hdg)
    (fun vm₁ hW₁ => ⟨hf.1, hf.2, hPc (T.setVm vm₁) hT hW₁⟩) with ⟨v, vm₁, ⟨U', l2, c2, s2⟩, hW₁, X', ⟨g', mk, t, L, e1, e2, hq, h1, hL, h2, h3⟩, st⟩ | ⟨q, vm₁, ⟨U', l2, c2, s2⟩, hW₁, X', ⟨g', mk, t, L, E, ce, e1, e2, hq, hce, hcv, hcl, h1, hL, h2, h3⟩, st⟩
  · dsimp only [Pt.U, Pt.locs, Pt.cells, Pt.slots] at X' e1 e2 h1 h2 h3 st
    subst h1; subst h2; subst h3
    exact Or.inl ⟨v, (T.setVm vm₁).calling g' mk (Value.ref b :: As).toArray, t, U', L, hT, X', hL, e1, e2, hq, st⟩
  · dsimp only [Pt.U, Pt.locs, Pt.cells, Pt.slots] at X' e1 e2 h1 h2 h3 st hcl
    subst h1; subst h2; subst h3
    exact Or.inr ⟨q, (T.setVm vm₁).calling g' mk (Value.ref b :: As).toArray, t, U', L, E, ce, hT, X', hL, e1, e2, hq, hce, hcv, vx_cls hW₁ hcl, st⟩
end
theorem tg_P {N : Nt} {mi : Mi} {pc index y n : Nat} {ny : MethodName} {cb : ByteArray} {nl : Nat} {rt : Option FieldType} {ci : Nat} {r : vw_C} (hr : CL[ci]? = some r) (hN0 : NmOK N y ny cb nl rt) (w1 : Cond.methodLink mi.1 index ny ∈ lw_all) (w2 : Cond.sameMethod ny.cls ny.cls ny.name ny.desc ∈ lw_all) (w3 : Cond.privateMethod ny ∈ lw_tbl) (w5 : Cond.instanceMethod ny ∈ lw_all) (w6 : Cond.initialized ny.cls ∈ lw_all) (w4 : Cond.code ny cb nl rt ∈ lw_all) (hp : PnOK ny n) (d : decode mi.2.1 pc = .ok (.invokevirtual index, 3)) : TgOK N mi pc n 3 y (some ci) true := by
  intro G p l e R s m args below meth c d' b A x As rest st H locs ls cells slots hC hM hR hS hc hn hsz hst hre hrm
  obtain ⟨hx, hb, hml, hown, htab, hret, hini, hts, hlk, htr, hd1, hd2, hG, hBs, hag⟩ := hC
  obtain ⟨hN, hnl⟩ := hN0
  rw [hN] at hM
  have hW : 2 * (F0 m pc ls st).monitorRoom + (rest.map fun v => v.category).sum ≤ 8 := by
    have := cat_sum rest
    show 2 * 0 + _ ≤ 8
    omega
  have hroom : (rmD d' (nx x.2 - nx A) (su x.2 - su A)).frames + 1 ≤ R.frames ∧ 8 + (nl + 11) + (rmD d' (nx x.2 - nx A) (su x.2 - su A)).locals ≤ R.locals := rmD_room hd1 hd2 hnl
  obtain ⟨r9, cell, e0, e1, e2, e3, e4⟩ := rep_cl hR hG hS hag (hc _ rfl)
  have e9 : r9 = r := Option.some.inj (e0.symm.trans hr)
  subst e9
  have hws : ∀ w ∈ ws_ ny cb nl rt, ∀ (a' : Array Value) (U : State), s.WarmedH U.vm → w.before a' U = true := pay_in hts (lw_meth w4)
  refine vx_runP (C := r9.1) ⟨hx, hb, hml, hown, hts⟩ hM ⟨rfl, rfl, hroom.1, hroom.2, hws, List.mem_cons_self⟩ (hts _ w1) (hts _ w2) (va_Nw.use rfl (g_prv hG _ w3)) (hts _ w5) (hts _ w6) (hts _ w4) ⟨hp.1, hp.2.1⟩ (fun sig h => ?_) ⟨(preG hG hR).1, ⟨cell, e1, e2, e3⟩, (preG hG hR).2⟩ rfl hn hsz hst hW d hrm
  have h2 := hp.2.2
  rw [h] at h2
  exact (Option.some.inj h2).symm
