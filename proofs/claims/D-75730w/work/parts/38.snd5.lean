/-! soundness: ends of methods, what is thrown, natives -/
theorem ret_go {G : Ge} {p : Program} {l : Launch} {e : Env} {R : Room} {s : State} {m : MethodId} {args : Array Value} {below : List Frame} {meth : Method} {c : Code} {H : Heap} {locs : List Loc} {cells slots b0 c0 : Nat} {Q : State → Prop} {g : JFrame} {x : Out × Hp} (h1 : cells + b0 = nx x.2) (h2 : slots + c0 = su x.2) (hQ : EndQ G below s args b0 c0 Q x) (k : W p l e R s m args below meth c H locs cells slots (MQ below (Qr G x) args s cells slots (geA G)) g) : W p l e R s m args below meth c H locs cells slots Q g := by
  have e1 : nx x.2 - b0 = cells := by omega
  have e2 : su x.2 - c0 = slots := by omega
  unfold EndQ at hQ
  rw [e1, e2] at hQ
  exact W.mono hQ (vx_ret k)
theorem ok_vret {N : Nt} {mi : Mi} {pc : Nat} (hrt : mi.2.2.2.2.1 = none) (d : decode mi.2.1 pc = .ok (.return_, 1)) : OpOK N mi pc o_vret := by
  intro G p l e R s m args below meth c b0 c0 d0 Q hC L st A r hr hP
  have hC0 := hC
  obtain ⟨hx, hb, hml, hown, htab, hret, hini, hts, hlk, htr, hd1, hd2, hG, hBs, hag⟩ := hC
  unfold o_vret at hr
  split at hr
  · cases hr
    intro H locs ls cells slots hR hS hl h1 h2
    exact ret_go h1 h2 hP.2 (W.vret hx hb (hret.trans hrt) (fun t ht _ => ⟨none, rfl, rfl, by rw [ht]; exact hR⟩) hS.2.2 d (hlocks := hlk))
  · cases hr
theorem ok_iret {N : Nt} {mi : Mi} {pc k0 : Nat} {ty : FieldType} (hrt : mi.2.2.2.2.1 = some ty) (hk : kty k0 ty = true) (hk0 : k0 = 1 ∨ k0 = 5 ∨ k0 = 6 ∨ k0 = 7) (d : decode mi.2.1 pc = .ok (.ireturn, 1)) : OpOK N mi pc (o_ret k0) := by
  intro G p l e R s m args below meth c b0 c0 d0 Q hC L st A r hr hP
  have hC0 := hC
  obtain ⟨hx, hb, hml, hown, htab, hret, hini, hts, hlk, htr, hd1, hd2, hG, hBs, hag⟩ := hC
  unfold o_ret at hr
  split at hr
  · next v =>
    obtain ⟨hg, hr⟩ := gd_some hr
    cases hr
    intro H locs ls cells slots hR hS hl h1 h2
    obtain ⟨hn, -⟩ := okv_spec hk hg
    cases v with
    | int x => exact ret_go h1 h2 hP.2 (W.zret hx hb (hret.trans hrt) hn (fun t ht _ => ⟨_, rfl, rfl, by rw [ht]; exact hR⟩) hS.2.2 d (hlocks := hlk))
    | _ => exfalso; rcases hk0 with rfl | rfl | rfl | rfl <;> cases hg
  · cases hr
theorem ok_lret {N : Nt} {mi : Mi} {pc : Nat} (hrt : mi.2.2.2.2.1 = some .long) (d : decode mi.2.1 pc = .ok (.lreturn, 1)) : OpOK N mi pc (o_ret 2) := by
  intro G p l e R s m args below meth c b0 c0 d0 Q hC L st A r hr hP
  have hC0 := hC
  obtain ⟨hx, hb, hml, hown, htab, hret, hini, hts, hlk, htr, hd1, hd2, hG, hBs, hag⟩ := hC
  unfold o_ret at hr
  split at hr
  · next v =>
    obtain ⟨hg, hr⟩ := gd_some hr
    cases hr
    intro H locs ls cells slots hR hS hl h1 h2
    cases v with
    | long x => exact ret_go h1 h2 hP.2 (W.lret hx hb (hret.trans hrt) (fun t ht _ => ⟨_, rfl, rfl, by rw [ht]; exact hR⟩) hS.2.2 d (hlocks := hlk))
    | _ => cases hg
  · cases hr
theorem ok_fret {N : Nt} {mi : Mi} {pc : Nat} (hrt : mi.2.2.2.2.1 = some .float) (d : decode mi.2.1 pc = .ok (.freturn, 1)) : OpOK N mi pc (o_ret 3) := by
  intro G p l e R s m args below meth c b0 c0 d0 Q hC L st A r hr hP
  have hC0 := hC
  obtain ⟨hx, hb, hml, hown, htab, hret, hini, hts, hlk, htr, hd1, hd2, hG, hBs, hag⟩ := hC
  unfold o_ret at hr
  split at hr
  · next v =>
    obtain ⟨hg, hr⟩ := gd_some hr
    cases hr
    intro H locs ls cells slots hR hS hl h1 h2
    cases v with
    | float x => exact ret_go h1 h2 hP.2 (W.fret hx hb (hret.trans hrt) (fun t ht _ => ⟨_, rfl, rfl, by rw [ht]; exact hR⟩) hS.2.2 d (hlocks := hlk))
    | _ => cases hg
  · cases hr
theorem ok_dret {N : Nt} {mi : Mi} {pc : Nat} (hrt : mi.2.2.2.2.1 = some .double) (d : decode mi.2.1 pc = .ok (.dreturn, 1)) : OpOK N mi pc (o_ret 4) := by
  intro G p l e R s m args below meth c b0 c0 d0 Q hC L st A r hr hP
  have hC0 := hC
  obtain ⟨hx, hb, hml, hown, htab, hret, hini, hts, hlk, htr, hd1, hd2, hG, hBs, hag⟩ := hC
  unfold o_ret at hr
  split at hr
  · next v =>
    obtain ⟨hg, hr⟩ := gd_some hr
    cases hr
    intro H locs ls cells slots hR hS hl h1 h2
    cases v with
    | double x => exact ret_go h1 h2 hP.2 (W.dret hx hb (hret.trans hrt) (fun t ht _ => ⟨_, rfl, rfl, by rw [ht]; exact hR⟩) hS.2.2 d (hlocks := hlk))
    | _ => cases hg
  · cases hr
theorem ok_aret {N : Nt} {mi : Mi} {pc : Nat} {ty : FieldType} (hrt : mi.2.2.2.2.1 = some ty) (hk : (∃ n, ty = .object n) ∨ ∃ t, ty = .array t) (d : decode mi.2.1 pc = .ok (.areturn, 1)) : OpOK N mi pc (o_ret 0) := by
  intro G p l e R s m args below meth c b0 c0 d0 Q hC L st A r hr hP
  have hC0 := hC
  obtain ⟨hx, hb, hml, hown, htab, hret, hini, hts, hlk, htr, hd1, hd2, hG, hBs, hag⟩ := hC
  unfold o_ret at hr
  split at hr
  · next v =>
    obtain ⟨hg, hr⟩ := gd_some hr
    cases hr
    intro H locs ls cells slots hR hS hl h1 h2
    exact ret_go h1 h2 hP.2 (W.aret hx hb (hret.trans hrt) hk (isR_cases (show isR v = true from hg)) (fun t ht _ => ⟨_, rfl, rfl, by rw [ht]; exact hR⟩) hS.2.2 d (hlocks := hlk))
  · cases hr
/-- words of the tables of which some aren't good -/
def kindB (w : Cond) : Bool := match w with
  | .castable _ _ => true
  | .declares _ => true
  | w => goodWord w
theorem tbl_before {G : Ge} {s : State} {args : Array Value} {ws : List Cond} (hG : GS G s) (hts : ∀ w ∈ lw_all, w.before args s = true) (h1 : ∀ w ∈ ws, w ∈ lw_tbl) (h2 : ws.all kindB = true) : ∀ w ∈ ws, w.before args s = true := by
  intro w hw
  have k := List.all_eq_true.mp h2 w hw
  have t := h1 w hw
  unfold kindB at k
  split at k
  · exact va_Nw.use rfl (hG.2.2.2.1 _ _ t)
  · exact va_Nw.use rfl (hG.2.2.2.2.2.1 _ t)
  · exact hts _ (lw_g t k)
theorem mem_pl {ws : List Cond} (ps : List Nat) (h : ws = ps.filterMap (fun i => lw_tbl[i]?)) : ∀ w ∈ ws, w ∈ lw_tbl := by
  intro w hw
  rw [h] at hw
  obtain ⟨i, -, hi⟩ := List.mem_filterMap.mp hw
  exact List.mem_of_getElem? hi
theorem exG_kept {G : Ge} {s : State} (hG : GS G s) (hag : ∀ q : Nat, q < geB G → s.heap[q]? = (geH G)[q]?) : vx_Zq Bundle.tN "UNASSIGNED_STACK" Bundle.steD (geA G) s s.heap ∧ vx_Zq Bundle.tN "SUPPRESSED_SENTINEL" Bundle.listD (geA G) s s.heap :=
  ⟨(g_ex hG).1.kept (kept0 hag), (g_ex hG).2.kept (kept0 hag)⟩
theorem rep_exc {G : Ge} {A : Hp} {H H' : Heap} {s : State} {E ns : Nat} {r : vw_C} {ce : Cell} (hR : RepH G A H) (hG : GS G s) (hE : CL[E]? = some r) (h0 : r.2.2 = 0) (z : H'.size = H.size + 1) (o : ∀ q : Nat, q < H.size → H'[q]? = H[q]?) (hce : H'[H.size]? = some ce) (hv : ce.vm = .none) (hcl : s.vm.findClass r.1 = some ce.cls) : RepH G (newo A E ns (fun _ => none)) H' := by
  refine rep_newo hR hE (fun f v h => by cases h) ⟨ce, hce, ?_, hv, fun k hk => absurd hk (by rw [h0]; exact Nat.not_lt_zero k)⟩ z o
  exact Option.some.inj (hcl.symm.trans (hG.1.1 E r hE).2.1)
theorem ok_thr0 {N : Nt} {mi : Mi} {pc E ik ic : Nat} {r : vw_C} {names : List String} (hE : CL[E]? = some r) (h0 : r.2.2 = 0) (hcls : Bundle.fit r.1 = true) (hnames : ∀ n ∈ names, Bundle.fit n = true) (hnl : names.length ≤ 3) (w1 : Cond.classLink mi.1 ik r.1 ∈ lw_all) (w2 : Cond.initialized r.1 ∈ lw_all) (w3 : ∀ w ∈ vx_at0 mi.1 ic r.1 names, w ∈ lw_tbl) (w4 : (vx_at0 mi.1 ic r.1 names).all kindB = true)
    (w5 : (Cond.classLink mi.1 ik r.1 :: Cond.initialized r.1 :: vx_at0 mi.1 ic r.1 names).all vx_ot = true) (hH : HdOK mi (pc + 7) none)
    (D0 : decode mi.2.1 pc = .ok (.new ik, 3)) (D3 : decode mi.2.1 (pc + 3) = .ok (.dup, 1)) (D4 : decode mi.2.1 (pc + 4) = .ok (.invokespecial ic, 3)) (D7 : decode mi.2.1 (pc + 7) = .ok (.athrow, 1)) : OpOK N mi pc (o_thr0 E) := by
  intro G p l e R s m args below meth c b0 c0 d0 Q hC L st A r hr hP
  have hC0 := hC
  obtain ⟨hx, hb, hml, hown, htab, hret, hini, hts, hlk, htr, hd1, hd2, hG, hBs, hag⟩ := hC
  unfold o_thr0 at hr
  obtain ⟨hg, hr⟩ := gd_some hr
  cases hr
  have hg := Nat.le_of_ble_eq_true hg
  intro H locs ls cells slots hR hS hl h1 h2
  have h1 : cells + b0 = nx A := h1
  have h2 : slots + c0 = su A := h2
  have hq := hP.2
  have hrm := hP.1
  have q1 : nx A + 1 ≤ R.cells + b0 := hrm.1
  have q2 : su A + 6 ≤ R.slots + c0 := hrm.2
  have hcs := cat_sum st
  obtain ⟨hU, hNs⟩ := exG_kept hG hag
  have hsz := hR.2.1
  have hlf : lfL = 10400 := rfl
  have hg : st.length ≤ 4 := hg
  refine W.mono hq (vx_throw0 hx hb htr hown hcls hnames (hts _ w1) (hts _ w2) (tbl_before hG hts w3 w4) (fun w hw => List.all_eq_true.mp w5 w hw) hU hNs hS (hl.2.1.trans hml.symm) D0 D3 D4 D7 (by rw [htab]; exact hH) (by omega) (by show (st.map fun v => v.category).sum + _ ≤ _; omega) (by omega) (by omega) hlk (fun t ce hal z o hce hv hcl => ⟨E, r, by rw [hsz], hE, rfl, rep_exc hR hG hE h0 z o hce hv hcl⟩) hS.2.2 ?_ ?_)
  · show cells + 1 ≤ nx A + 1 - b0; omega
  · show slots + 6 ≤ su A + 6 - c0; omega
theorem ok_athrow {N : Nt} {mi : Mi} {pc : Nat} (hH : HdOK mi pc none) (d : decode mi.2.1 pc = .ok (.athrow, 1)) : OpOK N mi pc o_athrow := by
  intro G p l e R s m args below meth c b0 c0 d0 Q hC L st A r hr hP
  have hC0 := hC
  obtain ⟨hx, hb, hml, hown, htab, hret, hini, hts, hlk, htr, hd1, hd2, hG, hBs, hag⟩ := hC
  unfold o_athrow at hr
  split at hr
  · next q rest =>
    obtain ⟨ci, hci, hr⟩ := Option.bind_eq_some_iff.mp hr
    cases hr
    intro H locs ls cells slots hR hS hl h1 h2
    obtain ⟨h3, h4⟩ := gc_spec hci
    obtain ⟨a1, a2, r9, a3, cell, b1, b2, b3, -⟩ := hR.2.2.2.2.1 q ci h3 h4
    have hk := (hG.1.1 ci r9 a3).2
    exact vx_athrow hx hb d (thr_go (b0 := b0) (c0 := c0) (rest := rest) hC0 hH a3 hR hS hl h1 h2 b1 b3 (by rw [b2]; exact hk.1) hP.2)
  · cases hr
theorem ok_oi {N : Nt} {mi : Mi} {pc idx : Nat} (w1 : Cond.methodLink mi.1 idx Lib.objectInit ∈ lw_all) (w2 : Cond.instanceMethod Lib.objectInit ∈ lw_all) (w3 : Cond.code Lib.objectInit ⟨#[0xb1]⟩ 1 none ∈ lw_all) (d : decode mi.2.1 pc = .ok (.invokespecial idx, 3)) : OpOK N mi pc o_oi := by
  intro G p l e R s m args below meth c b0 c0 d0 Q hC L st A r hr hP
  have hC0 := hC
  obtain ⟨hx, hb, hml, hown, htab, hret, hini, hts, hlk, htr, hd1, hd2, hG, hBs, hag⟩ := hC
  unfold o_oi at hr
  split at hr
  · next q rest =>
    obtain ⟨hg, hr⟩ := gd_some hr
    cases hr
    have hg := Nat.le_of_ble_eq_true hg
    intro H locs ls cells slots hR hS hl h1 h2
    have hcs := cat_sum rest
    have hlf : lfL = 10400 := rfl
    exact W.objInit hx hb hown (hts _ w1) (hts _ w2) (hts _ w3) rfl (hl.2.1.trans hml.symm) rfl d (by omega) (by show 2 * 0 + _ + 12 ≤ _; omega) (hP.2 H locs ls cells slots hR hS hl h1 h2)
  · cases hr
theorem rcvN {st rest : List Value} {n : Nat} {v : Value} (h : st.drop n = v :: rest) : ((st.take n).reverse).length = n ∧ st = ((st.take n).reverse).reverse ++ v :: rest := by
  have := congrArg List.length h
  rw [List.length_drop, List.length_cons] at this
  rw [List.reverse_reverse, ← h]
  refine ⟨?_, (List.take_append_drop n st).symm⟩
  rw [List.length_reverse, List.length_take]
  omega
/-- a call on what may be null, the NullPointerException caught here -/
theorem ok_cvN {N : Nt} {mi : Mi} {pc n ik E h0 index : Nat} {tg : List (Nat × Nat)} {vd : Bool} {r : vw_C} {C : String} {ny : MethodName} {cb : ByteArray} {nl : Nat} {rt : Option FieldType} (ht : ∀ q ∈ tg, TgOK N mi pc n 3 q.2 (some q.1) true) (hE : CL[E]? = some r) (hz : r.2.2 = 0) (hr1 : r.1 = "java/lang/NullPointerException")
    (hH : HdOK mi pc (some [(E, h0)])) (w1 : Cond.methodLink mi.1 index ny ∈ lw_all) (w2 : Cond.instanceMethod ny ∈ lw_all) (w3 : Cond.code ny cb nl rt ∈ lw_all) (w4 : Cond.selects C ny ny ∈ lw_all) (hp : PnOK ny n) (w5 : ∀ w ∈ vx_atN 8, w ∈ lw_tbl) (w6 : (vx_atN 8).all kindB = true) (w7 : (vx_atN 8).all vx_ot = true)
    (d : decode mi.2.1 pc = .ok (.invokevirtual index, 3)) : OpOK N mi pc (o_cvN tg n vd E 8 h0) := by
  intro G p l e R s m args below meth c b0 c0 d0 Q hC L st A r hr hP
  have hC0 := hC
  obtain ⟨hx, hb, hml, hown, htab, hret, hini, hts, hlk, htr, hd1, hd2, hG, hBs, hag⟩ := hC
  unfold o_cvN at hr
  split at hr
  · next q rest hst =>
    obtain ⟨y, hy, hr⟩ := Option.bind_eq_some_iff.mp hr
    obtain ⟨ci, hci, hm⟩ := sel_spec hy
    obtain ⟨hre, rfl⟩ := callR_some hr
    obtain ⟨x, d', rfl, hM, hrm, hle, hle2, haft⟩ := hP
    obtain ⟨g1, g2⟩ := rcv_st hst
    intro H locs ls cells slots hR hS hl h1 h2
    have h1 : cells + b0 = nx A := h1
    have h2 : slots + c0 = su A := h2
    have hle : nx A ≤ nx x.2 := hle
    have hle2 : su A ≤ su x.2 := hle2
    have q1 := hrm.1
    have q2 := hrm.2
    exact call_go hC0 (show HdOK mi pc (some []) from fun q hq => by cases hq) rfl rfl hle hle2 (ht _ hm G p l e R s m args below meth c d' q A x (st.take n).reverse rest st H locs ls cells slots hC0 hM hR hS (fun k h => by cases h; show (gc A q).or _ = _; rw [hci]; rfl) g2 hl.2.1 g1 hre ⟨by omega, by omega⟩) hR hS hl h1 h2 haft
  · next rest hst =>
    obtain ⟨hre, hr⟩ := gd_some hr
    have hre := Nat.le_of_ble_eq_true hre
    cases hr
    intro H locs ls cells slots hR hS hl h1 h2
    have h1 : cells + b0 = nx A := h1
    have h2 : slots + c0 = su A := h2
    have hcs := cat_sum rest
    have hrm := hP.1
    have q1 : nx A + 1 ≤ R.cells + b0 := hrm.1
    have q2 : su A + 8 ≤ R.slots + c0 := hrm.2
    obtain ⟨hU, hNs⟩ := exG_kept hG hag
    have hsz := hR.2.1
    have hlf : lfL = 10400 := rfl
    obtain ⟨g2, g1⟩ := rcvN hst
    refine vx_invokeN (As := (st.take n).reverse) (rest := rest) hx hb hown (hts _ w1) (hts _ w2) (hts _ w3) (hts _ w4) ⟨hp.1, hp.2.1⟩ (by rw [g2]; exact hp.2.2) d ?_ g1
    · exact vx_npe hx htr (tbl_before hG hts w5 w6) (fun w hw => List.all_eq_true.mp w7 w hw) hU hNs hS (hl.2.1.trans hml.symm) (by omega) (by show (rest.map fun v => v.category).sum + 10240 ≤ _; omega) (by omega) (by omega) hlk (fun H1 q9 ce hz9 ho hS1 hce hv hcl => by
        obtain ⟨rfl, hz1⟩ := hz9
        have hR1 := rep_exc (ns := 8) hR hG hE hz hz1 ho hce hv (by rw [hr1]; exact hcl)
        refine thr_go (b0 := b0) (c0 := c0) (hd := some [(E, h0)]) hC0 hH hE hR1 hS1 hl (by show cells + 1 + b0 = nx A + 1; omega) (by show slots + 8 + c0 = su A + 8; omega) hce hv (by rw [hr1]; exact hcl) ?_
        have e : lkn [(E, h0)] E = some h0 := if_pos rfl
        unfold ThrK
        dsimp only
        rw [e]
        dsimp only
        rw [hsz]
        exact hP.2)
  · cases hr

