/-! soundness of the whole: an op never makes the heap less; a run of the abstract machine is a run of the machine -/
def MonR (A : Hp) (r : Cf ⊕ ((Out × Hp) ⊕ Cl)) : Prop := match r with
  | .inl c => nx A ≤ nx c.2.2.2 ∧ su A ≤ su c.2.2.2
  | .inr (.inl x) => nx A ≤ nx x.2 ∧ su A ≤ su x.2
  | .inr (.inr k) => k.2.2.2.2.2.2.2 = A
def RsM (A : Hp) (x : Rs) : Prop := ∀ r, x = some r → MonR A r
def OpM (op : Op) : Prop := ∀ pc L st A, RsM A (op pc L st A)
theorem rm_n {A : Hp} : RsM A none := fun r h => by cases h
theorem rm_x {A A' : Hp} {pc : Nat} {L : Lc} {st : List Value} (h : nx A ≤ nx A' ∧ su A ≤ su A') : RsM A (nx1 pc L st A') := fun r e => by cases e; exact h
theorem rm_g {A : Hp} {b : Bool} {x : Rs} (h : RsM A x) : RsM A (gd b x) := fun r e => h r (gd_some e).2
theorem rm_b {A : Hp} {α : Type} {o : Option α} {f : α → Rs} (h : ∀ a, RsM A (f a)) : RsM A (o.bind f) := fun r e => by
  obtain ⟨a, -, e⟩ := Option.bind_eq_some_iff.mp e
  exact h a r e
theorem rm_c {A : Hp} {y : Nat} {as : List Value} {vd : Bool} {pc : Nat} {L : Lc} {rest : List Value} {hd : Option (List (Nat × Nat))} : RsM A (callR y as vd pc L rest hd A) := rm_g (fun r e => by cases e; rfl)
theorem rm_o {A A' : Hp} {o : Out} (h : nx A ≤ nx A' ∧ su A ≤ su A') : RsM A (some (.inr (.inl (o, A')))) := fun r e => by cases e; exact h
theorem rm_bif {A : Hp} {b : Bool} {x y : Rs} (h : RsM A x) (h2 : RsM A y) : RsM A (bif b then x else y) := by cases b; exact h2; exact h
theorem mo_r {A : Hp} : nx A ≤ nx A ∧ su A ≤ su A := ⟨Nat.le_refl _, Nat.le_refl _⟩
theorem mo_f {A : Hp} {p f : Nat} {v : Value} : nx A ≤ nx (setf A p f v) ∧ su A ≤ su (setf A p f v) := ⟨Nat.le_refl _, Nat.le_refl _⟩
theorem mo_a {A : Hp} {p : Nat} {c : ArC} : nx A ≤ nx (seta A p c) ∧ su A ≤ su (seta A p c) := ⟨Nat.le_refl _, Nat.le_refl _⟩
theorem mo_n {A : Hp} {c n : Nat} {dv : Nat → Option Value} : nx A ≤ nx (newo A c n dv) ∧ su A ≤ su (newo A c n dv) := ⟨Nat.le_succ _, Nat.le_add_right _ _⟩
theorem mo_w {A : Hp} {c : ArC} : nx A ≤ nx (newa A c) ∧ su A ≤ su (newa A c) := ⟨Nat.le_succ _, Nat.le_add_right _ _⟩
theorem m_push {len : Nat} {v : Value} : OpM (o_push len v) := by
  intro pc L st A
  unfold o_push
  repeat' (first | exact rm_n | exact rm_x mo_r | exact rm_x mo_f | exact rm_x mo_a | exact rm_x mo_n | exact rm_x mo_w | exact rm_o mo_r | exact rm_o mo_n | exact rm_c | apply rm_g | (apply rm_b; intro _) | apply rm_bif | split | (dsimp only; split))
theorem m_pushA {len k : Nat} : OpM (o_pushA len k) := by
  intro pc L st A
  unfold o_pushA
  repeat' (first | exact rm_n | exact rm_x mo_r | exact rm_x mo_f | exact rm_x mo_a | exact rm_x mo_n | exact rm_x mo_w | exact rm_o mo_r | exact rm_o mo_n | exact rm_c | apply rm_g | (apply rm_b; intro _) | apply rm_bif | split | (dsimp only; split))
theorem m_pushR {len k : Nat} : OpM (o_pushR len k) := by
  intro pc L st A
  unfold o_pushR
  repeat' (first | exact rm_n | exact rm_x mo_r | exact rm_x mo_f | exact rm_x mo_a | exact rm_x mo_n | exact rm_x mo_w | exact rm_o mo_r | exact rm_o mo_n | exact rm_c | apply rm_g | (apply rm_b; intro _) | apply rm_bif | split | (dsimp only; split))
theorem m_iload {i len : Nat} : OpM (o_iload i len) := by
  intro pc L st A
  unfold o_iload
  repeat' (first | exact rm_n | exact rm_x mo_r | exact rm_x mo_f | exact rm_x mo_a | exact rm_x mo_n | exact rm_x mo_w | exact rm_o mo_r | exact rm_o mo_n | exact rm_c | apply rm_g | (apply rm_b; intro _) | apply rm_bif | split | (dsimp only; split))
theorem m_fload {i len : Nat} : OpM (o_fload i len) := by
  intro pc L st A
  unfold o_fload
  repeat' (first | exact rm_n | exact rm_x mo_r | exact rm_x mo_f | exact rm_x mo_a | exact rm_x mo_n | exact rm_x mo_w | exact rm_o mo_r | exact rm_o mo_n | exact rm_c | apply rm_g | (apply rm_b; intro _) | apply rm_bif | split | (dsimp only; split))
theorem m_lload {i len : Nat} : OpM (o_lload i len) := by
  intro pc L st A
  unfold o_lload
  repeat' (first | exact rm_n | exact rm_x mo_r | exact rm_x mo_f | exact rm_x mo_a | exact rm_x mo_n | exact rm_x mo_w | exact rm_o mo_r | exact rm_o mo_n | exact rm_c | apply rm_g | (apply rm_b; intro _) | apply rm_bif | split | (dsimp only; split))
theorem m_dload {i len : Nat} : OpM (o_dload i len) := by
  intro pc L st A
  unfold o_dload
  repeat' (first | exact rm_n | exact rm_x mo_r | exact rm_x mo_f | exact rm_x mo_a | exact rm_x mo_n | exact rm_x mo_w | exact rm_o mo_r | exact rm_o mo_n | exact rm_c | apply rm_g | (apply rm_b; intro _) | apply rm_bif | split | (dsimp only; split))
theorem m_aload {i len : Nat} : OpM (o_aload i len) := by
  intro pc L st A
  unfold o_aload
  repeat' (first | exact rm_n | exact rm_x mo_r | exact rm_x mo_f | exact rm_x mo_a | exact rm_x mo_n | exact rm_x mo_w | exact rm_o mo_r | exact rm_o mo_n | exact rm_c | apply rm_g | (apply rm_b; intro _) | apply rm_bif | split | (dsimp only; split))
theorem m_istore {i len : Nat} : OpM (o_istore i len) := by
  intro pc L st A
  unfold o_istore
  repeat' (first | exact rm_n | exact rm_x mo_r | exact rm_x mo_f | exact rm_x mo_a | exact rm_x mo_n | exact rm_x mo_w | exact rm_o mo_r | exact rm_o mo_n | exact rm_c | apply rm_g | (apply rm_b; intro _) | apply rm_bif | split | (dsimp only; split))
theorem m_fstore {i len : Nat} : OpM (o_fstore i len) := by
  intro pc L st A
  unfold o_fstore
  repeat' (first | exact rm_n | exact rm_x mo_r | exact rm_x mo_f | exact rm_x mo_a | exact rm_x mo_n | exact rm_x mo_w | exact rm_o mo_r | exact rm_o mo_n | exact rm_c | apply rm_g | (apply rm_b; intro _) | apply rm_bif | split | (dsimp only; split))
theorem m_lstore {i len : Nat} : OpM (o_lstore i len) := by
  intro pc L st A
  unfold o_lstore
  repeat' (first | exact rm_n | exact rm_x mo_r | exact rm_x mo_f | exact rm_x mo_a | exact rm_x mo_n | exact rm_x mo_w | exact rm_o mo_r | exact rm_o mo_n | exact rm_c | apply rm_g | (apply rm_b; intro _) | apply rm_bif | split | (dsimp only; split))
theorem m_dstore {i len : Nat} : OpM (o_dstore i len) := by
  intro pc L st A
  unfold o_dstore
  repeat' (first | exact rm_n | exact rm_x mo_r | exact rm_x mo_f | exact rm_x mo_a | exact rm_x mo_n | exact rm_x mo_w | exact rm_o mo_r | exact rm_o mo_n | exact rm_c | apply rm_g | (apply rm_b; intro _) | apply rm_bif | split | (dsimp only; split))
theorem m_astore {i len : Nat} : OpM (o_astore i len) := by
  intro pc L st A
  unfold o_astore
  repeat' (first | exact rm_n | exact rm_x mo_r | exact rm_x mo_f | exact rm_x mo_a | exact rm_x mo_n | exact rm_x mo_w | exact rm_o mo_r | exact rm_o mo_n | exact rm_c | apply rm_g | (apply rm_b; intro _) | apply rm_bif | split | (dsimp only; split))
theorem m_iinc {i : Nat} {k : Int32} : OpM (o_iinc i k) := by
  intro pc L st A
  unfold o_iinc
  repeat' (first | exact rm_n | exact rm_x mo_r | exact rm_x mo_f | exact rm_x mo_a | exact rm_x mo_n | exact rm_x mo_w | exact rm_o mo_r | exact rm_o mo_n | exact rm_c | apply rm_g | (apply rm_b; intro _) | apply rm_bif | split | (dsimp only; split))
theorem m_iop {f : Int32 → Int32 → Int32} : OpM (o_iop f) := by
  intro pc L st A
  unfold o_iop
  repeat' (first | exact rm_n | exact rm_x mo_r | exact rm_x mo_f | exact rm_x mo_a | exact rm_x mo_n | exact rm_x mo_w | exact rm_o mo_r | exact rm_o mo_n | exact rm_c | apply rm_g | (apply rm_b; intro _) | apply rm_bif | split | (dsimp only; split))
theorem m_iopz {f : Int32 → Int32 → Int32} : OpM (o_iopz f) := by
  intro pc L st A
  unfold o_iopz
  repeat' (first | exact rm_n | exact rm_x mo_r | exact rm_x mo_f | exact rm_x mo_a | exact rm_x mo_n | exact rm_x mo_w | exact rm_o mo_r | exact rm_o mo_n | exact rm_c | apply rm_g | (apply rm_b; intro _) | apply rm_bif | split | (dsimp only; split))
theorem m_lop {f : Int64 → Int64 → Int64} : OpM (o_lop f) := by
  intro pc L st A
  unfold o_lop
  repeat' (first | exact rm_n | exact rm_x mo_r | exact rm_x mo_f | exact rm_x mo_a | exact rm_x mo_n | exact rm_x mo_w | exact rm_o mo_r | exact rm_o mo_n | exact rm_c | apply rm_g | (apply rm_b; intro _) | apply rm_bif | split | (dsimp only; split))
theorem m_lcmp : OpM (o_lcmp) := by
  intro pc L st A
  unfold o_lcmp
  repeat' (first | exact rm_n | exact rm_x mo_r | exact rm_x mo_f | exact rm_x mo_a | exact rm_x mo_n | exact rm_x mo_w | exact rm_o mo_r | exact rm_o mo_n | exact rm_c | apply rm_g | (apply rm_b; intro _) | apply rm_bif | split | (dsimp only; split))
theorem m_fcmp {op : CmpOp} : OpM (o_fcmp op) := by
  intro pc L st A
  unfold o_fcmp
  repeat' (first | exact rm_n | exact rm_x mo_r | exact rm_x mo_f | exact rm_x mo_a | exact rm_x mo_n | exact rm_x mo_w | exact rm_o mo_r | exact rm_o mo_n | exact rm_c | apply rm_g | (apply rm_b; intro _) | apply rm_bif | split | (dsimp only; split))
theorem m_dcmp {op : CmpOp} : OpM (o_dcmp op) := by
  intro pc L st A
  unfold o_dcmp
  repeat' (first | exact rm_n | exact rm_x mo_r | exact rm_x mo_f | exact rm_x mo_a | exact rm_x mo_n | exact rm_x mo_w | exact rm_o mo_r | exact rm_o mo_n | exact rm_c | apply rm_g | (apply rm_b; intro _) | apply rm_bif | split | (dsimp only; split))
theorem m_ii {f : Int32 → Int32} : OpM (o_ii f) := by
  intro pc L st A
  unfold o_ii
  repeat' (first | exact rm_n | exact rm_x mo_r | exact rm_x mo_f | exact rm_x mo_a | exact rm_x mo_n | exact rm_x mo_w | exact rm_o mo_r | exact rm_o mo_n | exact rm_c | apply rm_g | (apply rm_b; intro _) | apply rm_bif | split | (dsimp only; split))
theorem m_i2l : OpM (o_i2l) := by
  intro pc L st A
  unfold o_i2l
  repeat' (first | exact rm_n | exact rm_x mo_r | exact rm_x mo_f | exact rm_x mo_a | exact rm_x mo_n | exact rm_x mo_w | exact rm_o mo_r | exact rm_o mo_n | exact rm_c | apply rm_g | (apply rm_b; intro _) | apply rm_bif | split | (dsimp only; split))
theorem m_i2f : OpM (o_i2f) := by
  intro pc L st A
  unfold o_i2f
  repeat' (first | exact rm_n | exact rm_x mo_r | exact rm_x mo_f | exact rm_x mo_a | exact rm_x mo_n | exact rm_x mo_w | exact rm_o mo_r | exact rm_o mo_n | exact rm_c | apply rm_g | (apply rm_b; intro _) | apply rm_bif | split | (dsimp only; split))
theorem m_i2d : OpM (o_i2d) := by
  intro pc L st A
  unfold o_i2d
  repeat' (first | exact rm_n | exact rm_x mo_r | exact rm_x mo_f | exact rm_x mo_a | exact rm_x mo_n | exact rm_x mo_w | exact rm_o mo_r | exact rm_o mo_n | exact rm_c | apply rm_g | (apply rm_b; intro _) | apply rm_bif | split | (dsimp only; split))
theorem m_l2d : OpM (o_l2d) := by
  intro pc L st A
  unfold o_l2d
  repeat' (first | exact rm_n | exact rm_x mo_r | exact rm_x mo_f | exact rm_x mo_a | exact rm_x mo_n | exact rm_x mo_w | exact rm_o mo_r | exact rm_o mo_n | exact rm_c | apply rm_g | (apply rm_b; intro _) | apply rm_bif | split | (dsimp only; split))
theorem m_f2d : OpM (o_f2d) := by
  intro pc L st A
  unfold o_f2d
  repeat' (first | exact rm_n | exact rm_x mo_r | exact rm_x mo_f | exact rm_x mo_a | exact rm_x mo_n | exact rm_x mo_w | exact rm_o mo_r | exact rm_o mo_n | exact rm_c | apply rm_g | (apply rm_b; intro _) | apply rm_bif | split | (dsimp only; split))
theorem m_fdiv : OpM (o_fdiv) := by
  intro pc L st A
  unfold o_fdiv
  repeat' (first | exact rm_n | exact rm_x mo_r | exact rm_x mo_f | exact rm_x mo_a | exact rm_x mo_n | exact rm_x mo_w | exact rm_o mo_r | exact rm_o mo_n | exact rm_c | apply rm_g | (apply rm_b; intro _) | apply rm_bif | split | (dsimp only; split))
theorem m_ddiv : OpM (o_ddiv) := by
  intro pc L st A
  unfold o_ddiv
  repeat' (first | exact rm_n | exact rm_x mo_r | exact rm_x mo_f | exact rm_x mo_a | exact rm_x mo_n | exact rm_x mo_w | exact rm_o mo_r | exact rm_o mo_n | exact rm_c | apply rm_g | (apply rm_b; intro _) | apply rm_bif | split | (dsimp only; split))
theorem m_if {t : Int32 → Bool} {tgt : Nat} : OpM (o_if t tgt) := by
  intro pc L st A
  unfold o_if
  repeat' (first | exact rm_n | exact rm_x mo_r | exact rm_x mo_f | exact rm_x mo_a | exact rm_x mo_n | exact rm_x mo_w | exact rm_o mo_r | exact rm_o mo_n | exact rm_c | apply rm_g | (apply rm_b; intro _) | apply rm_bif | split | (dsimp only; split))
theorem m_icmp {t : Int32 → Int32 → Bool} {tgt : Nat} : OpM (o_icmp t tgt) := by
  intro pc L st A
  unfold o_icmp
  repeat' (first | exact rm_n | exact rm_x mo_r | exact rm_x mo_f | exact rm_x mo_a | exact rm_x mo_n | exact rm_x mo_w | exact rm_o mo_r | exact rm_o mo_n | exact rm_c | apply rm_g | (apply rm_b; intro _) | apply rm_bif | split | (dsimp only; split))
theorem m_ifnull {tgt : Nat} : OpM (o_ifnull tgt) := by
  intro pc L st A
  unfold o_ifnull
  repeat' (first | exact rm_n | exact rm_x mo_r | exact rm_x mo_f | exact rm_x mo_a | exact rm_x mo_n | exact rm_x mo_w | exact rm_o mo_r | exact rm_o mo_n | exact rm_c | apply rm_g | (apply rm_b; intro _) | apply rm_bif | split | (dsimp only; split))
theorem m_ifnonnull {tgt : Nat} : OpM (o_ifnonnull tgt) := by
  intro pc L st A
  unfold o_ifnonnull
  repeat' (first | exact rm_n | exact rm_x mo_r | exact rm_x mo_f | exact rm_x mo_a | exact rm_x mo_n | exact rm_x mo_w | exact rm_o mo_r | exact rm_o mo_n | exact rm_c | apply rm_g | (apply rm_b; intro _) | apply rm_bif | split | (dsimp only; split))
theorem m_acmp {eq : Bool} {tgt : Nat} : OpM (o_acmp eq tgt) := by
  intro pc L st A
  unfold o_acmp
  repeat' (first | exact rm_n | exact rm_x mo_r | exact rm_x mo_f | exact rm_x mo_a | exact rm_x mo_n | exact rm_x mo_w | exact rm_o mo_r | exact rm_o mo_n | exact rm_c | apply rm_g | (apply rm_b; intro _) | apply rm_bif | split | (dsimp only; split))
theorem m_goto {tgt : Nat} : OpM (o_goto tgt) := by
  intro pc L st A
  unfold o_goto
  repeat' (first | exact rm_n | exact rm_x mo_r | exact rm_x mo_f | exact rm_x mo_a | exact rm_x mo_n | exact rm_x mo_w | exact rm_o mo_r | exact rm_o mo_n | exact rm_c | apply rm_g | (apply rm_b; intro _) | apply rm_bif | split | (dsimp only; split))
theorem m_sw {f : Int32 → Nat} : OpM (o_sw f) := by
  intro pc L st A
  unfold o_sw
  repeat' (first | exact rm_n | exact rm_x mo_r | exact rm_x mo_f | exact rm_x mo_a | exact rm_x mo_n | exact rm_x mo_w | exact rm_o mo_r | exact rm_o mo_n | exact rm_c | apply rm_g | (apply rm_b; intro _) | apply rm_bif | split | (dsimp only; split))
theorem m_dup : OpM (o_dup) := by
  intro pc L st A
  unfold o_dup
  repeat' (first | exact rm_n | exact rm_x mo_r | exact rm_x mo_f | exact rm_x mo_a | exact rm_x mo_n | exact rm_x mo_w | exact rm_o mo_r | exact rm_o mo_n | exact rm_c | apply rm_g | (apply rm_b; intro _) | apply rm_bif | split | (dsimp only; split))
theorem m_pop : OpM (o_pop) := by
  intro pc L st A
  unfold o_pop
  repeat' (first | exact rm_n | exact rm_x mo_r | exact rm_x mo_f | exact rm_x mo_a | exact rm_x mo_n | exact rm_x mo_w | exact rm_o mo_r | exact rm_o mo_n | exact rm_c | apply rm_g | (apply rm_b; intro _) | apply rm_bif | split | (dsimp only; split))
theorem m_dupx1 : OpM (o_dupx1) := by
  intro pc L st A
  unfold o_dupx1
  repeat' (first | exact rm_n | exact rm_x mo_r | exact rm_x mo_f | exact rm_x mo_a | exact rm_x mo_n | exact rm_x mo_w | exact rm_o mo_r | exact rm_o mo_n | exact rm_c | apply rm_g | (apply rm_b; intro _) | apply rm_bif | split | (dsimp only; split))
theorem m_dupx2 : OpM (o_dupx2) := by
  intro pc L st A
  unfold o_dupx2
  repeat' (first | exact rm_n | exact rm_x mo_r | exact rm_x mo_f | exact rm_x mo_a | exact rm_x mo_n | exact rm_x mo_w | exact rm_o mo_r | exact rm_o mo_n | exact rm_c | apply rm_g | (apply rm_b; intro _) | apply rm_bif | split | (dsimp only; split))
theorem m_dup2 : OpM (o_dup2) := by
  intro pc L st A
  unfold o_dup2
  repeat' (first | exact rm_n | exact rm_x mo_r | exact rm_x mo_f | exact rm_x mo_a | exact rm_x mo_n | exact rm_x mo_w | exact rm_o mo_r | exact rm_o mo_n | exact rm_c | apply rm_g | (apply rm_b; intro _) | apply rm_bif | split | (dsimp only; split))
theorem m_get {f : Nat} : OpM (o_get f) := by
  intro pc L st A
  unfold o_get
  repeat' (first | exact rm_n | exact rm_x mo_r | exact rm_x mo_f | exact rm_x mo_a | exact rm_x mo_n | exact rm_x mo_w | exact rm_o mo_r | exact rm_o mo_n | exact rm_c | apply rm_g | (apply rm_b; intro _) | apply rm_bif | split | (dsimp only; split))
theorem m_gets {f : Nat} : OpM (o_gets f) := by
  intro pc L st A
  unfold o_gets
  repeat' (first | exact rm_n | exact rm_x mo_r | exact rm_x mo_f | exact rm_x mo_a | exact rm_x mo_n | exact rm_x mo_w | exact rm_o mo_r | exact rm_o mo_n | exact rm_c | apply rm_g | (apply rm_b; intro _) | apply rm_bif | split | (dsimp only; split))
theorem m_put {f k : Nat} : OpM (o_put f k) := by
  intro pc L st A
  unfold o_put
  repeat' (first | exact rm_n | exact rm_x mo_r | exact rm_x mo_f | exact rm_x mo_a | exact rm_x mo_n | exact rm_x mo_w | exact rm_o mo_r | exact rm_o mo_n | exact rm_c | apply rm_g | (apply rm_b; intro _) | apply rm_bif | split | (dsimp only; split))
theorem m_rdI {t : Nat} : OpM (o_rdI t) := by
  intro pc L st A
  unfold o_rdI
  repeat' (first | exact rm_n | exact rm_x mo_r | exact rm_x mo_f | exact rm_x mo_a | exact rm_x mo_n | exact rm_x mo_w | exact rm_o mo_r | exact rm_o mo_n | exact rm_c | apply rm_g | (apply rm_b; intro _) | apply rm_bif | split | (dsimp only; split))
theorem m_rdIs {t : Nat} : OpM (o_rdIs t) := by
  intro pc L st A
  unfold o_rdIs
  repeat' (first | exact rm_n | exact rm_x mo_r | exact rm_x mo_f | exact rm_x mo_a | exact rm_x mo_n | exact rm_x mo_w | exact rm_o mo_r | exact rm_o mo_n | exact rm_c | apply rm_g | (apply rm_b; intro _) | apply rm_bif | split | (dsimp only; split))
theorem m_rdJ : OpM (o_rdJ) := by
  intro pc L st A
  unfold o_rdJ
  repeat' (first | exact rm_n | exact rm_x mo_r | exact rm_x mo_f | exact rm_x mo_a | exact rm_x mo_n | exact rm_x mo_w | exact rm_o mo_r | exact rm_o mo_n | exact rm_c | apply rm_g | (apply rm_b; intro _) | apply rm_bif | split | (dsimp only; split))
theorem m_rdD : OpM (o_rdD) := by
  intro pc L st A
  unfold o_rdD
  repeat' (first | exact rm_n | exact rm_x mo_r | exact rm_x mo_f | exact rm_x mo_a | exact rm_x mo_n | exact rm_x mo_w | exact rm_o mo_r | exact rm_o mo_n | exact rm_c | apply rm_g | (apply rm_b; intro _) | apply rm_bif | split | (dsimp only; split))
theorem m_rdQ : OpM (o_rdQ) := by
  intro pc L st A
  unfold o_rdQ
  repeat' (first | exact rm_n | exact rm_x mo_r | exact rm_x mo_f | exact rm_x mo_a | exact rm_x mo_n | exact rm_x mo_w | exact rm_o mo_r | exact rm_o mo_n | exact rm_c | apply rm_g | (apply rm_b; intro _) | apply rm_bif | split | (dsimp only; split))
theorem m_rdQs : OpM (o_rdQs) := by
  intro pc L st A
  unfold o_rdQs
  repeat' (first | exact rm_n | exact rm_x mo_r | exact rm_x mo_f | exact rm_x mo_a | exact rm_x mo_n | exact rm_x mo_w | exact rm_o mo_r | exact rm_o mo_n | exact rm_c | apply rm_g | (apply rm_b; intro _) | apply rm_bif | split | (dsimp only; split))
theorem m_wrI {t : Nat} : OpM (o_wrI t) := by
  intro pc L st A
  unfold o_wrI
  repeat' (first | exact rm_n | exact rm_x mo_r | exact rm_x mo_f | exact rm_x mo_a | exact rm_x mo_n | exact rm_x mo_w | exact rm_o mo_r | exact rm_o mo_n | exact rm_c | apply rm_g | (apply rm_b; intro _) | apply rm_bif | split | (dsimp only; split))
theorem m_wrJ : OpM (o_wrJ) := by
  intro pc L st A
  unfold o_wrJ
  repeat' (first | exact rm_n | exact rm_x mo_r | exact rm_x mo_f | exact rm_x mo_a | exact rm_x mo_n | exact rm_x mo_w | exact rm_o mo_r | exact rm_o mo_n | exact rm_c | apply rm_g | (apply rm_b; intro _) | apply rm_bif | split | (dsimp only; split))
theorem m_wrD : OpM (o_wrD) := by
  intro pc L st A
  unfold o_wrD
  repeat' (first | exact rm_n | exact rm_x mo_r | exact rm_x mo_f | exact rm_x mo_a | exact rm_x mo_n | exact rm_x mo_w | exact rm_o mo_r | exact rm_o mo_n | exact rm_c | apply rm_g | (apply rm_b; intro _) | apply rm_bif | split | (dsimp only; split))
theorem m_wrQ {t : Nat} {l : List Nat} : OpM (o_wrQ t l) := by
  intro pc L st A
  unfold o_wrQ
  repeat' (first | exact rm_n | exact rm_x mo_r | exact rm_x mo_f | exact rm_x mo_a | exact rm_x mo_n | exact rm_x mo_w | exact rm_o mo_r | exact rm_o mo_n | exact rm_c | apply rm_g | (apply rm_b; intro _) | apply rm_bif | split | (dsimp only; split))
theorem m_alen : OpM (o_alen) := by
  intro pc L st A
  unfold o_alen
  repeat' (first | exact rm_n | exact rm_x mo_r | exact rm_x mo_f | exact rm_x mo_a | exact rm_x mo_n | exact rm_x mo_w | exact rm_o mo_r | exact rm_o mo_n | exact rm_c | apply rm_g | (apply rm_b; intro _) | apply rm_bif | split | (dsimp only; split))
theorem m_alens : OpM (o_alens) := by
  intro pc L st A
  unfold o_alens
  repeat' (first | exact rm_n | exact rm_x mo_r | exact rm_x mo_f | exact rm_x mo_a | exact rm_x mo_n | exact rm_x mo_w | exact rm_o mo_r | exact rm_o mo_n | exact rm_c | apply rm_g | (apply rm_b; intro _) | apply rm_bif | split | (dsimp only; split))
theorem m_newa {t len : Nat} : OpM (o_newa t len) := by
  intro pc L st A
  unfold o_newa
  repeat' (first | exact rm_n | exact rm_x mo_r | exact rm_x mo_f | exact rm_x mo_a | exact rm_x mo_n | exact rm_x mo_w | exact rm_o mo_r | exact rm_o mo_n | exact rm_c | apply rm_g | (apply rm_b; intro _) | apply rm_bif | split | (dsimp only; split))
theorem m_new {ci n : Nat} {dv : Nat → Option Value} : OpM (o_new ci n dv) := by
  intro pc L st A
  unfold o_new
  repeat' (first | exact rm_n | exact rm_x mo_r | exact rm_x mo_f | exact rm_x mo_a | exact rm_x mo_n | exact rm_x mo_w | exact rm_o mo_r | exact rm_o mo_n | exact rm_c | apply rm_g | (apply rm_b; intro _) | apply rm_bif | split | (dsimp only; split))
theorem m_cast {l : List Nat} : OpM (o_cast l) := by
  intro pc L st A
  unfold o_cast
  repeat' (first | exact rm_n | exact rm_x mo_r | exact rm_x mo_f | exact rm_x mo_a | exact rm_x mo_n | exact rm_x mo_w | exact rm_o mo_r | exact rm_o mo_n | exact rm_c | apply rm_g | (apply rm_b; intro _) | apply rm_bif | split | (dsimp only; split))
theorem m_casta {t : Nat} : OpM (o_casta t) := by
  intro pc L st A
  unfold o_casta
  repeat' (first | exact rm_n | exact rm_x mo_r | exact rm_x mo_f | exact rm_x mo_a | exact rm_x mo_n | exact rm_x mo_w | exact rm_o mo_r | exact rm_o mo_n | exact rm_c | apply rm_g | (apply rm_b; intro _) | apply rm_bif | split | (dsimp only; split))
theorem m_inst {l l0 : List Nat} : OpM (o_inst l l0) := by
  intro pc L st A
  unfold o_inst
  repeat' (first | exact rm_n | exact rm_x mo_r | exact rm_x mo_f | exact rm_x mo_a | exact rm_x mo_n | exact rm_x mo_w | exact rm_o mo_r | exact rm_o mo_n | exact rm_c | apply rm_g | (apply rm_b; intro _) | apply rm_bif | split | (dsimp only; split))
theorem m_cs {y n : Nat} {vd : Bool} {hd : Option (List (Nat × Nat))} : OpM (o_cs y n vd hd) := by
  intro pc L st A
  unfold o_cs
  repeat' (first | exact rm_n | exact rm_x mo_r | exact rm_x mo_f | exact rm_x mo_a | exact rm_x mo_n | exact rm_x mo_w | exact rm_o mo_r | exact rm_o mo_n | exact rm_c | apply rm_g | (apply rm_b; intro _) | apply rm_bif | split | (dsimp only; split))
theorem m_ci {y n : Nat} : OpM (o_ci y n) := by
  intro pc L st A
  unfold o_ci
  repeat' (first | exact rm_n | exact rm_x mo_r | exact rm_x mo_f | exact rm_x mo_a | exact rm_x mo_n | exact rm_x mo_w | exact rm_o mo_r | exact rm_o mo_n | exact rm_c | apply rm_g | (apply rm_b; intro _) | apply rm_bif | split | (dsimp only; split))
theorem m_cv {tg : List (Nat × Nat)} {n len : Nat} {vd : Bool} {hd : Option (List (Nat × Nat))} : OpM (o_cv tg n len vd hd) := by
  intro pc L st A
  unfold o_cv
  repeat' (first | exact rm_n | exact rm_x mo_r | exact rm_x mo_f | exact rm_x mo_a | exact rm_x mo_n | exact rm_x mo_w | exact rm_o mo_r | exact rm_o mo_n | exact rm_c | apply rm_g | (apply rm_b; intro _) | apply rm_bif | split | (dsimp only; split))
theorem m_cvs {tg : List (Nat × Nat)} {n len : Nat} {vd : Bool} : OpM (o_cvs tg n len vd) := by
  intro pc L st A
  unfold o_cvs
  repeat' (first | exact rm_n | exact rm_x mo_r | exact rm_x mo_f | exact rm_x mo_a | exact rm_x mo_n | exact rm_x mo_w | exact rm_o mo_r | exact rm_o mo_n | exact rm_c | apply rm_g | (apply rm_b; intro _) | apply rm_bif | split | (dsimp only; split))
theorem m_cvN {tg : List (Nat × Nat)} {n : Nat} {vd : Bool} {E ns h : Nat} : OpM (o_cvN tg n vd E ns h) := by
  intro pc L st A
  unfold o_cvN
  repeat' (first | exact rm_n | exact rm_x mo_r | exact rm_x mo_f | exact rm_x mo_a | exact rm_x mo_n | exact rm_x mo_w | exact rm_o mo_r | exact rm_o mo_n | exact rm_c | apply rm_g | (apply rm_b; intro _) | apply rm_bif | split | (dsimp only; split))
theorem m_oi : OpM (o_oi) := by
  intro pc L st A
  unfold o_oi
  repeat' (first | exact rm_n | exact rm_x mo_r | exact rm_x mo_f | exact rm_x mo_a | exact rm_x mo_n | exact rm_x mo_w | exact rm_o mo_r | exact rm_o mo_n | exact rm_c | apply rm_g | (apply rm_b; intro _) | apply rm_bif | split | (dsimp only; split))
theorem m_ret {k : Nat} : OpM (o_ret k) := by
  intro pc L st A
  unfold o_ret
  repeat' (first | exact rm_n | exact rm_x mo_r | exact rm_x mo_f | exact rm_x mo_a | exact rm_x mo_n | exact rm_x mo_w | exact rm_o mo_r | exact rm_o mo_n | exact rm_c | apply rm_g | (apply rm_b; intro _) | apply rm_bif | split | (dsimp only; split))
theorem m_vret : OpM (o_vret) := by
  intro pc L st A
  unfold o_vret
  repeat' (first | exact rm_n | exact rm_x mo_r | exact rm_x mo_f | exact rm_x mo_a | exact rm_x mo_n | exact rm_x mo_w | exact rm_o mo_r | exact rm_o mo_n | exact rm_c | apply rm_g | (apply rm_b; intro _) | apply rm_bif | split | (dsimp only; split))
theorem m_athrow : OpM (o_athrow) := by
  intro pc L st A
  unfold o_athrow
  repeat' (first | exact rm_n | exact rm_x mo_r | exact rm_x mo_f | exact rm_x mo_a | exact rm_x mo_n | exact rm_x mo_w | exact rm_o mo_r | exact rm_o mo_n | exact rm_c | apply rm_g | (apply rm_b; intro _) | apply rm_bif | split | (dsimp only; split))
theorem m_thr0 {E : Nat} : OpM (o_thr0 E) := by
  intro pc L st A
  unfold o_thr0
  repeat' (first | exact rm_n | exact rm_x mo_r | exact rm_x mo_f | exact rm_x mo_a | exact rm_x mo_n | exact rm_x mo_w | exact rm_o mo_r | exact rm_o mo_n | exact rm_c | apply rm_g | (apply rm_b; intro _) | apply rm_bif | split | (dsimp only; split))
theorem m_cpI {t : Nat} : OpM (o_cpI t) := by
  intro pc L st A
  unfold o_cpI
  repeat' (first | exact rm_n | exact rm_x mo_r | exact rm_x mo_f | exact rm_x mo_a | exact rm_x mo_n | exact rm_x mo_w | exact rm_o mo_r | exact rm_o mo_n | exact rm_c | apply rm_g | (apply rm_b; intro _) | apply rm_bif | split | (dsimp only; split))
theorem m_cpQ {t : Nat} {l : List Nat} : OpM (o_cpQ t l) := by
  intro pc L st A
  unfold o_cpQ
  repeat' (first | exact rm_n | exact rm_x mo_r | exact rm_x mo_f | exact rm_x mo_a | exact rm_x mo_n | exact rm_x mo_w | exact rm_o mo_r | exact rm_o mo_n | exact rm_c | apply rm_g | (apply rm_b; intro _) | apply rm_bif | split | (dsimp only; split))
theorem m_cln : OpM (o_cln) := by
  intro pc L st A
  unfold o_cln
  repeat' (first | exact rm_n | exact rm_x mo_r | exact rm_x mo_f | exact rm_x mo_a | exact rm_x mo_n | exact rm_x mo_w | exact rm_o mo_r | exact rm_o mo_n | exact rm_c | apply rm_g | (apply rm_b; intro _) | apply rm_bif | split | (dsimp only; split))
theorem m_clnb : OpM (o_clnb) := by
  intro pc L st A
  unfold o_clnb
  repeat' (first | exact rm_n | exact rm_x mo_r | exact rm_x mo_f | exact rm_x mo_a | exact rm_x mo_n | exact rm_x mo_w | exact rm_o mo_r | exact rm_o mo_n | exact rm_c | apply rm_g | (apply rm_b; intro _) | apply rm_bif | split | (dsimp only; split))
theorem m_gcl {t k : Nat} : OpM (o_gcl t k) := by
  intro pc L st A
  unfold o_gcl
  repeat' (first | exact rm_n | exact rm_x mo_r | exact rm_x mo_f | exact rm_x mo_a | exact rm_x mo_n | exact rm_x mo_w | exact rm_o mo_r | exact rm_o mo_n | exact rm_c | apply rm_g | (apply rm_b; intro _) | apply rm_bif | split | (dsimp only; split))
/-! the whole -/
def ksz : List Nat → Nat
  | [] => 0
  | k :: ks => (match k with
    | 2 => 2
    | 4 => 2
    | _ => 1) + ksz ks
/-- a method's facts: name, words, code -/
def MtOK (T : Tb) (N : Nt) (I : Nat → Mi) (y : Nat) : Prop :=
  plainFor (N y).1 = true ∧ (N y).1.cls = (I y).1 ∧ ((I y).2.2.2.2.2 = true → (N y).1.name = "<init>") ∧ (((I y).2.2.2.1 = [] ∧ (N y).2 = ws_ (N y).1 (I y).2.1 (I y).2.2.1 (I y).2.2.2.2.1) ∨ (N y).2 = wsW_ (N y).1 (I y).2.1 (I y).2.2.1 (I y).2.2.2.2.1 (I y).2.2.2.1) ∧ (T y).1.2 = (I y).2.2.1 ∧ ksz (T y).1.1 ≤ (I y).2.2.1 ∧ ∀ pc op, (T y).2 pc = some op → OpOK N (I y) pc op ∧ OpM op
def NoM (T : Tb) (y : Nat) : Prop := ∀ pc, (T y).2 pc = none
def TbOK (T : Tb) (N : Nt) (I : Nat → Mi) : Prop := ∀ y, NoM T y ∨ MtOK T N I y
theorem ent_cons {k : Nat} {v : Value} {ks : List Nat} {as : List Value} (h : kOf k v = true) : ent (k :: ks) (v :: as) = (if v.category = 2 then some v :: none :: ent ks as else some v :: ent ks as) ∧ ksz (k :: ks) = (if v.category = 2 then 2 else 1) + ksz ks := by
  match k, v, h with
  | 0, .ref _, _ => exact ⟨rfl, rfl⟩
  | 0, .null, _ => exact ⟨rfl, rfl⟩
  | 1, .int _, _ => exact ⟨rfl, rfl⟩
  | 2, .long _, _ => exact ⟨rfl, rfl⟩
  | 3, .float _, _ => exact ⟨rfl, rfl⟩
  | 4, .double _, _ => exact ⟨rfl, rfl⟩
theorem ent_spec : ∀ (ks : List Nat) (as : List Value), chk ks as = true → (ent ks as).length = (lg_sl as).length ∧ (lg_sl as).length = ksz ks ∧ ∀ (i off : Nat) (v : Value), (ent ks as)[i]? = some (some v) → (off + i, v) ∈ lv_args off as
  | [], [], _ => ⟨rfl, rfl, fun i off v h => by cases h⟩
  | k :: ks, v :: as, h => by
    obtain ⟨h1, h2⟩ := Bool.and_eq_true_iff.mp (show (kOf k v && chk ks as) = true from h)
    obtain ⟨g1, g2, g3⟩ := ent_spec ks as h2
    obtain ⟨e1, e2⟩ := ent_cons (ks := ks) (as := as) h1
    rw [e1, e2]
    have e3 : lg_sl (v :: as) = (if v.category = 2 then [Slot.val v, Slot.second] else [Slot.val v]) ++ lg_sl as := rfl
    rw [e3]
    have e4 : ∀ off, lv_args off (v :: as) = (off, v) :: lv_args (if v.category = 2 then off + 2 else off + 1) as := fun _ => rfl
    by_cases hc : v.category = 2
    · simp only [hc, if_true, List.length_cons, List.length_append, List.length_nil]
      refine ⟨by omega, by omega, fun i off w hw => ?_⟩
      rw [e4, if_pos hc]
      match i, hw with
      | 0, hw => cases hw; exact List.mem_cons_self
      | 1, hw => cases hw
      | i + 2, hw =>
        have := g3 i (off + 2) w hw
        rw [show off + 2 + i = off + (i + 2) by omega] at this
        exact List.mem_cons_of_mem _ this
    · simp only [hc, if_false, List.length_cons, List.length_append, List.length_nil]
      refine ⟨by omega, by omega, fun i off w hw => ?_⟩
      rw [e4, if_neg hc]
      match i, hw with
      | 0, hw => cases hw; exact List.mem_cons_self
      | i + 1, hw =>
        have := g3 i (off + 1) w hw
        rw [show off + 1 + i = off + (i + 1) by omega] at this
        exact List.mem_cons_of_mem _ this
  | [], _ :: _, h => by cases h
  | _ :: _, [], h => by cases h
theorem ent_lvh {ks : List Nat} {as : List Value} {nL : Nat} (h : chk ks as = true) (hn : ksz ks ≤ nL) : lvh ((lg_sl as ++ List.replicate (nL - (lg_sl as).length) Slot.unset).toArray) nL (entL ks nL as) := by
  obtain ⟨g1, g2, g3⟩ := ent_spec ks as h
  obtain ⟨k1, k2, k3⟩ := lv_entry as (n := nL) (by omega)
  refine ⟨?_, k1, k2, fun i v hi _ => ?_⟩
  · unfold entL
    rw [List.length_append, List.length_replicate]
    omega
  · unfold entL at hi
    by_cases hl : i < (ent ks as).length
    · rw [List.getElem?_append_left hl] at hi
      have := k3 _ (g3 i 0 v hi)
      rw [Nat.zero_add] at this
      exact this
    · rw [List.getElem?_append_right (by omega)] at hi
      have := List.mem_of_getElem? hi
      have := List.eq_of_mem_replicate this
      cases this
theorem run_ok {T : Tb} {N : Nt} {I : Nat → Mi} {l : Launch} {d : Nat} (ihd : ∀ y as A x, evG T d y as A = some x → (nx A ≤ nx x.2 ∧ su A ≤ su x.2) ∧ ∀ (G : Ge) (d' : Nat), d = d' + 1 → CtM l G d' (N y).1 (N y).2 as A x) {y : Nat} (hy : MtOK T N I y) : ∀ (n : Nat) (c : Cf) (x : Out × Hp), stepN T (evG T d) y n c = some x →
    (nx c.2.2.2 ≤ nx x.2 ∧ su c.2.2.2 ≤ su x.2) ∧ ∀ (G : Ge) (p : Program) (e : Env) (R : Room) (s : State) (m : MethodId) (args : Array Value) (below : List Frame) (meth : Method) (c9 : Code) (b0 c0 : Nat) (Q : State → Prop), Cx G p l R s m args meth c9 (I y) d → Rm R b0 c0 x.2 → EndQ G below s args b0 c0 Q x → Wk G p l e R s m args below meth c9 (I y).2.2.1 b0 c0 Q c := by
  intro n
  induction n with
  | zero => intro c x h; cases h
  | succ n ih =>
    intro c x h
    have h : opN T (evG T d) y (stepN T (evG T d) y n) c = some x := h
    unfold opN at h
    split at h
    · cases h
    · next op hop =>
      obtain ⟨hok, hm⟩ := hy.2.2.2.2.2.2 _ _ hop
      cases hr : op c.1 c.2.1 c.2.2.1 c.2.2.2 with
      | none => rw [hr] at h; cases h
      | some r =>
        rw [hr] at h
        have hm := hm _ _ _ _ _ hr
        have hok : ∀ (G : Ge) (p : Program) (e : Env) (R : Room) (s : State) (m : MethodId) (args : Array Value) (below : List Frame) (meth : Method) (c9 : Code) (b0 c0 : Nat) (Q : State → Prop), Cx G p l R s m args meth c9 (I y) d → PostOK G N p l e R s m args below meth c9 (I y).2.2.1 b0 c0 d Q r → Wk G p l e R s m args below meth c9 (I y).2.2.1 b0 c0 Q c :=
          fun G p e R s m args below meth c9 b0 c0 Q hC hP => hok G p l e R s m args below meth c9 b0 c0 d Q hC _ _ _ r hr hP
        rcases r with c' | o | k
        · have h : stepN T (evG T d) y n c' = some x := h
          obtain ⟨m1, k1⟩ := ih c' x h
          have hm : nx c.2.2.2 ≤ nx c'.2.2.2 ∧ su c.2.2.2 ≤ su c'.2.2.2 := hm
          refine ⟨⟨Nat.le_trans hm.1 m1.1, Nat.le_trans hm.2 m1.2⟩, fun G p e R s m args below meth c9 b0 c0 Q hC hR hE => hok G p e R s m args below meth c9 b0 c0 Q hC ⟨⟨Nat.le_trans m1.1 hR.1, Nat.le_trans m1.2 hR.2⟩, k1 G p e R s m args below meth c9 b0 c0 Q hC hR hE⟩⟩
        · cases h
          exact ⟨hm, fun G p e R s m args below meth c9 b0 c0 Q hC hR hE => hok G p e R s m args below meth c9 b0 c0 Q hC ⟨hR, hE⟩⟩
        · have h : aftN (evG T d k.1 k.2.1 k.2.2.2.2.2.2.2) (stepN T (evG T d) y n) k = some x := h
          have hm : k.2.2.2.2.2.2.2 = c.2.2.2 := hm
          cases hx : evG T d k.1 k.2.1 k.2.2.2.2.2.2.2 with
          | none => rw [hx] at h; cases h
          | some x1 =>
            rw [hx] at h
            obtain ⟨m1, k1⟩ := ihd _ _ _ _ hx
            rw [hm] at m1
            have key : (nx x1.2 ≤ nx x.2 ∧ su x1.2 ≤ su x.2) ∧ ∀ (G : Ge) (p : Program) (e : Env) (R : Room) (s : State) (m : MethodId) (args : Array Value) (below : List Frame) (meth : Method) (c9 : Code) (b0 c0 : Nat) (Q : State → Prop), Cx G p l R s m args meth c9 (I y) d → Rm R b0 c0 x.2 → EndQ G below s args b0 c0 Q x → AftOK G p l e R s m args below meth c9 (I y).2.2.1 b0 c0 Q k x1 := by
              obtain ⟨o1, A1⟩ := x1
              unfold aftN at h
              unfold AftOK
              rcases o1 with v | t
              · cases v with
                | none =>
                  dsimp only at h ⊢
                  cases hb : k.2.2.1 with
                  | false => rw [hb] at h; cases h
                  | true =>
                    rw [hb] at h
                    obtain ⟨m2, k2⟩ := ih _ x h
                    exact ⟨m2, fun G p e R s m args below meth c9 b0 c0 Q hC hR hE => ⟨rfl, k2 G p e R s m args below meth c9 b0 c0 Q hC hR hE⟩⟩
                | some w =>
                  dsimp only at h ⊢
                  cases hb : k.2.2.1 with
                  | true => rw [hb] at h; cases h
                  | false =>
                    rw [hb] at h
                    obtain ⟨m2, k2⟩ := ih _ x h
                    exact ⟨m2, fun G p e R s m args below meth c9 b0 c0 Q hC hR hE => ⟨rfl, k2 G p e R s m args below meth c9 b0 c0 Q hC hR hE⟩⟩
              · dsimp only at h ⊢
                unfold ThrK
                cases hh : k.2.2.2.2.2.2.1 with
                | none =>
                  rw [hh] at h
                  cases h
                  exact ⟨⟨Nat.le_refl _, Nat.le_refl _⟩, fun G p e R s m args below meth c9 b0 c0 Q hC hR hE => hE⟩
                | some l9 =>
                  rw [hh] at h
                  dsimp only at h ⊢
                  cases hh2 : lkn l9 t.1 with
                  | none => rw [hh2] at h; cases h
                  | some h9 =>
                    rw [hh2] at h
                    obtain ⟨m2, k2⟩ := ih _ x h
                    exact ⟨m2, fun G p e R s m args below meth c9 b0 c0 Q hC hR hE => k2 G p e R s m args below meth c9 b0 c0 Q hC hR hE⟩
            refine ⟨⟨Nat.le_trans m1.1 key.1.1, Nat.le_trans m1.2 key.1.2⟩, fun G p e R s m args below meth c9 b0 c0 Q hC hR hE => hok G p e R s m args below meth c9 b0 c0 Q hC ?_⟩
            cases d with
            | zero => cases hx
            | succ d' => exact ⟨x1, d', rfl, k1 G d' rfl, ⟨Nat.le_trans key.1.1 hR.1, Nat.le_trans key.1.2 hR.2⟩, by rw [hm]; exact m1.1, by rw [hm]; exact m1.2, key.2 G p e R s m args below meth c9 b0 c0 Q hC hR hE⟩
/-- what the abstract machine computes, the machine does -/
theorem snd_ok {T : Tb} {N : Nt} {I : Nat → Mi} (hT : TbOK T N I) {l : Launch} (hl : l.stackTraces = false) : ∀ (d y : Nat) (as : List Value) (A : Hp) (x : Out × Hp), evG T d y as A = some x → (nx A ≤ nx x.2 ∧ su A ≤ su x.2) ∧ ∀ (G : Ge) (d' : Nat), d = d' + 1 → CtM l G d' (N y).1 (N y).2 as A x := by
  intro d
  induction d with
  | zero => intro y as A x h; cases h
  | succ d ihd =>
    intro y as A x h
    rcases hT y with hN | hy
    · exfalso
      cases hc : chk (T y).1.1 as with
      | false => rw [evG_eq, hc] at h; cases h
      | true =>
        rw [evG_eq, hc, cond_true, exG_eq] at h
        simp only [opN, hN 0] at h
        cases h
    · have hr := run_ok (l := l) ihd hy
      obtain ⟨h1, h2, h3, h4, h5, h6, -⟩ := hy
      cases hc : chk (T y).1.1 as with
      | false => rw [evG_eq, hc] at h; cases h
      | true =>
        rw [evG_eq, hc, cond_true] at h
        obtain ⟨n, hn⟩ := lim_ex h
        obtain ⟨m1, k1⟩ := hr n _ x hn
        refine ⟨m1, fun G d' e => ?_⟩
        have e : d' = d := (Nat.succ.inj e).symm
        subst e
        unfold CtM
        have body : ∀ p e s m args below meth c s₁, BodyLoose p l (N y).1 (headSpec (N y).2 (rmD d' (nx x.2 - nx A) (su x.2 - su A))) (I y).2.1 (I y).2.2.1 (I y).2.2.2.2.1 e s m args below meth c s₁ → c.maxLocals = (I y).2.2.1 → (∀ w ∈ lw_all, w.before args s = true) → c.exceptionTable.toList = tableOf (I y).2.2.2.1 → va_Pc as (fun U => GS G U ∧ geB G ≤ U.heap.size ∧ RepH G A U.heap) args s →
            W p l e (headSpec (N y).2 (rmD d' (nx x.2 - nx A) (su x.2 - su A))).room s m args below meth c s.heap [] 0 0 (vx_MQ below (Qr G x) (Xr G x) args s (nx x.2 - nx A) (su x.2 - su A) (geA G)) (entryFrame m args (I y).2.2.1) := by
          intro p e s m args below meth c s₁ B hml hts htab hP
          obtain ⟨rfl, hG, hB, hR⟩ := hP
          rw [lg_entry_eq]
          have hlv := ent_lvh hc h6
          rw [h5] at k1
          have m1 : nx A ≤ nx x.2 ∧ su A ≤ su x.2 := m1
          have hag : ∀ q : Nat, q < geB G → s.heap[q]? = (geH G)[q]? := hR.2.2.2.1
          refine k1 G p e (headSpec (N y).2 (rmD d' (nx x.2 - nx A) (su x.2 - su A))).room s m as.toArray below meth c (nx A) (su A) _ ⟨B.exec, B.bytes, hml, ?_, htab, B.returns, fun hi => ?_, hts, B.notSynchronized, hl, Nat.le_refl _, Nat.le_refl _, hG, hB, hag⟩ ⟨?_, ?_⟩ (fun t ht => ht) s.heap [] _ 0 0 hR va_S.rf hlv (by show 0 + nx A = nx A; omega) (by show 0 + su A = su A; omega)
          · rw [← h2]; exact findClass_of_methodNamed B.named
          · rw [(name_of_methodNamed B.named B.method).1]; exact h3 hi
          · show nx x.2 ≤ nx x.2 - nx A + nx A; omega
          · show su x.2 ≤ su x.2 - su A + su A; omega
        rcases h4 with ⟨h7, h8⟩ | h8
        · refine vx_ofW h1 h8 fun p e s m args below meth c s₁ B hml ht hP => body p e s m args below meth c s₁ B hml (fun w hw => atoms_spec (ws := (N y).2) B.pre w (by rw [h8]; exact List.mem_cons_of_mem _ hw)) ?_ hP
          rw [h7]
          cases hq : c.exceptionTable.toList with
          | nil => rfl
          | cons a b => exact (ht a (by rw [hq]; exact List.mem_cons_self)).elim
        · refine vx_ofWH h1 h8 fun p e s m args below meth c s₁ B hml hP => ?_
          have hts := atoms_spec (ws := (N y).2) B.pre
          exact body p e s m args below meth c s₁ B hml (fun w hw => hts w (by rw [h8]; exact List.mem_cons_of_mem _ hw)) (vx_table (x := (N y).1) B (hts _ (by rw [h8]; exact List.mem_cons_self))) hP

