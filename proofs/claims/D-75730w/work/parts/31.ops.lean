/-! THE OPS of the abstract machine, and what each does in an equation (x_) -/
def nx1 (pc : Nat) (L : Lc) (st : List Value) (A : Hp) : Rs := some (.inl (pc, (L, (st, A))))
def gd (b : Bool) (r : Rs) : Rs := bif b then r else none
def rg (v : Value) (r : Rv) : Rv := bif isR v then r else none
theorem rg_ref (p : Nat) (r : Rv) : rg (.ref p) r = r := rfl
theorem rg_null (r : Rv) : rg .null r = r := rfl
theorem isR_rf (o : Option Nat) : isR (va_rf o) = true := by cases o <;> rfl
theorem rg_rf (o : Option Nat) (r : Rv) : rg (va_rf o) r = r := by unfold rg; rw [isR_rf]; rfl
def ck (b : Bool) (r : Rv) : Rv := bif b then r else none
theorem ck_t (r : Rv) : ck true r = r := rfl
theorem ck_f (r : Rv) : ck false r = none := rfl
def c1 (v : Value) : Bool := v.category == 1
/-- what fits a field or an array's place, by kind: 0 reference, 1 int, 2 long, 3 float, 4 double, 5 boolean, 6 byte, 7 char, 8 short -/
def okv (k : Nat) (v : Value) : Bool := match k, v with
  | 0, v => isR v
  | 1, .int _ => true
  | 2, .long _ => true
  | 3, .float _ => true
  | 4, .double _ => true
  | 5, .int x => x == 0 || x == 1
  | 6, .int x => x.toInt8.toInt32 == x
  | 7, .int x => (x.toUInt32 % 65536).toInt32 == x
  | _, _ => false
theorem okv_i (x : Int32) : okv 1 (.int x) = true := rfl
theorem okv_l (x : Int64) : okv 2 (.long x) = true := rfl
theorem okv_r (p : Nat) : okv 0 (.ref p) = true := rfl
theorem okv_n : okv 0 .null = true := rfl
theorem okv_rf (o : Option Nat) : okv 0 (va_rf o) = true := isR_rf o
def bI (b : Bool) : Int32 := bif b then 1 else 0
theorem okv_b (b : Bool) : okv 5 (.int (bI b)) = true := by cases b <;> decide
theorem okv_b0 : okv 5 (.int 0) = true := by decide
theorem okv_b1 : okv 5 (.int 1) = true := by decide
def inb (i : Int32) (n : Nat) : Bool := decide (0 ≤ i) && decide (i.toNatClampNeg < n)
def rdI (t : Nat) (c : Option ArC) (i : Int32) : Option Int32 := match c with
  | some (t', (n, .inl f)) => bif Nat.beq t' t && inb i n then some (f i.toNatClampNeg) else none
  | _ => none
def rdJ (c : Option ArC) (i : Int32) : Option Int64 := match c with
  | some (3, (n, .inr (.inl f))) => bif inb i n then some (f i.toNatClampNeg) else none
  | _ => none
def rdD (c : Option ArC) (i : Int32) : Option UInt64 := match c with
  | some (4, (n, .inr (.inr (.inr (.inl f))))) => bif inb i n then some (f i.toNatClampNeg) else none
  | _ => none
def rdQ (c : Option ArC) (i : Int32) : Option (Option Nat) := match c with
  | some (t, (n, .inr (.inr (.inr (.inr f))))) => bif Nat.ble 5 t && inb i n then some (f i.toNatClampNeg) else none
  | _ => none
/-- the int that an array of this tag keeps -/
def narT (t : Nat) (x : Int32) : Int32 := match t with
  | 1 => vp_nar .byte x
  | 2 => vp_nar .boolean x
  | _ => x
def wrI (t : Nat) (c : Option ArC) (i x : Int32) : Option ArC := match c with
  | some (t', (n, .inl f)) => bif Nat.beq t' t && inb i n then some (t', (n, .inl (upd f i.toNatClampNeg (narT t x)))) else none
  | _ => none
def wrJ (c : Option ArC) (i : Int32) (x : Int64) : Option ArC := match c with
  | some (3, (n, .inr (.inl f))) => bif inb i n then some (3, (n, .inr (.inl (vp_updL f i.toNatClampNeg x)))) else none
  | _ => none
def wrD (c : Option ArC) (i : Int32) (x : UInt64) : Option ArC := match c with
  | some (4, (n, .inr (.inr (.inr (.inl f))))) => bif inb i n then some (4, (n, .inr (.inr (.inr (.inl (vf_upd f i.toNatClampNeg x)))))) else none
  | _ => none
def wrQ (c : Option ArC) (i : Int32) (o : Option Nat) : Option ArC := match c with
  | some (t, (n, .inr (.inr (.inr (.inr f))))) => bif Nat.ble 5 t && inb i n then some (t, (n, .inr (.inr (.inr (.inr (va_up f i.toNatClampNeg o)))))) else none
  | _ => none
def aln (c : Option ArC) : Option Int32 := c.map (fun c => nI c.2.1)
def okn (n : Int32) : Bool := decide (0 ≤ n) && decide (n.toNatClampNeg ≤ 60000000)
/-- an array's first contents, by tag -/
def zar (t : Nat) (n : Nat) : ArC := match t with
  | 0 => (0, (n, .inl (fun _ => 0)))
  | 1 => (1, (n, .inl (fun _ => 0)))
  | 2 => (2, (n, .inl (fun _ => 0)))
  | 3 => (3, (n, .inr (.inl (fun _ => 0))))
  | 4 => (4, (n, .inr (.inr (.inr (.inl (fun _ => 0))))))
  | t + 5 => (t + 5, (n, .inr (.inr (.inr (.inr (fun _ => none))))))
def sel (c : Option Nat) (tg : List (Nat × Nat)) : Option Nat := c.bind (lkn tg)
theorem sel_some (ci : Nat) (tg : List (Nat × Nat)) : sel (some ci) tg = lkn tg ci := rfl
/-- whether a class is in a list -/
def cin (c : Option Nat) (l : List Nat) : Bool := match c with
  | some ci => l.any (fun k => Nat.beq k ci)
  | none => false
def swt (lo : Int) (ts : List Nat) (df : Nat) (x : Int32) : Nat := if x.toInt < lo then df else ts.getD (x.toInt - lo).toNat df
def lsw : List (Int32 × Nat) → Nat → Int32 → Nat
  | [], df, _ => df
  | (k, t) :: r, df, x => if x = k then t else lsw r df x
-- ops
def o_push (len : Nat) (v : Value) : Op := fun pc L st A => nx1 (pc + len) L (v :: st) A
def o_pushA (len k : Nat) : Op := fun pc L st A => nx1 (pc + len) L (.ref (sAd (sg A) k) :: st) A
def o_pushR (len k : Nat) : Op := fun pc L st A => nx1 (pc + len) L (va_rf (sRf (sg A) k) :: st) A
def o_iload (i len : Nat) : Op := fun pc L st A => match L[i]? with
  | some (some (.int x)) => nx1 (pc + len) L (.int x :: st) A
  | _ => none
def o_fload (i len : Nat) : Op := fun pc L st A => match L[i]? with
  | some (some (.float x)) => nx1 (pc + len) L (.float x :: st) A
  | _ => none
def o_lload (i len : Nat) : Op := fun pc L st A => match L[i]?, L[i + 1]? with
  | some (some (.long x)), some none => nx1 (pc + len) L (.long x :: st) A
  | _, _ => none
def o_dload (i len : Nat) : Op := fun pc L st A => match L[i]?, L[i + 1]? with
  | some (some (.double x)), some none => nx1 (pc + len) L (.double x :: st) A
  | _, _ => none
def o_aload (i len : Nat) : Op := fun pc L st A => match L[i]? with
  | some (some v) => gd (isR v) (nx1 (pc + len) L (v :: st) A)
  | _ => none
def o_istore (i len : Nat) : Op := fun pc L st A => match st with
  | .int x :: r => gd (Nat.blt i L.length) (nx1 (pc + len) (L.set i (some (.int x))) r A)
  | _ => none
def o_fstore (i len : Nat) : Op := fun pc L st A => match st with
  | .float x :: r => gd (Nat.blt i L.length) (nx1 (pc + len) (L.set i (some (.float x))) r A)
  | _ => none
def o_lstore (i len : Nat) : Op := fun pc L st A => match st with
  | .long x :: r => gd (Nat.blt (i + 1) L.length) (nx1 (pc + len) ((L.set i (some (.long x))).set (i + 1) none) r A)
  | _ => none
def o_dstore (i len : Nat) : Op := fun pc L st A => match st with
  | .double x :: r => gd (Nat.blt (i + 1) L.length) (nx1 (pc + len) ((L.set i (some (.double x))).set (i + 1) none) r A)
  | _ => none
def o_astore (i len : Nat) : Op := fun pc L st A => match st with
  | v :: r => gd (isR v && Nat.blt i L.length) (nx1 (pc + len) (L.set i (some v)) r A)
  | _ => none
def o_iinc (i : Nat) (k : Int32) : Op := fun pc L st A => match L[i]? with
  | some (some (.int x)) => nx1 (pc + 3) (L.set i (some (.int (x + k)))) st A
  | _ => none
def o_iop (f : Int32 → Int32 → Int32) : Op := fun pc L st A => match st with
  | .int y :: .int x :: r => nx1 (pc + 1) L (.int (f x y) :: r) A
  | _ => none
def o_iopz (f : Int32 → Int32 → Int32) : Op := fun pc L st A => match st with
  | .int y :: .int x :: r => gd (decide (¬ y = 0)) (nx1 (pc + 1) L (.int (f x y) :: r) A)
  | _ => none
def o_lop (f : Int64 → Int64 → Int64) : Op := fun pc L st A => match st with
  | .long y :: .long x :: r => nx1 (pc + 1) L (.long (f x y) :: r) A
  | _ => none
def o_lcmp : Op := fun pc L st A => match st with
  | .long y :: .long x :: r => nx1 (pc + 1) L (.int (lg_cmp x y) :: r) A
  | _ => none
def o_fcmp (op : CmpOp) : Op := fun pc L st A => match st with
  | .float y :: .float x :: r => nx1 (pc + 1) L (.int (Op.cmpValue (FP.fcmp x y) op) :: r) A
  | _ => none
def o_dcmp (op : CmpOp) : Op := fun pc L st A => match st with
  | .double y :: .double x :: r => nx1 (pc + 1) L (.int (Op.cmpValue (FP.dcmp x y) op) :: r) A
  | _ => none
def o_ii (f : Int32 → Int32) : Op := fun pc L st A => match st with
  | .int x :: r => nx1 (pc + 1) L (.int (f x) :: r) A
  | _ => none
def o_i2l : Op := fun pc L st A => match st with
  | .int x :: r => nx1 (pc + 1) L (.long x.toInt64 :: r) A
  | _ => none
def o_i2f : Op := fun pc L st A => match st with
  | .int x :: r => nx1 (pc + 1) L (.float (FP.i2f x) :: r) A
  | _ => none
def o_i2d : Op := fun pc L st A => match st with
  | .int x :: r => nx1 (pc + 1) L (.double (FP.i2d x) :: r) A
  | _ => none
def o_l2d : Op := fun pc L st A => match st with
  | .long x :: r => nx1 (pc + 1) L (.double (FP.l2d x) :: r) A
  | _ => none
def b_n64 (r : UInt64) : Bool := decide (r &&& 0x7fffffffffffffff ≤ 0x7ff0000000000000)
def b_n32 (r : UInt32) : Bool := decide (r &&& 0x7fffffff ≤ 0x7f800000)
def o_f2d : Op := fun pc L st A => match st with
  | .float x :: r => gd (b_n64 (FP.f2d x)) (nx1 (pc + 1) L (.double (FP.f2d x) :: r) A)
  | _ => none
def o_fdiv : Op := fun pc L st A => match st with
  | .float y :: .float x :: r => gd (b_n32 (FP.fdiv x y)) (nx1 (pc + 1) L (.float (FP.fdiv x y) :: r) A)
  | _ => none
def o_ddiv : Op := fun pc L st A => match st with
  | .double y :: .double x :: r => gd (b_n64 (FP.ddiv x y)) (nx1 (pc + 1) L (.double (FP.ddiv x y) :: r) A)
  | _ => none
def o_if (t : Int32 → Bool) (tgt : Nat) : Op := fun pc L st A => match st with
  | .int x :: r => nx1 (bif t x then tgt else pc + 3) L r A
  | _ => none
def o_icmp (t : Int32 → Int32 → Bool) (tgt : Nat) : Op := fun pc L st A => match st with
  | .int y :: .int x :: r => nx1 (bif t x y then tgt else pc + 3) L r A
  | _ => none
def o_ifnull (tgt : Nat) : Op := fun pc L st A => match st with
  | .null :: r => nx1 tgt L r A
  | .ref _ :: r => nx1 (pc + 3) L r A
  | _ => none
def o_ifnonnull (tgt : Nat) : Op := fun pc L st A => match st with
  | .null :: r => nx1 (pc + 3) L r A
  | .ref _ :: r => nx1 tgt L r A
  | _ => none
/-- the address behind a reference -/
def rfo (v : Value) : Option (Option Nat) := match v with
  | .ref p => some (some p)
  | .null => some none
  | _ => none
theorem rfo_rf (o : Option Nat) : rfo (va_rf o) = some o := by cases o <;> rfl
def o_acmp (eq : Bool) (tgt : Nat) : Op := fun pc L st A => match st with
  | y :: x :: r => (rfo x).bind fun a => (rfo y).bind fun b => nx1 (bif (decide (a = b) == eq) then tgt else pc + 3) L r A
  | _ => none
def o_goto (tgt : Nat) : Op := fun _ L st A => nx1 tgt L st A
def o_sw (f : Int32 → Nat) : Op := fun _ L st A => match st with
  | .int x :: r => nx1 (f x) L r A
  | _ => none
def o_dup : Op := fun pc L st A => match st with
  | v :: r => gd (c1 v) (nx1 (pc + 1) L (v :: v :: r) A)
  | _ => none
def o_pop : Op := fun pc L st A => match st with
  | v :: r => gd (c1 v) (nx1 (pc + 1) L r A)
  | _ => none
def o_dupx1 : Op := fun pc L st A => match st with
  | a :: b :: r => gd (c1 a && c1 b) (nx1 (pc + 1) L (a :: b :: a :: r) A)
  | _ => none
def o_dupx2 : Op := fun pc L st A => match st with
  | a :: b :: c :: r => gd (c1 a && (c1 b && c1 c)) (nx1 (pc + 1) L (a :: b :: c :: a :: r) A)
  | _ => none
def o_dup2 : Op := fun pc L st A => match st with
  | a :: b :: r => gd (c1 a && c1 b) (nx1 (pc + 1) L (a :: b :: a :: b :: r) A)
  | _ => none
def o_get (f : Nat) : Op := fun pc L st A => match st with
  | .ref p :: r => (gf A p f).bind fun v => nx1 (pc + 3) L (v :: r) A
  | _ => none
def o_gets (f : Nat) : Op := fun pc L st A => match st with
  | .ref p :: r => (gfs A p f).bind fun v => nx1 (pc + 3) L (v :: r) A
  | _ => none
def o_put (f k : Nat) : Op := fun pc L st A => match st with
  | v :: .ref p :: r => gd ((gf A p f).isSome && okv k v) (nx1 (pc + 3) L r (setf A p f v))
  | _ => none
def o_rdI (t : Nat) : Op := fun pc L st A => match st with
  | .int i :: .ref p :: r => (rdI t (ga A p) i).bind fun v => nx1 (pc + 1) L (.int v :: r) A
  | _ => none
def o_rdIs (t : Nat) : Op := fun pc L st A => match st with
  | .int i :: .ref p :: r => (rdI t (gas A p) i).bind fun v => nx1 (pc + 1) L (.int v :: r) A
  | _ => none
def o_rdJ : Op := fun pc L st A => match st with
  | .int i :: .ref p :: r => (rdJ (ga A p) i).bind fun v => nx1 (pc + 1) L (.long v :: r) A
  | _ => none
def o_rdD : Op := fun pc L st A => match st with
  | .int i :: .ref p :: r => (rdD (ga A p) i).bind fun v => nx1 (pc + 1) L (.double v :: r) A
  | _ => none
def o_rdQ : Op := fun pc L st A => match st with
  | .int i :: .ref p :: r => (rdQ (ga A p) i).bind fun v => nx1 (pc + 1) L (va_rf v :: r) A
  | _ => none
def o_rdQs : Op := fun pc L st A => match st with
  | .int i :: .ref p :: r => (rdQ (gas A p) i).bind fun v => nx1 (pc + 1) L (va_rf v :: r) A
  | _ => none
def o_wrI (t : Nat) : Op := fun pc L st A => match st with
  | .int x :: .int i :: .ref p :: r => (wrI t (ga A p) i x).bind fun c => nx1 (pc + 1) L r (seta A p c)
  | _ => none
def o_wrJ : Op := fun pc L st A => match st with
  | .long x :: .int i :: .ref p :: r => (wrJ (ga A p) i x).bind fun c => nx1 (pc + 1) L r (seta A p c)
  | _ => none
def o_wrD : Op := fun pc L st A => match st with
  | .double x :: .int i :: .ref p :: r => (wrD (ga A p) i x).bind fun c => nx1 (pc + 1) L r (seta A p c)
  | _ => none
/-- a reference into an array of references of tag t: null, or of a class of the list -/
def okq (A : Hp) (l : List Nat) (v : Value) : Bool := match v with
  | .null => true
  | .ref q => cin (gcs A q) l
  | _ => false
def atag (c : Option ArC) (t : Nat) : Bool := match c with
  | some (t', _) => Nat.beq t' t
  | none => false
def o_wrQ (t : Nat) (l : List Nat) : Op := fun pc L st A => match st with
  | v :: .int i :: .ref p :: r => gd (atag (ga A p) t && okq A l v) ((rfo v).bind fun o => (wrQ (ga A p) i o).bind fun c => nx1 (pc + 1) L r (seta A p c))
  | _ => none
def o_alen : Op := fun pc L st A => match st with
  | .ref p :: r => (aln (ga A p)).bind fun n => nx1 (pc + 1) L (.int n :: r) A
  | _ => none
def o_alens : Op := fun pc L st A => match st with
  | .ref p :: r => (aln (gas A p)).bind fun n => nx1 (pc + 1) L (.int n :: r) A
  | _ => none
def o_newa (t len : Nat) : Op := fun pc L st A => match st with
  | .int n :: r => gd (okn n) (nx1 (pc + len) L (.ref (nx A) :: r) (newa A (zar t n.toNatClampNeg)))
  | _ => none
def o_new (ci n : Nat) (dv : Nat → Option Value) : Op := fun pc L st A => nx1 (pc + 3) L (.ref (nx A) :: st) (newo A ci n dv)
def o_cast (l : List Nat) : Op := fun pc L st A => match st with
  | .null :: r => nx1 (pc + 3) L (.null :: r) A
  | .ref p :: r => gd (cin (gcs A p) l) (nx1 (pc + 3) L (.ref p :: r) A)
  | _ => none
def o_casta (t : Nat) : Op := fun pc L st A => match st with
  | .ref p :: r => gd (atag (ga A p) t) (nx1 (pc + 3) L (.ref p :: r) A)
  | _ => none
def o_inst (l l0 : List Nat) : Op := fun pc L st A => match st with
  | .null :: r => nx1 (pc + 3) L (.int 0 :: r) A
  | .ref p :: r => bif cin (gcs A p) l then nx1 (pc + 3) L (.int 1 :: r) A else gd (cin (gcs A p) l0) (nx1 (pc + 3) L (.int 0 :: r) A)
  | _ => none
/-- what may lie under a call's arguments -/
def gck (l : List Value) : Bool := Nat.ble l.length 4 || (Nat.ble l.length 8 && l.all c1)
def callR (y : Nat) (as : List Value) (vd : Bool) (pc : Nat) (L : Lc) (rest : List Value) (hd : Option (List (Nat × Nat))) (A : Hp) : Rs := gd (gck rest) (some (.inr (.inr (y, (as, (vd, (pc, (L, (rest, (hd, A)))))))))) 
/-- static -/
def o_cs (y n : Nat) (vd : Bool) (hd : Option (List (Nat × Nat))) : Op := fun pc L st A => gd (Nat.ble n st.length) (callR y (st.take n).reverse vd (pc + 3) L (st.drop n) hd A)
/-- a constructor -/
def o_ci (y n : Nat) : Op := fun pc L st A => match st.drop n with
  | .ref p :: r => callR y (.ref p :: (st.take n).reverse) true (pc + 3) L r none A
  | _ => none
/-- by the receiver's class -/
def o_cv (tg : List (Nat × Nat)) (n len : Nat) (vd : Bool) (hd : Option (List (Nat × Nat))) : Op := fun pc L st A => match st.drop n with
  | .ref p :: r => (sel (gc A p) tg).bind fun y => callR y (.ref p :: (st.take n).reverse) vd (pc + len) L r hd A
  | _ => none
/-- .. that may stand still -/
def o_cvs (tg : List (Nat × Nat)) (n len : Nat) (vd : Bool) : Op := fun pc L st A => match st.drop n with
  | .ref p :: r => (sel (gcs A p) tg).bind fun y => callR y (.ref p :: (st.take n).reverse) vd (pc + len) L r none A
  | _ => none
/-- .. or null, which is caught in the same method: a NullPointerException of class E is made -/
def o_cvN (tg : List (Nat × Nat)) (n : Nat) (vd : Bool) (E ns h : Nat) : Op := fun pc L st A => match st.drop n with
  | .ref p :: r => (sel (gc A p) tg).bind fun y => callR y (.ref p :: (st.take n).reverse) vd (pc + 3) L r (some []) A
  | .null :: r => gd (Nat.ble r.length 4) (nx1 h L [.ref (nx A)] (newo A E ns (fun _ => none)))
  | _ => none
/-- Object's constructor -/
def o_oi : Op := fun pc L st A => match st with
  | .ref _ :: r => gd (Nat.ble r.length 4) (nx1 (pc + 3) L r A)
  | _ => none
def o_ret (k : Nat) : Op := fun _ _ st A => match st with
  | [v] => gd (okv k v) (some (.inr (.inl (.inl (some v), A))))
  | _ => none
def o_vret : Op := fun _ _ st A => match st with
  | [] => some (.inr (.inl (.inl none, A)))
  | _ => none
def o_athrow : Op := fun _ _ st A => match st with
  | .ref p :: _ => (gc A p).bind fun ci => some (.inr (.inl (.inr (ci, p), A)))
  | _ => none
def o_thr0 (E : Nat) : Op := fun _ _ st A => gd (Nat.ble st.length 4) (some (.inr (.inl (.inr (E, nx A), newo A E 6 (fun _ => none)))))
/-- System.arraycopy: ints (of a tag), references -/
def cpI (t : Nat) (c0 c1 : Option ArC) (sp dp n : Int32) : Option ArC := match c0, c1 with
  | some (t0, (n0, .inl f)), some (t1, (n1, .inl g)) => bif (Nat.beq t0 t && Nat.beq t1 t) && ((decide (0 ≤ sp) && decide (0 ≤ dp) && decide (0 ≤ n)) && (Nat.ble (sp.toNatClampNeg + n.toNatClampNeg) n0 && Nat.ble (dp.toNatClampNeg + n.toNatClampNeg) n1)) then some (t1, (n1, .inl (va_cpy f g sp.toNatClampNeg dp.toNatClampNeg n.toNatClampNeg))) else none
  | _, _ => none
def cpQ (t : Nat) (c0 c1 : Option ArC) (sp dp n : Int32) : Option ArC := match c0, c1 with
  | some (t0, (n0, .inr (.inr (.inr (.inr f))))), some (t1, (n1, .inr (.inr (.inr (.inr g))))) => bif (Nat.beq t0 t && Nat.beq t1 t) && ((decide (0 ≤ sp) && decide (0 ≤ dp) && decide (0 ≤ n)) && (Nat.ble (sp.toNatClampNeg + n.toNatClampNeg) n0 && Nat.ble (dp.toNatClampNeg + n.toNatClampNeg) n1)) then some (t1, (n1, .inr (.inr (.inr (.inr (va_cpy f g sp.toNatClampNeg dp.toNatClampNeg n.toNatClampNeg)))))) else none
  | _, _ => none
def o_cpI (t : Nat) : Op := fun pc L st A => match st with
  | .int n :: .int dp :: .ref b :: .int sp :: .ref a :: r => gd (Nat.ble r.length 4) ((cpI t (ga A a) (ga A b) sp dp n).bind fun c => nx1 (pc + 3) L r (seta A b c))
  | _ => none
/-- every reference that is copied is of a class of the list (for the machine's check of the store) -/
def okcp (A : Hp) (l : List Nat) (c0 : Option ArC) (sp n : Int32) : Bool := match c0 with
  | some (_, (_, .inr (.inr (.inr (.inr f))))) => (List.range n.toNatClampNeg).all fun i => match f (sp.toNatClampNeg + i) with
    | some q => cin (gcs A q) l
    | none => true
  | _ => false
def o_cpQ (t : Nat) (l : List Nat) : Op := fun pc L st A => match st with
  | .int n :: .int dp :: .ref b :: .int sp :: .ref a :: r => gd (Nat.ble r.length 4 && okcp A l (ga A a) sp n) ((cpQ t (ga A a) (ga A b) sp dp n).bind fun c => nx1 (pc + 3) L r (seta A b c))
  | _ => none
/-- a clone of an int array -/
def o_cln : Op := fun pc L st A => match st with
  | .ref p :: r => match ga A p with
    | some (0, (n, .inl f)) => gd (Nat.ble r.length 4) (nx1 (pc + 3) L (.ref (nx A) :: r) (newa A (0, (n, .inl f))))
    | _ => none
  | _ => none
/-- a clone of a byte array -/
def o_clnb : Op := fun pc L st A => match st with
  | .ref p :: r => match ga A p with
    | some (1, (n, .inl f)) => gd (Nat.ble r.length 4) (nx1 (pc + 3) L (.ref (nx A) :: r) (newa A (1, (n, .inl f))))
    | _ => none
  | _ => none
/-- getClass of an array of tag t: the named address k -/
def o_gcl (t k : Nat) : Op := fun pc L st A => match st with
  | .ref p :: r => gd (atag (ga A p) t && Nat.ble r.length 4) (nx1 (pc + 3) L (.ref (sAd (sg A) k) :: r) A)
  | _ => none
