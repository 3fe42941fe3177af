/-! equations, one a kind of op -/
def afv (x : Rv) (k : Value → Hp → Rv) (h : Nat → Nat → Hp → Rv) : Rv := match x with
  | some (.inl (some v), A') => k v A'
  | some (.inr t, A') => h t.1 t.2 A'
  | _ => none
def af0 (x : Rv) (k : Hp → Rv) (h : Nat → Nat → Hp → Rv) : Rv := match x with
  | some (.inl none, A') => k A'
  | some (.inr t, A') => h t.1 t.2 A'
  | _ => none
def thr (E q : Nat) (A : Hp) : Rv := some (.inr (E, q), A)
theorem afv_r (v : Value) (A' : Hp) (k : Value → Hp → Rv) (h : Nat → Nat → Hp → Rv) : afv (some (.inl (some v), A')) k h = k v A' := rfl
theorem afv_t (E q : Nat) (A' : Hp) (k : Value → Hp → Rv) (h : Nat → Nat → Hp → Rv) : afv (some (.inr (E, q), A')) k h = h E q A' := rfl
theorem af0_r (A' : Hp) (k : Hp → Rv) (h : Nat → Nat → Hp → Rv) : af0 (some (.inl none, A')) k h = k A' := rfl
theorem af0_t (E q : Nat) (A' : Hp) (k : Hp → Rv) (h : Nat → Nat → Hp → Rv) : af0 (some (.inr (E, q), A')) k h = h E q A' := rfl
noncomputable def hdv (T : Tb) (d m : Nat) (L : Lc) (hd : Option (List (Nat × Nat))) (E q : Nat) (A1 : Hp) : Rv := match hd with
  | none => some (.inr (E, q), A1)
  | some l => match lkn l E with
    | some h => exG T d m h L [.ref q] A1
    | none => none
section XE
variable {T : Tb} {d m pc : Nat} {L : Lc} {st r : List Value} {A : Hp}
theorem x_nx {op : Op} (h : (T m).2 pc = some op) {pc' : Nat} {L' : Lc} {st' : List Value} {A' : Hp} (e : op pc L st A = some (.inl (pc', (L', (st', A'))))) : exG T d m pc L st A = exG T d m pc' L' st' A' := by
  rw [exG_at h, e]; rfl
theorem x_gd {op : Op} (h : (T m).2 pc = some op) {b : Bool} {pc' : Nat} {L' : Lc} {st' : List Value} {A' : Hp} (e : op pc L st A = gd b (nx1 pc' L' st' A')) : exG T d m pc L st A = ck b (exG T d m pc' L' st' A') := by
  rw [exG_at h, e]; cases b <;> rfl
theorem x_rg {op : Op} (h : (T m).2 pc = some op) {v : Value} {pc' : Nat} {L' : Lc} {st' : List Value} {A' : Hp} (e : op pc L st A = gd (isR v) (nx1 pc' L' st' A')) : exG T d m pc L st A = rg v (exG T d m pc' L' st' A') := x_gd h e
theorem x_rgt {op : Op} (h : (T m).2 pc = some op) {v : Value} {pc' : Nat} {L' : Lc} {st' : List Value} {A' : Hp} (e : op pc L st A = gd (isR v && true) (nx1 pc' L' st' A')) : exG T d m pc L st A = rg v (exG T d m pc' L' st' A') := by
  rw [Bool.and_true] at e
  exact x_gd h e
theorem x_bd {α : Type} {op : Op} (h : (T m).2 pc = some op) {o : Option α} {k : α → Rs} {k' : α → Rv} (e : op pc L st A = o.bind k) (hk : ∀ a, rsN (evG T d) (goG T d m) (k a) = k' a) : exG T d m pc L st A = o.bind k' := by
  rw [exG_at h, e]
  cases o with
  | none => rfl
  | some a => exact hk a
theorem x_if {op : Op} (h : (T m).2 pc = some op) {b : Bool} {P : Prop} [Decidable P] (hb : b = decide P) {p1 p2 : Nat} (e : op pc L st A = nx1 (bif b then p1 else p2) L r A) : exG T d m pc L st A = if P then exG T d m p1 L r A else exG T d m p2 L r A := by
  rw [exG_at h, e, hb]
  by_cases hp : P
  · rw [if_pos hp, decide_eq_true hp]; rfl
  · rw [if_neg hp, decide_eq_false hp]; rfl
theorem x_out {op : Op} (h : (T m).2 pc = some op) {o : Out} {A' : Hp} (e : op pc L st A = some (.inr (.inl (o, A')))) : exG T d m pc L st A = some (o, A') := by
  rw [exG_at h, e]; rfl
theorem x_outg {op : Op} (h : (T m).2 pc = some op) {b : Bool} {o : Out} {A' : Hp} (e : op pc L st A = gd b (some (.inr (.inl (o, A'))))) : exG T d m pc L st A = ck b (some (o, A')) := by
  rw [exG_at h, e]; cases b <;> rfl
theorem rs_cv (y : Nat) (as : List Value) (pc' : Nat) (L' : Lc) (rest : List Value) (hd : Option (List (Nat × Nat))) (A' : Hp) (hr : gck rest = true) {hh : Nat → Nat → Hp → Rv} (hhd : ∀ E q A1, hdv T d m L' hd E q A1 = hh E q A1) :
    rsN (evG T d) (goG T d m) (callR y as false pc' L' rest hd A') = afv (evG T d y as A') (fun v A1 => exG T d m pc' L' (v :: rest) A1) hh := by
  unfold callR
  rw [hr]
  show aftN (evG T d y as A') (goG T d m) _ = _
  generalize evG T d y as A' = x
  rcases x with _ | ⟨v | t, A1⟩
  · rfl
  · cases v <;> rfl
  · exact hhd _ _ _
theorem rs_c0 (y : Nat) (as : List Value) (pc' : Nat) (L' : Lc) (rest : List Value) (hd : Option (List (Nat × Nat))) (A' : Hp) (hr : gck rest = true) {hh : Nat → Nat → Hp → Rv} (hhd : ∀ E q A1, hdv T d m L' hd E q A1 = hh E q A1) :
    rsN (evG T d) (goG T d m) (callR y as true pc' L' rest hd A') = af0 (evG T d y as A') (fun A1 => exG T d m pc' L' rest A1) hh := by
  unfold callR
  rw [hr]
  show aftN (evG T d y as A') (goG T d m) _ = _
  generalize evG T d y as A' = x
  rcases x with _ | ⟨v | t, A1⟩
  · rfl
  · cases v <;> rfl
  · exact hhd _ _ _
/-- a call whose target is plain -/
theorem x_cv {op : Op} (h : (T m).2 pc = some op) {y : Nat} {as : List Value} {pc' : Nat} {L' : Lc} {rest : List Value} {hd : Option (List (Nat × Nat))} {A' : Hp} (hr : gck rest = true) {hh : Nat → Nat → Hp → Rv} (hhd : ∀ E q A1, hdv T d m L' hd E q A1 = hh E q A1) (e : op pc L st A = callR y as false pc' L' rest hd A') :
    exG T d m pc L st A = afv (evG T d y as A') (fun v A1 => exG T d m pc' L' (v :: rest) A1) hh := by
  rw [exG_at h, e, rs_cv y as pc' L' rest hd A' hr hhd]
theorem x_c0 {op : Op} (h : (T m).2 pc = some op) {y : Nat} {as : List Value} {pc' : Nat} {L' : Lc} {rest : List Value} {hd : Option (List (Nat × Nat))} {A' : Hp} (hr : gck rest = true) {hh : Nat → Nat → Hp → Rv} (hhd : ∀ E q A1, hdv T d m L' hd E q A1 = hh E q A1) (e : op pc L st A = callR y as true pc' L' rest hd A') :
    exG T d m pc L st A = af0 (evG T d y as A') (fun A1 => exG T d m pc' L' rest A1) hh := by
  rw [exG_at h, e, rs_c0 y as pc' L' rest hd A' hr hhd]
/-- a call whose target the receiver's class tells -/
theorem x_cvb {op : Op} (h : (T m).2 pc = some op) {o : Option Nat} {as : List Value} {pc' : Nat} {L' : Lc} {rest : List Value} {hd : Option (List (Nat × Nat))} {A' : Hp} (hr : gck rest = true) {hh : Nat → Nat → Hp → Rv} (hhd : ∀ E q A1, hdv T d m L' hd E q A1 = hh E q A1) (e : op pc L st A = o.bind fun y => callR y as false pc' L' rest hd A') :
    exG T d m pc L st A = o.bind fun y => afv (evG T d y as A') (fun v A1 => exG T d m pc' L' (v :: rest) A1) hh :=
  x_bd h e (fun y => rs_cv y as pc' L' rest hd A' hr hhd)
theorem x_c0b {op : Op} (h : (T m).2 pc = some op) {o : Option Nat} {as : List Value} {pc' : Nat} {L' : Lc} {rest : List Value} {hd : Option (List (Nat × Nat))} {A' : Hp} (hr : gck rest = true) {hh : Nat → Nat → Hp → Rv} (hhd : ∀ E q A1, hdv T d m L' hd E q A1 = hh E q A1) (e : op pc L st A = o.bind fun y => callR y as true pc' L' rest hd A') :
    exG T d m pc L st A = o.bind fun y => af0 (evG T d y as A') (fun A1 => exG T d m pc' L' rest A1) hh :=
  x_bd h e (fun y => rs_c0 y as pc' L' rest hd A' hr hhd)
theorem x_noh : ∀ (E q : Nat) (A1 : Hp), hdv T d m L none E q A1 = thr E q A1 := fun _ _ _ => rfl
theorem x_hd {l : List (Nat × Nat)} : ∀ (E q : Nat) (A1 : Hp), hdv T d m L (some l) E q A1 = (lkn l E).bind fun h => exG T d m h L [.ref q] A1 := fun E q A1 => by
  unfold hdv
  dsimp only
  generalize lkn l E = z
  cases z <;> rfl
end XE
