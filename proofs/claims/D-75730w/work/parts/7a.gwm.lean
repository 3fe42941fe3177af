/-! the model's search, whole -/
theorem pk_m1t (t : Nat) : nI t = nI (t + 1) + nN := (pk_m1 t).symm
theorem gBody_c {S : Nat → Int32} {el : Int32} {G R to f s : Nat} {wy wy' : Nat → Int32} {mi tl ms : Int32} (h : ∀ j, j ≤ s → wy j = wy' j) (t : Nat) (a : Ac) : gBody S el G R to f s wy mi tl ms t a = gBody S el G R to f s wy' mi tl ms t a := by
  unfold gBody
  rw [onR_congr (f := wy) (g := wy') (s + 1) 0 (fun j _ h2 => h j (by omega)), h s (Nat.le_refl _)]
  have hu : ∀ j, j ≤ s + 1 → upd wy (s + 1) (nI t) j = upd wy' (s + 1) (nI t) j := fun j hj => by
    unfold upd
    by_cases q : j = s + 1
    · rw [if_pos q, if_pos q]
    · rw [if_neg q, if_neg q]; exact h j (by omega)
  cases rdO S (wy' s) (nI t) 0 R with
  | none => rfl
  | some r =>
    dsimp only
    rw [aNote_c S el (s + 1) _ _ _ _ _ a hu, dfs_congr (aNote_c S el) f (s + 1) _ _ _ _ _ a hu]
theorem Fx_u9 (M : Ms) (s : Nat) (x : Int32) : Fx s M (uA M 9 (upd (mA M 9) s x)) := by
  refine ⟨fun k q => by rw [mA_uA, if_neg (by omega)], fun j q => ⟨rfl, rfl, rfl, rfl⟩, fun j q => ?_, fun _ _ => rfl, rfl⟩
  rw [mA_uA, if_pos rfl]
  exact upd_ne (by omega)
theorem Fx_take (M : Ms) (s t r : Nat) : Fx s M (gTake M s t r) := by
  unfold gTake
  refine ⟨fun k q => ?_, fun j q => ?_, fun j q => ?_, fun _ _ => rfl, rfl⟩
  · rw [mA_uA, if_neg (by omega), mA_uA, if_neg (by omega), mA_uA, if_neg (by omega), mA_uA, if_neg (by omega), mA_uA, if_neg (by omega)]
  · simp (disch := omega) only [mA_uA, Nat.reduceEqDiff, if_true, if_false, upd_ne]
    exact ⟨trivial, trivial, trivial, trivial⟩
  · simp (disch := omega) only [mA_uA, Nat.reduceEqDiff, if_true, if_false, upd_ne]
section
variable {A : Hp} {m0 d : Nat}
/-- what a search at step s comes to -/
def GwOK (A : Hp) (m0 d G R to : Nat) (fr el : Int32) (f s : Nat) (k t : Nat) : Prop := ∀ (M : Ms) (j5 j6 : Option Value), mA M 0 8 = nI G → mA M 0 9 = nI R → mA M 9 s = nI t + nN →
    ∃ (M' : Ms) (j5' j6' : Option Value), exG TB (d + 2) 345 59 [some (.ref m0), some (.int fr), some (.int (nI to)), some (.int el), some (.int (nI s)), j5, j6] [] (hM A m0 M) = exG TB (d + 2) 345 59 [some (.ref m0), some (.int fr), some (.int (nI to)), some (.int el), some (.int (nI s + nN)), j5', j6'] [] (hM A m0 M') ∧ Fx s M M' ∧
      acM M' = lpF (gBody (mA M 0) el G R to f s (mA M 8) (mA M 10 s) (mA M 11 s) (mA M 12 s)) t k (acM M)
theorem gow_cont {G R to f s k t : Nat} {fr el : Int32} (ih : GwOK A m0 d G R to fr el f s k (t + 1)) {M M1 : Ms} {j5 j6 i5 i6 : Option Value} (hG : mA M 0 8 = nI G) (hR : mA M 0 9 = nI R)
    (e : exG TB (d + 2) 345 59 [some (.ref m0), some (.int fr), some (.int (nI to)), some (.int el), some (.int (nI s)), j5, j6] [] (hM A m0 M) = exG TB (d + 2) 345 59 [some (.ref m0), some (.int fr), some (.int (nI to)), some (.int el), some (.int (nI s)), i5, i6] [] (hM A m0 M1)) (hf : Fx s M M1) (h9 : mA M1 9 s = nI t)
    (ha : acM M1 = gBody (mA M 0) el G R to f s (mA M 8) (mA M 10 s) (mA M 11 s) (mA M 12 s) t (acM M)) :
    ∃ (M' : Ms) (j5' j6' : Option Value), exG TB (d + 2) 345 59 [some (.ref m0), some (.int fr), some (.int (nI to)), some (.int el), some (.int (nI s)), j5, j6] [] (hM A m0 M) = exG TB (d + 2) 345 59 [some (.ref m0), some (.int fr), some (.int (nI to)), some (.int el), some (.int (nI s + nN)), j5', j6'] [] (hM A m0 M') ∧ Fx s M M' ∧
      acM M' = lpF (gBody (mA M 0) el G R to f s (mA M 8) (mA M 10 s) (mA M 11 s) (mA M 12 s)) t (k + 1) (acM M) := by
  have h0 : mA M1 0 = mA M 0 := hf.1 0 (by omega)
  obtain ⟨M', j5', j6', e1, f1, a1⟩ := ih M1 i5 i6 (by rw [h0]; exact hG) (by rw [h0]; exact hR) (by rw [h9, pk_m1t])
  refine ⟨M', j5', j6', e.trans e1, hf.trans f1, ?_⟩
  rw [a1, h0, (hf.2.1 s (Nat.le_refl _)).2.1, (hf.2.1 s (Nat.le_refl _)).2.2.1, (hf.2.1 s (Nat.le_refl _)).2.2.2, ha]
  show _ = lpF _ (t + 1) k (gBody (mA M 0) el G R to f s (mA M 8) (mA M 10 s) (mA M 11 s) (mA M 12 s) t (acM M))
  exact lpF_congr k (t + 1) _ (fun j b _ _ => gBody_c (fun j q => (hf.2.1 j q).1) j b)
theorem mNote_9 (M : Ms) (r : Nat) (el : Int32) : mA (mNote M r el) 9 = mA M 9 := by
  unfold mNote
  dsimp only
  split
  · rfl
  · split
    · rfl
    · split
      · rfl
      · rw [mA_uA, if_neg (by omega)]; rfl
theorem gow_main (h : mO A m0) {G R to : Nat} (hG2 : G ≤ 12) (hR2 : R ≤ 40) (hto : to < G) {fr el : Int32} : ∀ (f s : Nat), s + (f + 1) = 6 → ∀ (k t : Nat), t + k = G → GwOK A m0 d G R to fr el f s k t := by
  intro f
  induction f with
  | zero =>
    intro s hs k
    have h5 : s = 5 := by omega
    subst h5
    induction k with
    | zero =>
      intro t ht M j5 j6 hG hR h9
      have ht : t = G := ht
      subst ht
      exact ⟨_, _, _, gow_end h (R := R) hG hG2 (by omega) h9, Fx_u9 M 5 _, rfl⟩
    | succ k ih =>
      intro t ht M j5 j6 hG hR h9
      have ih := ih (t + 1) (by omega)
      have u9 : mA (uA M 9 (upd (mA M 9) 5 (nI t))) 9 5 = nI t := by rw [mA_uA, if_pos rfl]; exact upd_is rfl
      cases ho : onR (mA M 8) (nI t) 0 (5 + 1) with
      | true => exact gow_cont ih hG hR (gow_step h hG hG2 hR hR2 hto (by omega) (by omega) h9 (Or.inl ho)) (Fx_u9 M 5 _) u9 (by unfold gBody; rw [if_pos ho]; rfl)
      | false =>
        have ho' : ¬ onR (mA M 8) (nI t) 0 (5 + 1) = true := by rw [ho]; exact fun q => by cases q
        cases hr : rdO (mA M 0) (mA M 8 5) (nI t) 0 R with
        | none => exact gow_cont ih hG hR (gow_step h hG hG2 hR hR2 hto (by omega) (by omega) h9 (Or.inr hr)) (Fx_u9 M 5 _) u9 (by unfold gBody; rw [if_neg ho', hr]; rfl)
        | some r =>
          have t9 : mA (gTake M 5 t r) 9 5 = nI t := by
            show upd (mA M 9) 5 (nI t) 5 = nI t
            exact upd_is rfl
          by_cases htt : t = to
          · subst htt
            refine gow_cont ih hG hR (gow_hit h hG hG2 hR hR2 (by omega) (by omega) h9 ho hr) ((Fx_take M 5 t r).trans (Fx_note _ _ _ _)) (by rw [mNote_9]; exact t9) ?_
            rw [acM_note]
            unfold gBody
            rw [if_neg ho', hr]
            dsimp only
            rw [if_pos rfl]
            simp (disch := omega) only [gTake, mA_uA, Nat.reduceEqDiff, Nat.reduceAdd, Nat.reduceSub, if_true, if_false, upd_is, upd_ne]
            rfl
          · refine gow_cont ih hG hR (gow_last h hG hG2 hR hR2 hto (by omega) htt h9 ho hr) (Fx_take M 5 t r) t9 ?_
            unfold gBody
            rw [if_neg ho', hr]
            dsimp only
            rw [if_neg htt]
            rfl
  | succ f ihf =>
    intro s hs k
    induction k with
    | zero =>
      intro t ht M j5 j6 hG hR h9
      have ht : t = G := ht
      subst ht
      exact ⟨_, _, _, gow_end h (R := R) hG hG2 (by omega) h9, Fx_u9 M s _, rfl⟩
    | succ k ih =>
      intro t ht M j5 j6 hG hR h9
      have ih := ih (t + 1) (by omega)
      have u9 : mA (uA M 9 (upd (mA M 9) s (nI t))) 9 s = nI t := by rw [mA_uA, if_pos rfl]; exact upd_is rfl
      cases ho : onR (mA M 8) (nI t) 0 (s + 1) with
      | true => exact gow_cont ih hG hR (gow_step h hG hG2 hR hR2 hto (by omega) (by omega) h9 (Or.inl ho)) (Fx_u9 M s _) u9 (by unfold gBody; rw [if_pos ho]; rfl)
      | false =>
        have ho' : ¬ onR (mA M 8) (nI t) 0 (s + 1) = true := by rw [ho]; exact fun q => by cases q
        cases hr : rdO (mA M 0) (mA M 8 s) (nI t) 0 R with
        | none => exact gow_cont ih hG hR (gow_step h hG hG2 hR hR2 hto (by omega) (by omega) h9 (Or.inr hr)) (Fx_u9 M s _) u9 (by unfold gBody; rw [if_neg ho', hr]; rfl)
        | some r =>
          have t9 : mA (gTake M s t r) 9 s = nI t := by
            show upd (mA M 9) s (nI t) s = nI t
            exact upd_is rfl
          by_cases htt : t = to
          · subst htt
            refine gow_cont ih hG hR (gow_hit h hG hG2 hR hR2 (by omega) (by omega) h9 ho hr) ((Fx_take M s t r).trans (Fx_note _ _ _ _)) (by rw [mNote_9]; exact t9) ?_
            rw [acM_note]
            unfold gBody
            rw [if_neg ho', hr]
            dsimp only
            rw [if_pos rfl]
            simp (disch := omega) only [gTake, mA_uA, Nat.reduceEqDiff, Nat.add_sub_cancel, if_true, if_false, upd_is, upd_ne]
            rfl
          · have e1 := gow_deep (d := d) (fr := fr) (el := el) (j5 := j5) (j6 := j6) h hG hG2 hR hR2 hto (by omega) (by omega) htt h9 ho hr
            obtain ⟨M4, i5, i6, e2, f2, a2⟩ := ihf (s + 1) (by omega) G 0 (by omega) (uA (gTake M s t r) 9 (upd (upd (mA M 9) s (nI t)) (s + 1) nN)) (some (.int (nI t))) (some (.int (nI r))) hG hR (by
              rw [mA_uA, if_pos rfl, n_nN]; exact upd_is rfl)
            rw [n_pred (by omega), Nat.add_sub_cancel] at e2
            have f1 : Fx s M (uA (gTake M s t r) 9 (upd (upd (mA M 9) s (nI t)) (s + 1) nN)) := by
              obtain ⟨b1, b2, b3, b4, b5⟩ := Fx_take M s t r
              refine ⟨fun q hq => by rw [mA_uA, if_neg (by omega)]; exact b1 q hq, b2, fun j hj => ?_, b4, b5⟩
              rw [mA_uA, if_pos rfl, upd_ne (by omega), upd_ne (by omega)]
            refine gow_cont ih hG hR (e1.trans e2) (f1.trans (f2.less (by omega))) ?_ ?_
            · rw [f2.2.2.1 s (by omega), mA_uA, if_pos rfl, upd_ne (by omega)]
              exact upd_is rfl
            · rw [a2]
              unfold gBody
              rw [if_neg ho', hr]
              dsimp only
              rw [if_neg htt]
              rw [dfs]
              simp (disch := omega) only [gTake, mA_uA, Nat.reduceEqDiff, Nat.add_sub_cancel, if_true, if_false, upd_is, upd_ne]
              rfl
end
