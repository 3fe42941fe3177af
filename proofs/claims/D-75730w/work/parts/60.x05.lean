set_option maxRecDepth 100000
/-! what each instruction does, as an equation -/
section
variable {d p q n9 : Nat} {L r9 : Lc} {st : List Value} {A : Hp} {g9 : Nat → Int32} {v v2 v3 w0 w1 w2 w3 w4 w5 w6 w7 w8 w9 w10 w11 b0 b1 b2 b3 b4 b5 b6 b7 b8 b9 b10 b11 : Value} {i1 i2 i3 i4 : Int32} {l1 l2 : Int64} {f1 f2 : UInt32} {d1 d2 : UInt64} {a0 a1 a2 a3 a4 a5 a6 a7 a8 a9 a10 a11 a12 a13 a14 a15 a16 a17 a18 a19 a20 a21 a22 a23 a24 a25 a26 a27 a28 a29 a30 a31 a32 a33 a34 a35 a36 a37 a38 a39 a40 a41 a42 a43 : Option Value}
theorem e_302  : evG TB (d + 1) 302 [.ref p, b1] A = rg b1 (exG TB d 302 0 [some (.ref p), some (b1), none, none, none] [] A) := by
  rw [evG_eq]
  show (bif (true && (isR b1 && true)) then exG TB d 302 0 [some (.ref p), some (b1), none, none, none] [] A else none) = _
  unfold rg
  cases isR b1 <;> rfl
theorem x_302_0  : exG TB d 302 0 (some v :: r9) st A = rg v (exG TB d 302 1 (some v :: r9) (v :: st) A) := x_rg (op := o_aload 0 1) rfl rfl
theorem x_302_1  : exG TB d 302 1 L (.ref p :: st) A = kv (gf A p 160) d 302 4 L st A := x_bd (op := o_get 160) rfl rfl (fun _ => rfl)
theorem x_302_4  : exG TB d 302 4 L st A = exG TB d 302 5 L (.int (nI 2) :: st) A := x_nx (op := o_push 1 (.int 2)) rfl rfl
theorem x_302_5  : exG TB d 302 5 L (.int i2 :: .int i1 :: st) A = if ¬ i1 = i2 then exG TB d 302 19 L st A else exG TB d 302 8 L st A := x_if (op := o_icmp (fun x y => decide (¬ x = y)) 19) rfl rfl rfl
theorem x_302_8  : exG TB d 302 8 (some v :: r9) st A = rg v (exG TB d 302 9 (some v :: r9) (v :: st) A) := x_rg (op := o_aload 0 1) rfl rfl
theorem x_302_9  : exG TB d 302 9 L (.ref p :: st) A = kv (gf A p 161) d 302 12 L st A := x_bd (op := o_get 161) rfl rfl (fun _ => rfl)
theorem x_302_12  : exG TB d 302 12 (a0 :: some v :: r9) st A = rg v (exG TB d 302 13 (a0 :: some v :: r9) (v :: st) A) := x_rg (op := o_aload 1 1) rfl rfl
theorem x_302_13  : exG TB d 302 13 L [.ref p, w0] A = kw (sel (gcs A p) [(5, 115)]) [.ref p] d 302 16 L [w0] A := x_cvb (op := o_cvs [(5, 115)] 0 3 false) rfl rfl x_noh rfl
theorem x_302_16  : exG TB d 302 16 L (.int i2 :: .int i1 :: st) A = if i1 = i2 then exG TB d 302 21 L st A else exG TB d 302 19 L st A := x_if (op := o_icmp (fun x y => decide (x = y)) 21) rfl rfl rfl
theorem x_302_19  : exG TB d 302 19 L st A = exG TB d 302 20 L (.int (nI 0) :: st) A := x_nx (op := o_push 1 (.int 0)) rfl rfl
theorem x_302_20  : exG TB d 302 20 L [v] A = ck (okv 5 v) (some (.inl (some v), A)) := x_outg (op := o_ret 5) rfl rfl
theorem x_302_21  : exG TB d 302 21 L st A = exG TB d 302 22 L (.long 0 :: st) A := x_nx (op := o_push 1 (.long 0)) rfl rfl
theorem x_302_22  : exG TB d 302 22 (a0 :: a1 :: a2 :: a3 :: r9) (.long l1 :: st) A = exG TB d 302 23 (a0 :: a1 :: some (.long l1) :: none :: r9) st A := x_nx (op := o_lstore 2 1) rfl rfl
theorem x_302_23  : exG TB d 302 23 L st A = exG TB d 302 24 L (.int (nI 0) :: st) A := x_nx (op := o_push 1 (.int 0)) rfl rfl
theorem x_302_24  : exG TB d 302 24 (a0 :: a1 :: a2 :: a3 :: a4 :: r9) (.int i1 :: st) A = exG TB d 302 26 (a0 :: a1 :: a2 :: a3 :: some (.int i1) :: r9) st A := x_nx (op := o_istore 4 2) rfl rfl
theorem x_302_26  : exG TB d 302 26 (a0 :: a1 :: a2 :: a3 :: some (.int i1) :: r9) st A = exG TB d 302 28 (a0 :: a1 :: a2 :: a3 :: some (.int i1) :: r9) (.int i1 :: st) A := x_nx (op := o_iload 4 2) rfl rfl
theorem x_302_28  : exG TB d 302 28 (a0 :: some v :: r9) st A = rg v (exG TB d 302 29 (a0 :: some v :: r9) (v :: st) A) := x_rg (op := o_aload 1 1) rfl rfl
theorem x_302_29  : exG TB d 302 29 L [.ref p, w0] A = kw (sel (gcs A p) [(5, 115)]) [.ref p] d 302 32 L [w0] A := x_cvb (op := o_cvs [(5, 115)] 0 3 false) rfl rfl x_noh rfl
theorem x_302_32  : exG TB d 302 32 L (.int i2 :: .int i1 :: st) A = if i2 ≤ i1 then exG TB d 302 59 L st A else exG TB d 302 35 L st A := x_if (op := o_icmp (fun x y => decide (y ≤ x)) 59) rfl rfl rfl
theorem x_302_35  : exG TB d 302 35 L st A = exG TB d 302 38 L (.long 27 :: st) A := x_nx (op := o_push 3 (.long 27)) rfl rfl
theorem x_302_38  : exG TB d 302 38 (a0 :: a1 :: some (.long l1) :: none :: r9) st A = exG TB d 302 39 (a0 :: a1 :: some (.long l1) :: none :: r9) (.long l1 :: st) A := x_nx (op := o_lload 2 1) rfl rfl
theorem x_302_39  : exG TB d 302 39 L (.long l2 :: .long l1 :: st) A = exG TB d 302 40 L (.long (l1 * l2) :: st) A := x_nx (op := o_lop (fun x y => x * y)) rfl rfl
theorem x_302_40  : exG TB d 302 40 (a0 :: some v :: r9) st A = rg v (exG TB d 302 41 (a0 :: some v :: r9) (v :: st) A) := x_rg (op := o_aload 1 1) rfl rfl
theorem x_302_41  : exG TB d 302 41 (a0 :: a1 :: a2 :: a3 :: some (.int i1) :: r9) st A = exG TB d 302 43 (a0 :: a1 :: a2 :: a3 :: some (.int i1) :: r9) (.int i1 :: st) A := x_nx (op := o_iload 4 2) rfl rfl
theorem x_302_43  : exG TB d 302 43 L [b0, .ref p, w0] A = kw (sel (gcs A p) [(5, 123)]) [.ref p, b0] d 302 46 L [w0] A := x_cvb (op := o_cvs [(5, 123)] 1 3 false) rfl rfl x_noh rfl
theorem x_302_46  : exG TB d 302 46 L (.int i1 :: st) A = exG TB d 302 47 L (.long i1.toInt64 :: st) A := x_nx (op := o_i2l) rfl rfl
theorem x_302_47  : exG TB d 302 47 L (.long l2 :: .long l1 :: st) A = exG TB d 302 48 L (.long (l1 + l2) :: st) A := x_nx (op := o_lop (fun x y => x + y)) rfl rfl
theorem x_302_48  : exG TB d 302 48 L st A = exG TB d 302 51 L (.long 96 :: st) A := x_nx (op := o_push 3 (.long 96)) rfl rfl
theorem x_302_51  : exG TB d 302 51 L (.long l2 :: .long l1 :: st) A = exG TB d 302 52 L (.long (l1 - l2) :: st) A := x_nx (op := o_lop (fun x y => x - y)) rfl rfl
theorem x_302_52  : exG TB d 302 52 (a0 :: a1 :: a2 :: a3 :: r9) (.long l1 :: st) A = exG TB d 302 53 (a0 :: a1 :: some (.long l1) :: none :: r9) st A := x_nx (op := o_lstore 2 1) rfl rfl
theorem x_302_53  : exG TB d 302 53 (a0 :: a1 :: a2 :: a3 :: some (.int i1) :: r9) st A = exG TB d 302 56 (a0 :: a1 :: a2 :: a3 :: some (.int (i1 + (nI 1))) :: r9) st A := x_nx (op := o_iinc 4 1) rfl rfl
theorem x_302_56  : exG TB d 302 56 L st A = exG TB d 302 26 L st A := x_nx (op := o_goto 26) rfl rfl
theorem x_302_59  : exG TB d 302 59 (some v :: r9) st A = rg v (exG TB d 302 60 (some v :: r9) (v :: st) A) := x_rg (op := o_aload 0 1) rfl rfl
theorem x_302_60  : exG TB d 302 60 L (.ref p :: st) A = kv (gf A p 165) d 302 63 L st A := x_bd (op := o_get 165) rfl rfl (fun _ => rfl)
theorem x_302_63  : exG TB d 302 63 (a0 :: a1 :: some (.long l1) :: none :: r9) st A = exG TB d 302 64 (a0 :: a1 :: some (.long l1) :: none :: r9) (.long l1 :: st) A := x_nx (op := o_lload 2 1) rfl rfl
theorem x_302_64  : exG TB d 302 64 L (.long l2 :: .long l1 :: st) A = exG TB d 302 65 L (.int (lg_cmp l1 l2) :: st) A := x_nx (op := o_lcmp) rfl rfl
theorem x_302_65  : exG TB d 302 65 L (.int i1 :: st) A = if ¬ i1 = nI 0 then exG TB d 302 72 L st A else exG TB d 302 68 L st A := x_if (op := o_if (fun x => decide (¬ x = 0)) 72) rfl rfl rfl
theorem x_302_68  : exG TB d 302 68 L st A = exG TB d 302 69 L (.int (nI 1) :: st) A := x_nx (op := o_push 1 (.int 1)) rfl rfl
theorem x_302_69  : exG TB d 302 69 L st A = exG TB d 302 73 L st A := x_nx (op := o_goto 73) rfl rfl
theorem x_302_72  : exG TB d 302 72 L st A = exG TB d 302 73 L (.int (nI 0) :: st) A := x_nx (op := o_push 1 (.int 0)) rfl rfl
theorem x_302_73  : exG TB d 302 73 L [v] A = ck (okv 5 v) (some (.inl (some v), A)) := x_outg (op := o_ret 5) rfl rfl
theorem e_303  : evG TB (d + 1) 303 [.ref p] A = exG TB d 303 0 [some (.ref p), none, none] [] A := evG_eq TB d 303 _ A
theorem x_303_0  : exG TB d 303 0 (some v :: r9) st A = rg v (exG TB d 303 1 (some v :: r9) (v :: st) A) := x_rg (op := o_aload 0 1) rfl rfl
theorem x_303_1  : exG TB d 303 1 (some v :: r9) st A = rg v (exG TB d 303 2 (some v :: r9) (v :: st) A) := x_rg (op := o_aload 0 1) rfl rfl
theorem x_303_2  : exG TB d 303 2 L (.ref p :: st) A = kv (gf A p 148) d 303 5 L st A := x_bd (op := o_get 148) rfl rfl (fun _ => rfl)
theorem x_303_5  : exG TB d 303 5 L st A = exG TB d 303 7 L (.int (nI 8) :: st) A := x_nx (op := o_push 2 (.int 8)) rfl rfl
theorem x_303_7  : exG TB d 303 7 L (.int i1 :: .ref p :: st) A = ki (rdI 0 (ga A p) i1) d 303 8 L st A := x_bd (op := o_rdI 0) rfl rfl (fun _ => rfl)
theorem x_303_8  : exG TB d 303 8 L st A = exG TB d 303 10 L (.int (nI 12) :: st) A := x_nx (op := o_push 2 (.int 12)) rfl rfl
theorem x_303_10  : exG TB d 303 10 L (.int i2 :: .int i1 :: st) A = if i2 ≤ i1 then exG TB d 303 17 L st A else exG TB d 303 13 L st A := x_if (op := o_icmp (fun x y => decide (y ≤ x)) 17) rfl rfl rfl
theorem x_303_13  : exG TB d 303 13 L st A = exG TB d 303 14 L (.int (nI 1) :: st) A := x_nx (op := o_push 1 (.int 1)) rfl rfl
theorem x_303_14  : exG TB d 303 14 L st A = exG TB d 303 18 L st A := x_nx (op := o_goto 18) rfl rfl
theorem x_303_17  : exG TB d 303 17 L st A = exG TB d 303 18 L (.int (nI 0) :: st) A := x_nx (op := o_push 1 (.int 0)) rfl rfl
theorem x_303_18  : exG TB d 303 18 L st A = exG TB d 303 19 L (.int (nI 3) :: st) A := x_nx (op := o_push 1 (.int 3)) rfl rfl
theorem x_303_19  : exG TB d 303 19 L [b1, b0, .ref p] A = kw0 (sel (gc A p) [(30, 304)]) [.ref p, b0, b1] d 303 22 L [] A := x_c0b (op := o_cv [(30, 304)] 2 3 true none) rfl rfl x_noh rfl
theorem x_303_22  : exG TB d 303 22 (some v :: r9) st A = rg v (exG TB d 303 23 (some v :: r9) (v :: st) A) := x_rg (op := o_aload 0 1) rfl rfl
theorem x_303_23  : exG TB d 303 23 L [.ref p] A = kw0 (sel (gc A p) [(30, 305)]) [.ref p] d 303 26 L [] A := x_c0b (op := o_cv [(30, 305)] 0 3 true none) rfl rfl x_noh rfl
theorem x_303_26  : exG TB d 303 26 (some v :: r9) st A = rg v (exG TB d 303 27 (some v :: r9) (v :: st) A) := x_rg (op := o_aload 0 1) rfl rfl
theorem x_303_27  : exG TB d 303 27 L st A = exG TB d 303 28 L (.int (nI 0) :: st) A := x_nx (op := o_push 1 (.int 0)) rfl rfl
theorem x_303_28  : exG TB d 303 28 L st A = exG TB d 303 30 L (.int (nI 99) :: st) A := x_nx (op := o_push 2 (.int 99)) rfl rfl
theorem x_303_30  : exG TB d 303 30 L [b1, b0, .ref p] A = kw (sel (gc A p) [(30, 306)]) [.ref p, b0, b1] d 303 33 L [] A := x_cvb (op := o_cv [(30, 306)] 2 3 false none) rfl rfl x_noh rfl
theorem x_303_33  : exG TB d 303 33 (a0 :: a1 :: r9) (.int i1 :: st) A = exG TB d 303 34 (a0 :: some (.int i1) :: r9) st A := x_nx (op := o_istore 1 1) rfl rfl
theorem x_303_34  : exG TB d 303 34 (some v :: r9) st A = rg v (exG TB d 303 35 (some v :: r9) (v :: st) A) := x_rg (op := o_aload 0 1) rfl rfl
theorem x_303_35  : exG TB d 303 35 L [.ref p] A = kw (sel (gc A p) [(30, 300)]) [.ref p] d 303 38 L [] A := x_cvb (op := o_cv [(30, 300)] 0 3 false none) rfl rfl x_noh rfl
theorem x_303_38  : exG TB d 303 38 L (.int i1 :: st) A = if i1 = nI 0 then exG TB d 303 47 L st A else exG TB d 303 41 L st A := x_if (op := o_if (fun x => decide (x = 0)) 47) rfl rfl rfl
theorem x_303_41  : exG TB d 303 41 (some v :: r9) st A = rg v (exG TB d 303 42 (some v :: r9) (v :: st) A) := x_rg (op := o_aload 0 1) rfl rfl
theorem x_303_42  : exG TB d 303 42 (a0 :: some (.int i1) :: r9) st A = exG TB d 303 43 (a0 :: some (.int i1) :: r9) (.int i1 :: st) A := x_nx (op := o_iload 1 1) rfl rfl
theorem x_303_43  : exG TB d 303 43 L [b0, .ref p] A = kw (sel (gc A p) [(30, 308)]) [.ref p, b0] d 303 46 L [] A := x_cvb (op := o_cv [(30, 308)] 1 3 false none) rfl rfl x_noh rfl
theorem x_303_46  : exG TB d 303 46 (a0 :: a1 :: a2 :: r9) (.int i1 :: st) A = exG TB d 303 47 (a0 :: a1 :: some (.int i1) :: r9) st A := x_nx (op := o_istore 2 1) rfl rfl
theorem x_303_47  : exG TB d 303 47 L [] A = some (.inl none, A) := x_out (op := o_vret) rfl rfl
theorem e_304 {j1 : Int32} {j2 : Int32} : evG TB (d + 1) 304 [.ref p, .int j1, .int j2] A = exG TB d 304 0 [some (.ref p), some (.int j1), some (.int j2)] [] A := evG_eq TB d 304 _ A
theorem x_304_0  : exG TB d 304 0 (a0 :: some (.int i1) :: r9) st A = exG TB d 304 1 (a0 :: some (.int i1) :: r9) (.int i1 :: st) A := x_nx (op := o_iload 1 1) rfl rfl
theorem x_304_1  : exG TB d 304 1 L (.int i1 :: st) A = if ¬ i1 = nI 0 then exG TB d 304 24 L st A else exG TB d 304 4 L st A := x_if (op := o_if (fun x => decide (¬ x = 0)) 24) rfl rfl rfl
theorem x_304_4  : exG TB d 304 4 (some v :: r9) st A = rg v (exG TB d 304 5 (some v :: r9) (v :: st) A) := x_rg (op := o_aload 0 1) rfl rfl
theorem x_304_5  : exG TB d 304 5 L (.ref p :: st) A = kv (gf A p 163) d 304 8 L st A := x_bd (op := o_get 163) rfl rfl (fun _ => rfl)
theorem x_304_8  : exG TB d 304 8 L (.int i1 :: st) A = if ¬ i1 = nI 0 then exG TB d 304 24 L st A else exG TB d 304 11 L st A := x_if (op := o_if (fun x => decide (¬ x = 0)) 24) rfl rfl rfl
theorem x_304_11  : exG TB d 304 11 (some v :: r9) st A = rg v (exG TB d 304 12 (some v :: r9) (v :: st) A) := x_rg (op := o_aload 0 1) rfl rfl
theorem x_304_12  : exG TB d 304 12 (a0 :: a1 :: some (.int i1) :: r9) st A = exG TB d 304 13 (a0 :: a1 :: some (.int i1) :: r9) (.int i1 :: st) A := x_nx (op := o_iload 2 1) rfl rfl
theorem x_304_13  : exG TB d 304 13 L (v :: .ref p :: st) A = ck ((gf A p 163).isSome && okv 1 v) (exG TB d 304 16 L st (setf A p 163 v)) := x_gd (op := o_put 163 1) rfl rfl
theorem x_304_16  : exG TB d 304 16 (some v :: r9) st A = rg v (exG TB d 304 17 (some v :: r9) (v :: st) A) := x_rg (op := o_aload 0 1) rfl rfl
theorem x_304_17  : exG TB d 304 17 (some v :: r9) st A = rg v (exG TB d 304 18 (some v :: r9) (v :: st) A) := x_rg (op := o_aload 0 1) rfl rfl
theorem x_304_18  : exG TB d 304 18 L (.ref p :: st) A = kv (gf A p 159) d 304 21 L st A := x_bd (op := o_get 159) rfl rfl (fun _ => rfl)
theorem x_304_21  : exG TB d 304 21 L (v :: .ref p :: st) A = ck ((gf A p 164).isSome && okv 1 v) (exG TB d 304 24 L st (setf A p 164 v)) := x_gd (op := o_put 164 1) rfl rfl
theorem x_304_24  : exG TB d 304 24 L [] A = some (.inl none, A) := x_out (op := o_vret) rfl rfl
theorem e_305  : evG TB (d + 1) 305 [.ref p] A = exG TB d 305 0 [some (.ref p)] [] A := evG_eq TB d 305 _ A
theorem x_305_0  : exG TB d 305 0 (some v :: r9) st A = rg v (exG TB d 305 1 (some v :: r9) (v :: st) A) := x_rg (op := o_aload 0 1) rfl rfl
theorem x_305_1  : exG TB d 305 1 L [.ref p] A = kw (sel (gc A p) [(30, 300)]) [.ref p] d 305 4 L [] A := x_cvb (op := o_cv [(30, 300)] 0 3 false none) rfl rfl x_noh rfl
theorem x_305_4  : exG TB d 305 4 L (.int i1 :: st) A = if i1 = nI 0 then exG TB d 305 11 L st A else exG TB d 305 7 L st A := x_if (op := o_if (fun x => decide (x = 0)) 11) rfl rfl rfl
theorem x_305_7  : exG TB d 305 7 (some v :: r9) st A = rg v (exG TB d 305 8 (some v :: r9) (v :: st) A) := x_rg (op := o_aload 0 1) rfl rfl
theorem x_305_8  : exG TB d 305 8 L [.ref p] A = kw0 (sel (gc A p) [(30, 296)]) [.ref p] d 305 11 L [] A := x_c0b (op := o_cv [(30, 296)] 0 3 true none) rfl rfl x_noh rfl
theorem x_305_11  : exG TB d 305 11 L [] A = some (.inl none, A) := x_out (op := o_vret) rfl rfl
theorem e_306 {j1 : Int32} {j2 : Int32} : evG TB (d + 1) 306 [.ref p, .int j1, .int j2] A = exG TB d 306 0 [some (.ref p), some (.int j1), some (.int j2), none] [] A := evG_eq TB d 306 _ A
theorem x_306_0  : exG TB d 306 0 (some v :: r9) st A = rg v (exG TB d 306 1 (some v :: r9) (v :: st) A) := x_rg (op := o_aload 0 1) rfl rfl
theorem x_306_1  : exG TB d 306 1 (a0 :: some (.int i1) :: r9) st A = exG TB d 306 2 (a0 :: some (.int i1) :: r9) (.int i1 :: st) A := x_nx (op := o_iload 1 1) rfl rfl
theorem x_306_2  : exG TB d 306 2 (a0 :: a1 :: some (.int i1) :: r9) st A = exG TB d 306 3 (a0 :: a1 :: some (.int i1) :: r9) (.int i1 :: st) A := x_nx (op := o_iload 2 1) rfl rfl
theorem x_306_3  : exG TB d 306 3 L [b1, b0, .ref p] A = kw0 (sel (gc A p) [(30, 307)]) [.ref p, b0, b1] d 306 6 L [] A := x_c0b (op := o_cv [(30, 307)] 2 3 true none) rfl rfl x_noh rfl
theorem x_306_6  : exG TB d 306 6 (some v :: r9) st A = rg v (exG TB d 306 7 (some v :: r9) (v :: st) A) := x_rg (op := o_aload 0 1) rfl rfl
theorem x_306_7  : exG TB d 306 7 L (.ref p :: st) A = kv (gf A p 162) d 306 10 L st A := x_bd (op := o_get 162) rfl rfl (fun _ => rfl)
theorem x_306_10  : exG TB d 306 10 (a0 :: a1 :: a2 :: a3 :: r9) (.int i1 :: st) A = exG TB d 306 11 (a0 :: a1 :: a2 :: some (.int i1) :: r9) st A := x_nx (op := o_istore 3 1) rfl rfl
theorem x_306_11  : exG TB d 306 11 (some v :: r9) st A = rg v (exG TB d 306 12 (some v :: r9) (v :: st) A) := x_rg (op := o_aload 0 1) rfl rfl
theorem x_306_12  : exG TB d 306 12 L [.ref p] A = kw0 (sel (gc A p) [(30, 305)]) [.ref p] d 306 15 L [] A := x_c0b (op := o_cv [(30, 305)] 0 3 true none) rfl rfl x_noh rfl
theorem x_306_15  : exG TB d 306 15 (a0 :: a1 :: a2 :: some (.int i1) :: r9) st A = exG TB d 306 16 (a0 :: a1 :: a2 :: some (.int i1) :: r9) (.int i1 :: st) A := x_nx (op := o_iload 3 1) rfl rfl
theorem x_306_16  : exG TB d 306 16 L [v] A = ck (okv 1 v) (some (.inl (some v), A)) := x_outg (op := o_ret 1) rfl rfl
theorem e_307 {j1 : Int32} {j2 : Int32} : evG TB (d + 1) 307 [.ref p, .int j1, .int j2] A = exG TB d 307 0 [some (.ref p), some (.int j1), some (.int j2)] [] A := evG_eq TB d 307 _ A
theorem x_307_0  : exG TB d 307 0 (some v :: r9) st A = rg v (exG TB d 307 1 (some v :: r9) (v :: st) A) := x_rg (op := o_aload 0 1) rfl rfl
theorem x_307_1  : exG TB d 307 1 (some v :: r9) st A = rg v (exG TB d 307 2 (some v :: r9) (v :: st) A) := x_rg (op := o_aload 0 1) rfl rfl
theorem x_307_2  : exG TB d 307 2 L (.ref p :: st) A = kv (gf A p 160) d 307 5 L st A := x_bd (op := o_get 160) rfl rfl (fun _ => rfl)
theorem x_307_5  : exG TB d 307 5 L st A = exG TB d 307 6 L (.int (nI 3) :: st) A := x_nx (op := o_push 1 (.int 3)) rfl rfl
theorem x_307_6  : exG TB d 307 6 L (.int i2 :: .int i1 :: st) A = if ¬ i1 = i2 then exG TB d 307 13 L st A else exG TB d 307 9 L st A := x_if (op := o_icmp (fun x y => decide (¬ x = y)) 13) rfl rfl rfl
theorem x_307_9  : exG TB d 307 9 L st A = exG TB d 307 10 L (.int (nI 1) :: st) A := x_nx (op := o_push 1 (.int 1)) rfl rfl
theorem x_307_10  : exG TB d 307 10 L st A = exG TB d 307 14 L st A := x_nx (op := o_goto 14) rfl rfl
theorem x_307_13  : exG TB d 307 13 L st A = exG TB d 307 14 L (.int (nI 0) :: st) A := x_nx (op := o_push 1 (.int 0)) rfl rfl
theorem x_307_14  : exG TB d 307 14 L st A = exG TB d 307 15 L (.int (nI 1) :: st) A := x_nx (op := o_push 1 (.int 1)) rfl rfl
theorem x_307_15  : exG TB d 307 15 L [b1, b0, .ref p] A = kw0 (sel (gc A p) [(30, 304)]) [.ref p, b0, b1] d 307 18 L [] A := x_c0b (op := o_cv [(30, 304)] 2 3 true none) rfl rfl x_noh rfl
theorem x_307_18  : exG TB d 307 18 (some v :: r9) st A = rg v (exG TB d 307 19 (some v :: r9) (v :: st) A) := x_rg (op := o_aload 0 1) rfl rfl
theorem x_307_19  : exG TB d 307 19 (some v :: r9) st A = rg v (exG TB d 307 20 (some v :: r9) (v :: st) A) := x_rg (op := o_aload 0 1) rfl rfl
theorem x_307_20  : exG TB d 307 20 L (.ref p :: st) A = kv (gf A p 162) d 307 23 L st A := x_bd (op := o_get 162) rfl rfl (fun _ => rfl)
theorem x_307_23  : exG TB d 307 23 (a0 :: some (.int i1) :: r9) st A = exG TB d 307 24 (a0 :: some (.int i1) :: r9) (.int i1 :: st) A := x_nx (op := o_iload 1 1) rfl rfl
theorem x_307_24  : exG TB d 307 24 (a0 :: a1 :: some (.int i1) :: r9) st A = exG TB d 307 25 (a0 :: a1 :: some (.int i1) :: r9) (.int i1 :: st) A := x_nx (op := o_iload 2 1) rfl rfl
theorem x_307_25  : exG TB d 307 25 L [b2, b1, b0, w0] A = kc (evG TB d 293 [b0, b1, b2] A) d 307 28 L [w0] := x_cv (op := o_cs 293 3 false none) rfl rfl x_noh rfl
theorem x_307_28  : exG TB d 307 28 L st A = exG TB d 307 29 L (.int (nI 2) :: st) A := x_nx (op := o_push 1 (.int 2)) rfl rfl
theorem x_307_29  : exG TB d 307 29 L [b1, b0, .ref p] A = kw0 (sel (gc A p) [(30, 304)]) [.ref p, b0, b1] d 307 32 L [] A := x_c0b (op := o_cv [(30, 304)] 2 3 true none) rfl rfl x_noh rfl
theorem x_307_32  : exG TB d 307 32 L [] A = some (.inl none, A) := x_out (op := o_vret) rfl rfl
theorem e_308 {j1 : Int32} : evG TB (d + 1) 308 [.ref p, .int j1] A = exG TB d 308 0 [some (.ref p), some (.int j1)] [] A := evG_eq TB d 308 _ A
theorem x_308_0  : exG TB d 308 0 (some v :: r9) st A = rg v (exG TB d 308 1 (some v :: r9) (v :: st) A) := x_rg (op := o_aload 0 1) rfl rfl
theorem x_308_1  : exG TB d 308 1 L (.ref p :: st) A = kv (gf A p 148) d 308 4 L st A := x_bd (op := o_get 148) rfl rfl (fun _ => rfl)
theorem x_308_4  : exG TB d 308 4 L st A = exG TB d 308 6 L (.int (nI 15) :: st) A := x_nx (op := o_push 2 (.int 15)) rfl rfl
theorem x_308_6  : exG TB d 308 6 (some v :: r9) st A = rg v (exG TB d 308 7 (some v :: r9) (v :: st) A) := x_rg (op := o_aload 0 1) rfl rfl
theorem x_308_7  : exG TB d 308 7 L (.ref p :: st) A = kv (gf A p 148) d 308 10 L st A := x_bd (op := o_get 148) rfl rfl (fun _ => rfl)
theorem x_308_10  : exG TB d 308 10 L st A = exG TB d 308 12 L (.int (nI 8) :: st) A := x_nx (op := o_push 2 (.int 8)) rfl rfl
theorem x_308_12  : exG TB d 308 12 L (.int i1 :: .ref p :: st) A = ki (rdI 0 (ga A p) i1) d 308 13 L st A := x_bd (op := o_rdI 0) rfl rfl (fun _ => rfl)
theorem x_308_13  : exG TB d 308 13 L (.int i2 :: .int i1 :: st) A = exG TB d 308 14 L (.int (i1 + i2) :: st) A := x_nx (op := o_iop (fun x y => x + y)) rfl rfl
theorem x_308_14  : exG TB d 308 14 (a0 :: some (.int i1) :: r9) st A = exG TB d 308 15 (a0 :: some (.int i1) :: r9) (.int i1 :: st) A := x_nx (op := o_iload 1 1) rfl rfl
theorem x_308_15  : exG TB d 308 15 L (.int i2 :: .int i1 :: .ref p :: st) A = ka (wrI 0 (ga A p) i1 i2) p d 308 16 L st A := x_bd (op := o_wrI 0) rfl rfl (fun _ => rfl)
theorem x_308_16  : exG TB d 308 16 (some v :: r9) st A = rg v (exG TB d 308 17 (some v :: r9) (v :: st) A) := x_rg (op := o_aload 0 1) rfl rfl
theorem x_308_17  : exG TB d 308 17 L (.ref p :: st) A = kv (gf A p 148) d 308 20 L st A := x_bd (op := o_get 148) rfl rfl (fun _ => rfl)
theorem x_308_20  : exG TB d 308 20 L st A = exG TB d 308 22 L (.int (nI 8) :: st) A := x_nx (op := o_push 2 (.int 8)) rfl rfl
theorem x_308_22  : exG TB d 308 22 L (v :: v2 :: st) A = ck (c1 v && c1 v2) (exG TB d 308 23 L (v :: v2 :: v :: v2 :: st) A) := x_gd (op := o_dup2) rfl rfl
theorem x_308_23  : exG TB d 308 23 L (.int i1 :: .ref p :: st) A = ki (rdI 0 (ga A p) i1) d 308 24 L st A := x_bd (op := o_rdI 0) rfl rfl (fun _ => rfl)
theorem x_308_24  : exG TB d 308 24 L st A = exG TB d 308 25 L (.int (nI 1) :: st) A := x_nx (op := o_push 1 (.int 1)) rfl rfl
theorem x_308_25  : exG TB d 308 25 L (.int i2 :: .int i1 :: st) A = exG TB d 308 26 L (.int (i1 + i2) :: st) A := x_nx (op := o_iop (fun x y => x + y)) rfl rfl
theorem x_308_26  : exG TB d 308 26 L (.int i2 :: .int i1 :: .ref p :: st) A = ka (wrI 0 (ga A p) i1 i2) p d 308 27 L st A := x_bd (op := o_wrI 0) rfl rfl (fun _ => rfl)
theorem x_308_27  : exG TB d 308 27 (some v :: r9) st A = rg v (exG TB d 308 28 (some v :: r9) (v :: st) A) := x_rg (op := o_aload 0 1) rfl rfl
theorem x_308_28  : exG TB d 308 28 L (.ref p :: st) A = kv (gf A p 148) d 308 31 L st A := x_bd (op := o_get 148) rfl rfl (fun _ => rfl)
theorem x_308_31  : exG TB d 308 31 L st A = exG TB d 308 33 L (.int (nI 8) :: st) A := x_nx (op := o_push 2 (.int 8)) rfl rfl
theorem x_308_33  : exG TB d 308 33 L (.int i1 :: .ref p :: st) A = ki (rdI 0 (ga A p) i1) d 308 34 L st A := x_bd (op := o_rdI 0) rfl rfl (fun _ => rfl)
theorem x_308_34  : exG TB d 308 34 L st A = exG TB d 308 35 L (.int (nI 1) :: st) A := x_nx (op := o_push 1 (.int 1)) rfl rfl
theorem x_308_35  : exG TB d 308 35 L (.int i2 :: .int i1 :: st) A = exG TB d 308 36 L (.int (i1 - i2) :: st) A := x_nx (op := o_iop (fun x y => x - y)) rfl rfl
theorem x_308_36  : exG TB d 308 36 L [v] A = ck (okv 1 v) (some (.inl (some v), A)) := x_outg (op := o_ret 1) rfl rfl
theorem e_309  : evG TB (d + 1) 309 [.ref p] A = exG TB d 309 0 [some (.ref p), none, none, none, none, none] [] A := evG_eq TB d 309 _ A
theorem x_309_0  : exG TB d 309 0 (some v :: r9) st A = rg v (exG TB d 309 1 (some v :: r9) (v :: st) A) := x_rg (op := o_aload 0 1) rfl rfl
theorem x_309_1  : exG TB d 309 1 (some v :: r9) st A = rg v (exG TB d 309 2 (some v :: r9) (v :: st) A) := x_rg (op := o_aload 0 1) rfl rfl
theorem x_309_2  : exG TB d 309 2 L (.ref p :: st) A = kv (gf A p 148) d 309 5 L st A := x_bd (op := o_get 148) rfl rfl (fun _ => rfl)
theorem x_309_5  : exG TB d 309 5 L st A = exG TB d 309 7 L (.int (nI 9) :: st) A := x_nx (op := o_push 2 (.int 9)) rfl rfl
theorem x_309_7  : exG TB d 309 7 L (.int i1 :: .ref p :: st) A = ki (rdI 0 (ga A p) i1) d 309 8 L st A := x_bd (op := o_rdI 0) rfl rfl (fun _ => rfl)
theorem x_309_8  : exG TB d 309 8 L st A = exG TB d 309 10 L (.int (nI 40) :: st) A := x_nx (op := o_push 2 (.int 40)) rfl rfl
theorem x_309_10  : exG TB d 309 10 L (.int i2 :: .int i1 :: st) A = if i2 ≤ i1 then exG TB d 309 17 L st A else exG TB d 309 13 L st A := x_if (op := o_icmp (fun x y => decide (y ≤ x)) 17) rfl rfl rfl
theorem x_309_13  : exG TB d 309 13 L st A = exG TB d 309 14 L (.int (nI 1) :: st) A := x_nx (op := o_push 1 (.int 1)) rfl rfl
theorem x_309_14  : exG TB d 309 14 L st A = exG TB d 309 18 L st A := x_nx (op := o_goto 18) rfl rfl
theorem x_309_17  : exG TB d 309 17 L st A = exG TB d 309 18 L (.int (nI 0) :: st) A := x_nx (op := o_push 1 (.int 0)) rfl rfl
theorem x_309_18  : exG TB d 309 18 L st A = exG TB d 309 19 L (.int (nI 3) :: st) A := x_nx (op := o_push 1 (.int 3)) rfl rfl
theorem x_309_19  : exG TB d 309 19 L [b1, b0, .ref p] A = kw0 (sel (gc A p) [(30, 304)]) [.ref p, b0, b1] d 309 22 L [] A := x_c0b (op := o_cv [(30, 304)] 2 3 true none) rfl rfl x_noh rfl
theorem x_309_22  : exG TB d 309 22 (some v :: r9) st A = rg v (exG TB d 309 23 (some v :: r9) (v :: st) A) := x_rg (op := o_aload 0 1) rfl rfl
theorem x_309_23  : exG TB d 309 23 L [.ref p] A = kw0 (sel (gc A p) [(30, 305)]) [.ref p] d 309 26 L [] A := x_c0b (op := o_cv [(30, 305)] 0 3 true none) rfl rfl x_noh rfl
theorem x_309_26  : exG TB d 309 26 (some v :: r9) st A = rg v (exG TB d 309 27 (some v :: r9) (v :: st) A) := x_rg (op := o_aload 0 1) rfl rfl
theorem x_309_27  : exG TB d 309 27 L st A = exG TB d 309 28 L (.int (nI 0) :: st) A := x_nx (op := o_push 1 (.int 0)) rfl rfl
theorem x_309_28  : exG TB d 309 28 (some v :: r9) st A = rg v (exG TB d 309 29 (some v :: r9) (v :: st) A) := x_rg (op := o_aload 0 1) rfl rfl
theorem x_309_29  : exG TB d 309 29 L (.ref p :: st) A = kv (gf A p 148) d 309 32 L st A := x_bd (op := o_get 148) rfl rfl (fun _ => rfl)
theorem x_309_32  : exG TB d 309 32 L st A = exG TB d 309 34 L (.int (nI 8) :: st) A := x_nx (op := o_push 2 (.int 8)) rfl rfl
theorem x_309_34  : exG TB d 309 34 L (.int i1 :: .ref p :: st) A = ki (rdI 0 (ga A p) i1) d 309 35 L st A := x_bd (op := o_rdI 0) rfl rfl (fun _ => rfl)
theorem x_309_35  : exG TB d 309 35 L st A = exG TB d 309 36 L (.int (nI 1) :: st) A := x_nx (op := o_push 1 (.int 1)) rfl rfl
theorem x_309_36  : exG TB d 309 36 L (.int i2 :: .int i1 :: st) A = exG TB d 309 37 L (.int (i1 - i2) :: st) A := x_nx (op := o_iop (fun x y => x - y)) rfl rfl
theorem x_309_37  : exG TB d 309 37 L [b1, b0, .ref p] A = kw (sel (gc A p) [(30, 306)]) [.ref p, b0, b1] d 309 40 L [] A := x_cvb (op := o_cv [(30, 306)] 2 3 false none) rfl rfl x_noh rfl
theorem x_309_40  : exG TB d 309 40 (a0 :: a1 :: r9) (.int i1 :: st) A = exG TB d 309 41 (a0 :: some (.int i1) :: r9) st A := x_nx (op := o_istore 1 1) rfl rfl
theorem x_309_41  : exG TB d 309 41 (some v :: r9) st A = rg v (exG TB d 309 42 (some v :: r9) (v :: st) A) := x_rg (op := o_aload 0 1) rfl rfl
theorem x_309_42  : exG TB d 309 42 L st A = exG TB d 309 43 L (.int (nI 0) :: st) A := x_nx (op := o_push 1 (.int 0)) rfl rfl
theorem x_309_43  : exG TB d 309 43 (some v :: r9) st A = rg v (exG TB d 309 44 (some v :: r9) (v :: st) A) := x_rg (op := o_aload 0 1) rfl rfl
theorem x_309_44  : exG TB d 309 44 L (.ref p :: st) A = kv (gf A p 148) d 309 47 L st A := x_bd (op := o_get 148) rfl rfl (fun _ => rfl)
theorem x_309_47  : exG TB d 309 47 L st A = exG TB d 309 49 L (.int (nI 8) :: st) A := x_nx (op := o_push 2 (.int 8)) rfl rfl
theorem x_309_49  : exG TB d 309 49 L (.int i1 :: .ref p :: st) A = ki (rdI 0 (ga A p) i1) d 309 50 L st A := x_bd (op := o_rdI 0) rfl rfl (fun _ => rfl)
theorem x_309_50  : exG TB d 309 50 L st A = exG TB d 309 51 L (.int (nI 1) :: st) A := x_nx (op := o_push 1 (.int 1)) rfl rfl
theorem x_309_51  : exG TB d 309 51 L (.int i2 :: .int i1 :: st) A = exG TB d 309 52 L (.int (i1 - i2) :: st) A := x_nx (op := o_iop (fun x y => x - y)) rfl rfl
theorem x_309_52  : exG TB d 309 52 L [b1, b0, .ref p] A = kw0 (sel (gc A p) [(30, 307)]) [.ref p, b0, b1] d 309 55 L [] A := x_c0b (op := o_cv [(30, 307)] 2 3 true none) rfl rfl x_noh rfl
theorem x_309_55  : exG TB d 309 55 (some v :: r9) st A = rg v (exG TB d 309 56 (some v :: r9) (v :: st) A) := x_rg (op := o_aload 0 1) rfl rfl
theorem x_309_56  : exG TB d 309 56 L (.ref p :: st) A = kv (gf A p 162) d 309 59 L st A := x_bd (op := o_get 162) rfl rfl (fun _ => rfl)
theorem x_309_59  : exG TB d 309 59 (a0 :: a1 :: a2 :: r9) (.int i1 :: st) A = exG TB d 309 60 (a0 :: a1 :: some (.int i1) :: r9) st A := x_nx (op := o_istore 2 1) rfl rfl
theorem x_309_60  : exG TB d 309 60 (some v :: r9) st A = rg v (exG TB d 309 61 (some v :: r9) (v :: st) A) := x_rg (op := o_aload 0 1) rfl rfl
theorem x_309_61  : exG TB d 309 61 (a0 :: a1 :: some (.int i1) :: r9) st A = exG TB d 309 62 (a0 :: a1 :: some (.int i1) :: r9) (.int i1 :: st) A := x_nx (op := o_iload 2 1) rfl rfl
theorem x_309_62  : exG TB d 309 62 (a0 :: some (.int i1) :: r9) st A = exG TB d 309 63 (a0 :: some (.int i1) :: r9) (.int i1 :: st) A := x_nx (op := o_iload 1 1) rfl rfl
theorem x_309_63  : exG TB d 309 63 L (.int i2 :: .int i1 :: st) A = if i1 = i2 then exG TB d 309 80 L st A else exG TB d 309 66 L st A := x_if (op := o_icmp (fun x y => decide (x = y)) 80) rfl rfl rfl
theorem x_309_66  : exG TB d 309 66 (some v :: r9) st A = rg v (exG TB d 309 67 (some v :: r9) (v :: st) A) := x_rg (op := o_aload 0 1) rfl rfl
theorem x_309_67  : exG TB d 309 67 (a0 :: some (.int i1) :: r9) st A = exG TB d 309 68 (a0 :: some (.int i1) :: r9) (.int i1 :: st) A := x_nx (op := o_iload 1 1) rfl rfl
theorem x_309_68  : exG TB d 309 68 (a0 :: a1 :: some (.int i1) :: r9) st A = exG TB d 309 69 (a0 :: a1 :: some (.int i1) :: r9) (.int i1 :: st) A := x_nx (op := o_iload 2 1) rfl rfl
theorem x_309_69  : exG TB d 309 69 L [b1, b0, .ref p, w0] A = kw (sel (gc A p) [(30, 310)]) [.ref p, b0, b1] d 309 72 L [w0] A := x_cvb (op := o_cv [(30, 310)] 2 3 false none) rfl rfl x_noh rfl
theorem x_309_72  : exG TB d 309 72 L st A = exG TB d 309 73 L (.int nN :: st) A := x_nx (op := o_push 1 (.int (-1))) rfl rfl
theorem x_309_73  : exG TB d 309 73 L (.int i2 :: .int i1 :: st) A = if ¬ i1 = i2 then exG TB d 309 80 L st A else exG TB d 309 76 L st A := x_if (op := o_icmp (fun x y => decide (¬ x = y)) 80) rfl rfl rfl
theorem x_309_76  : exG TB d 309 76 L st A = exG TB d 309 77 L (.int (nI 1) :: st) A := x_nx (op := o_push 1 (.int 1)) rfl rfl
theorem x_309_77  : exG TB d 309 77 L st A = exG TB d 309 81 L st A := x_nx (op := o_goto 81) rfl rfl
theorem x_309_80  : exG TB d 309 80 L st A = exG TB d 309 81 L (.int (nI 0) :: st) A := x_nx (op := o_push 1 (.int 0)) rfl rfl
theorem x_309_81  : exG TB d 309 81 L st A = exG TB d 309 82 L (.int (nI 4) :: st) A := x_nx (op := o_push 1 (.int 4)) rfl rfl
theorem x_309_82  : exG TB d 309 82 L [b1, b0, .ref p] A = kw0 (sel (gc A p) [(30, 304)]) [.ref p, b0, b1] d 309 85 L [] A := x_c0b (op := o_cv [(30, 304)] 2 3 true none) rfl rfl x_noh rfl
theorem x_309_85  : exG TB d 309 85 (some v :: r9) st A = rg v (exG TB d 309 86 (some v :: r9) (v :: st) A) := x_rg (op := o_aload 0 1) rfl rfl
theorem x_309_86  : exG TB d 309 86 L [.ref p] A = kw0 (sel (gc A p) [(30, 305)]) [.ref p] d 309 89 L [] A := x_c0b (op := o_cv [(30, 305)] 0 3 true none) rfl rfl x_noh rfl
theorem x_309_89  : exG TB d 309 89 (some v :: r9) st A = rg v (exG TB d 309 90 (some v :: r9) (v :: st) A) := x_rg (op := o_aload 0 1) rfl rfl
theorem x_309_90  : exG TB d 309 90 L st A = exG TB d 309 91 L (.int (nI 1) :: st) A := x_nx (op := o_push 1 (.int 1)) rfl rfl
theorem x_309_91  : exG TB d 309 91 L st A = exG TB d 309 93 L (.int (nI 60) :: st) A := x_nx (op := o_push 2 (.int 60)) rfl rfl
theorem x_309_93  : exG TB d 309 93 L [b1, b0, .ref p] A = kw (sel (gc A p) [(30, 306)]) [.ref p, b0, b1] d 309 96 L [] A := x_cvb (op := o_cv [(30, 306)] 2 3 false none) rfl rfl x_noh rfl
theorem x_309_96  : exG TB d 309 96 (a0 :: a1 :: a2 :: a3 :: r9) (.int i1 :: st) A = exG TB d 309 97 (a0 :: a1 :: a2 :: some (.int i1) :: r9) st A := x_nx (op := o_istore 3 1) rfl rfl
theorem x_309_97  : exG TB d 309 97 (some v :: r9) st A = rg v (exG TB d 309 98 (some v :: r9) (v :: st) A) := x_rg (op := o_aload 0 1) rfl rfl
theorem x_309_98  : exG TB d 309 98 L st A = exG TB d 309 99 L (.int (nI 0) :: st) A := x_nx (op := o_push 1 (.int 0)) rfl rfl
theorem x_309_99  : exG TB d 309 99 L st A = exG TB d 309 102 L (.int (nI 999) :: st) A := x_nx (op := o_push 3 (.int 999)) rfl rfl
theorem x_309_102  : exG TB d 309 102 L [b1, b0, .ref p] A = kw (sel (gc A p) [(30, 306)]) [.ref p, b0, b1] d 309 105 L [] A := x_cvb (op := o_cv [(30, 306)] 2 3 false none) rfl rfl x_noh rfl
theorem x_309_105  : exG TB d 309 105 (a0 :: a1 :: a2 :: a3 :: a4 :: r9) (.int i1 :: st) A = exG TB d 309 107 (a0 :: a1 :: a2 :: a3 :: some (.int i1) :: r9) st A := x_nx (op := o_istore 4 2) rfl rfl
theorem x_309_107  : exG TB d 309 107 (some v :: r9) st A = rg v (exG TB d 309 108 (some v :: r9) (v :: st) A) := x_rg (op := o_aload 0 1) rfl rfl
theorem x_309_108  : exG TB d 309 108 L [.ref p] A = kw (sel (gc A p) [(30, 300)]) [.ref p] d 309 111 L [] A := x_cvb (op := o_cv [(30, 300)] 0 3 false none) rfl rfl x_noh rfl
theorem x_309_111  : exG TB d 309 111 L (.int i1 :: st) A = if i1 = nI 0 then exG TB d 309 125 L st A else exG TB d 309 114 L st A := x_if (op := o_if (fun x => decide (x = 0)) 125) rfl rfl rfl
theorem x_309_114  : exG TB d 309 114 (some v :: r9) st A = rg v (exG TB d 309 115 (some v :: r9) (v :: st) A) := x_rg (op := o_aload 0 1) rfl rfl
theorem x_309_115  : exG TB d 309 115 (a0 :: some (.int i1) :: r9) st A = exG TB d 309 116 (a0 :: some (.int i1) :: r9) (.int i1 :: st) A := x_nx (op := o_iload 1 1) rfl rfl
theorem x_309_116  : exG TB d 309 116 (a0 :: a1 :: some (.int i1) :: r9) st A = exG TB d 309 117 (a0 :: a1 :: some (.int i1) :: r9) (.int i1 :: st) A := x_nx (op := o_iload 2 1) rfl rfl
theorem x_309_117  : exG TB d 309 117 (a0 :: a1 :: a2 :: some (.int i1) :: r9) st A = exG TB d 309 118 (a0 :: a1 :: a2 :: some (.int i1) :: r9) (.int i1 :: st) A := x_nx (op := o_iload 3 1) rfl rfl
theorem x_309_118  : exG TB d 309 118 (a0 :: a1 :: a2 :: a3 :: some (.int i1) :: r9) st A = exG TB d 309 120 (a0 :: a1 :: a2 :: a3 :: some (.int i1) :: r9) (.int i1 :: st) A := x_nx (op := o_iload 4 2) rfl rfl
theorem x_309_120  : exG TB d 309 120 L [b3, b2, b1, b0, .ref p] A = kw (sel (gc A p) [(30, 311)]) [.ref p, b0, b1, b2, b3] d 309 123 L [] A := x_cvb (op := o_cv [(30, 311)] 4 3 false none) rfl rfl x_noh rfl
theorem x_309_123  : exG TB d 309 123 (a0 :: a1 :: a2 :: a3 :: a4 :: a5 :: r9) (.int i1 :: st) A = exG TB d 309 125 (a0 :: a1 :: a2 :: a3 :: a4 :: some (.int i1) :: r9) st A := x_nx (op := o_istore 5 2) rfl rfl
theorem x_309_125  : exG TB d 309 125 L [] A = some (.inl none, A) := x_out (op := o_vret) rfl rfl
theorem e_310 {j1 : Int32} {j2 : Int32} : evG TB (d + 1) 310 [.ref p, .int j1, .int j2] A = exG TB d 310 0 [some (.ref p), some (.int j1), some (.int j2), none] [] A := evG_eq TB d 310 _ A
theorem x_310_0  : exG TB d 310 0 L st A = exG TB d 310 1 L (.int (nI 0) :: st) A := x_nx (op := o_push 1 (.int 0)) rfl rfl
theorem x_310_1  : exG TB d 310 1 (a0 :: a1 :: a2 :: a3 :: r9) (.int i1 :: st) A = exG TB d 310 2 (a0 :: a1 :: a2 :: some (.int i1) :: r9) st A := x_nx (op := o_istore 3 1) rfl rfl
theorem x_310_2  : exG TB d 310 2 (a0 :: a1 :: a2 :: some (.int i1) :: r9) st A = exG TB d 310 3 (a0 :: a1 :: a2 :: some (.int i1) :: r9) (.int i1 :: st) A := x_nx (op := o_iload 3 1) rfl rfl
theorem x_310_3  : exG TB d 310 3 (some v :: r9) st A = rg v (exG TB d 310 4 (some v :: r9) (v :: st) A) := x_rg (op := o_aload 0 1) rfl rfl
theorem x_310_4  : exG TB d 310 4 L (.ref p :: st) A = kv (gf A p 148) d 310 7 L st A := x_bd (op := o_get 148) rfl rfl (fun _ => rfl)
theorem x_310_7  : exG TB d 310 7 L st A = exG TB d 310 9 L (.int (nI 9) :: st) A := x_nx (op := o_push 2 (.int 9)) rfl rfl
theorem x_310_9  : exG TB d 310 9 L (.int i1 :: .ref p :: st) A = ki (rdI 0 (ga A p) i1) d 310 10 L st A := x_bd (op := o_rdI 0) rfl rfl (fun _ => rfl)
theorem x_310_10  : exG TB d 310 10 L (.int i2 :: .int i1 :: st) A = if i2 ≤ i1 then exG TB d 310 53 L st A else exG TB d 310 13 L st A := x_if (op := o_icmp (fun x y => decide (y ≤ x)) 53) rfl rfl rfl
theorem x_310_13  : exG TB d 310 13 (some v :: r9) st A = rg v (exG TB d 310 14 (some v :: r9) (v :: st) A) := x_rg (op := o_aload 0 1) rfl rfl
theorem x_310_14  : exG TB d 310 14 L (.ref p :: st) A = kv (gf A p 148) d 310 17 L st A := x_bd (op := o_get 148) rfl rfl (fun _ => rfl)
theorem x_310_17  : exG TB d 310 17 L st A = exG TB d 310 19 L (.int (nI 27) :: st) A := x_nx (op := o_push 2 (.int 27)) rfl rfl
theorem x_310_19  : exG TB d 310 19 L st A = exG TB d 310 20 L (.int (nI 4) :: st) A := x_nx (op := o_push 1 (.int 4)) rfl rfl
theorem x_310_20  : exG TB d 310 20 (a0 :: a1 :: a2 :: some (.int i1) :: r9) st A = exG TB d 310 21 (a0 :: a1 :: a2 :: some (.int i1) :: r9) (.int i1 :: st) A := x_nx (op := o_iload 3 1) rfl rfl
theorem x_310_21  : exG TB d 310 21 L (.int i2 :: .int i1 :: st) A = exG TB d 310 22 L (.int (i1 * i2) :: st) A := x_nx (op := o_iop (fun x y => x * y)) rfl rfl
theorem x_310_22  : exG TB d 310 22 L (.int i2 :: .int i1 :: st) A = exG TB d 310 23 L (.int (i1 + i2) :: st) A := x_nx (op := o_iop (fun x y => x + y)) rfl rfl
theorem x_310_23  : exG TB d 310 23 L (.int i1 :: .ref p :: st) A = ki (rdI 0 (ga A p) i1) d 310 24 L st A := x_bd (op := o_rdI 0) rfl rfl (fun _ => rfl)
theorem x_310_24  : exG TB d 310 24 (a0 :: some (.int i1) :: r9) st A = exG TB d 310 25 (a0 :: some (.int i1) :: r9) (.int i1 :: st) A := x_nx (op := o_iload 1 1) rfl rfl
theorem x_310_25  : exG TB d 310 25 L (.int i2 :: .int i1 :: st) A = if ¬ i1 = i2 then exG TB d 310 47 L st A else exG TB d 310 28 L st A := x_if (op := o_icmp (fun x y => decide (¬ x = y)) 47) rfl rfl rfl
theorem x_310_28  : exG TB d 310 28 (some v :: r9) st A = rg v (exG TB d 310 29 (some v :: r9) (v :: st) A) := x_rg (op := o_aload 0 1) rfl rfl
theorem x_310_29  : exG TB d 310 29 L (.ref p :: st) A = kv (gf A p 148) d 310 32 L st A := x_bd (op := o_get 148) rfl rfl (fun _ => rfl)
theorem x_310_32  : exG TB d 310 32 L st A = exG TB d 310 34 L (.int (nI 27) :: st) A := x_nx (op := o_push 2 (.int 27)) rfl rfl
theorem x_310_34  : exG TB d 310 34 L st A = exG TB d 310 35 L (.int (nI 4) :: st) A := x_nx (op := o_push 1 (.int 4)) rfl rfl
theorem x_310_35  : exG TB d 310 35 (a0 :: a1 :: a2 :: some (.int i1) :: r9) st A = exG TB d 310 36 (a0 :: a1 :: a2 :: some (.int i1) :: r9) (.int i1 :: st) A := x_nx (op := o_iload 3 1) rfl rfl
theorem x_310_36  : exG TB d 310 36 L (.int i2 :: .int i1 :: st) A = exG TB d 310 37 L (.int (i1 * i2) :: st) A := x_nx (op := o_iop (fun x y => x * y)) rfl rfl
theorem x_310_37  : exG TB d 310 37 L (.int i2 :: .int i1 :: st) A = exG TB d 310 38 L (.int (i1 + i2) :: st) A := x_nx (op := o_iop (fun x y => x + y)) rfl rfl
theorem x_310_38  : exG TB d 310 38 L st A = exG TB d 310 39 L (.int (nI 1) :: st) A := x_nx (op := o_push 1 (.int 1)) rfl rfl
theorem x_310_39  : exG TB d 310 39 L (.int i2 :: .int i1 :: st) A = exG TB d 310 40 L (.int (i1 + i2) :: st) A := x_nx (op := o_iop (fun x y => x + y)) rfl rfl
theorem x_310_40  : exG TB d 310 40 L (.int i1 :: .ref p :: st) A = ki (rdI 0 (ga A p) i1) d 310 41 L st A := x_bd (op := o_rdI 0) rfl rfl (fun _ => rfl)
theorem x_310_41  : exG TB d 310 41 (a0 :: a1 :: some (.int i1) :: r9) st A = exG TB d 310 42 (a0 :: a1 :: some (.int i1) :: r9) (.int i1 :: st) A := x_nx (op := o_iload 2 1) rfl rfl
theorem x_310_42  : exG TB d 310 42 L (.int i2 :: .int i1 :: st) A = if ¬ i1 = i2 then exG TB d 310 47 L st A else exG TB d 310 45 L st A := x_if (op := o_icmp (fun x y => decide (¬ x = y)) 47) rfl rfl rfl
theorem x_310_45  : exG TB d 310 45 (a0 :: a1 :: a2 :: some (.int i1) :: r9) st A = exG TB d 310 46 (a0 :: a1 :: a2 :: some (.int i1) :: r9) (.int i1 :: st) A := x_nx (op := o_iload 3 1) rfl rfl
theorem x_310_46  : exG TB d 310 46 L [v] A = ck (okv 1 v) (some (.inl (some v), A)) := x_outg (op := o_ret 1) rfl rfl
theorem x_310_47  : exG TB d 310 47 (a0 :: a1 :: a2 :: some (.int i1) :: r9) st A = exG TB d 310 50 (a0 :: a1 :: a2 :: some (.int (i1 + (nI 1))) :: r9) st A := x_nx (op := o_iinc 3 1) rfl rfl
theorem x_310_50  : exG TB d 310 50 L st A = exG TB d 310 2 L st A := x_nx (op := o_goto 2) rfl rfl
theorem x_310_53  : exG TB d 310 53 L st A = exG TB d 310 54 L (.int nN :: st) A := x_nx (op := o_push 1 (.int (-1))) rfl rfl
theorem x_310_54  : exG TB d 310 54 L [v] A = ck (okv 1 v) (some (.inl (some v), A)) := x_outg (op := o_ret 1) rfl rfl
theorem e_311 {j1 : Int32} {j2 : Int32} {j3 : Int32} {j4 : Int32} : evG TB (d + 1) 311 [.ref p, .int j1, .int j2, .int j3, .int j4] A = exG TB d 311 0 [some (.ref p), some (.int j1), some (.int j2), some (.int j3), some (.int j4), none] [] A := evG_eq TB d 311 _ A
theorem x_311_0  : exG TB d 311 0 L st A = exG TB d 311 2 L (.int (nI 27) :: st) A := x_nx (op := o_push 2 (.int 27)) rfl rfl
theorem x_311_2  : exG TB d 311 2 L st A = exG TB d 311 3 L (.int (nI 4) :: st) A := x_nx (op := o_push 1 (.int 4)) rfl rfl
theorem x_311_3  : exG TB d 311 3 (some v :: r9) st A = rg v (exG TB d 311 4 (some v :: r9) (v :: st) A) := x_rg (op := o_aload 0 1) rfl rfl
theorem x_311_4  : exG TB d 311 4 L (.ref p :: st) A = kv (gf A p 148) d 311 7 L st A := x_bd (op := o_get 148) rfl rfl (fun _ => rfl)
theorem x_311_7  : exG TB d 311 7 L st A = exG TB d 311 9 L (.int (nI 9) :: st) A := x_nx (op := o_push 2 (.int 9)) rfl rfl
theorem x_311_9  : exG TB d 311 9 L (.int i1 :: .ref p :: st) A = ki (rdI 0 (ga A p) i1) d 311 10 L st A := x_bd (op := o_rdI 0) rfl rfl (fun _ => rfl)
theorem x_311_10  : exG TB d 311 10 L (.int i2 :: .int i1 :: st) A = exG TB d 311 11 L (.int (i1 * i2) :: st) A := x_nx (op := o_iop (fun x y => x * y)) rfl rfl
theorem x_311_11  : exG TB d 311 11 L (.int i2 :: .int i1 :: st) A = exG TB d 311 12 L (.int (i1 + i2) :: st) A := x_nx (op := o_iop (fun x y => x + y)) rfl rfl
theorem x_311_12  : exG TB d 311 12 (a0 :: a1 :: a2 :: a3 :: a4 :: a5 :: r9) (.int i1 :: st) A = exG TB d 311 14 (a0 :: a1 :: a2 :: a3 :: a4 :: some (.int i1) :: r9) st A := x_nx (op := o_istore 5 2) rfl rfl
theorem x_311_14  : exG TB d 311 14 (some v :: r9) st A = rg v (exG TB d 311 15 (some v :: r9) (v :: st) A) := x_rg (op := o_aload 0 1) rfl rfl
theorem x_311_15  : exG TB d 311 15 L (.ref p :: st) A = kv (gf A p 148) d 311 18 L st A := x_bd (op := o_get 148) rfl rfl (fun _ => rfl)
theorem x_311_18  : exG TB d 311 18 (a0 :: a1 :: a2 :: a3 :: a4 :: some (.int i1) :: r9) st A = exG TB d 311 20 (a0 :: a1 :: a2 :: a3 :: a4 :: some (.int i1) :: r9) (.int i1 :: st) A := x_nx (op := o_iload 5 2) rfl rfl
theorem x_311_20  : exG TB d 311 20 (a0 :: some (.int i1) :: r9) st A = exG TB d 311 21 (a0 :: some (.int i1) :: r9) (.int i1 :: st) A := x_nx (op := o_iload 1 1) rfl rfl
theorem x_311_21  : exG TB d 311 21 L (.int i2 :: .int i1 :: .ref p :: st) A = ka (wrI 0 (ga A p) i1 i2) p d 311 22 L st A := x_bd (op := o_wrI 0) rfl rfl (fun _ => rfl)
theorem x_311_22  : exG TB d 311 22 (some v :: r9) st A = rg v (exG TB d 311 23 (some v :: r9) (v :: st) A) := x_rg (op := o_aload 0 1) rfl rfl
theorem x_311_23  : exG TB d 311 23 L (.ref p :: st) A = kv (gf A p 148) d 311 26 L st A := x_bd (op := o_get 148) rfl rfl (fun _ => rfl)
theorem x_311_26  : exG TB d 311 26 (a0 :: a1 :: a2 :: a3 :: a4 :: some (.int i1) :: r9) st A = exG TB d 311 28 (a0 :: a1 :: a2 :: a3 :: a4 :: some (.int i1) :: r9) (.int i1 :: st) A := x_nx (op := o_iload 5 2) rfl rfl
theorem x_311_28  : exG TB d 311 28 L st A = exG TB d 311 29 L (.int (nI 1) :: st) A := x_nx (op := o_push 1 (.int 1)) rfl rfl
theorem x_311_29  : exG TB d 311 29 L (.int i2 :: .int i1 :: st) A = exG TB d 311 30 L (.int (i1 + i2) :: st) A := x_nx (op := o_iop (fun x y => x + y)) rfl rfl
theorem x_311_30  : exG TB d 311 30 (a0 :: a1 :: some (.int i1) :: r9) st A = exG TB d 311 31 (a0 :: a1 :: some (.int i1) :: r9) (.int i1 :: st) A := x_nx (op := o_iload 2 1) rfl rfl
theorem x_311_31  : exG TB d 311 31 L (.int i2 :: .int i1 :: .ref p :: st) A = ka (wrI 0 (ga A p) i1 i2) p d 311 32 L st A := x_bd (op := o_wrI 0) rfl rfl (fun _ => rfl)
theorem x_311_32  : exG TB d 311 32 (some v :: r9) st A = rg v (exG TB d 311 33 (some v :: r9) (v :: st) A) := x_rg (op := o_aload 0 1) rfl rfl
theorem x_311_33  : exG TB d 311 33 L (.ref p :: st) A = kv (gf A p 148) d 311 36 L st A := x_bd (op := o_get 148) rfl rfl (fun _ => rfl)
theorem x_311_36  : exG TB d 311 36 (a0 :: a1 :: a2 :: a3 :: a4 :: some (.int i1) :: r9) st A = exG TB d 311 38 (a0 :: a1 :: a2 :: a3 :: a4 :: some (.int i1) :: r9) (.int i1 :: st) A := x_nx (op := o_iload 5 2) rfl rfl
theorem x_311_38  : exG TB d 311 38 L st A = exG TB d 311 39 L (.int (nI 2) :: st) A := x_nx (op := o_push 1 (.int 2)) rfl rfl
theorem x_311_39  : exG TB d 311 39 L (.int i2 :: .int i1 :: st) A = exG TB d 311 40 L (.int (i1 + i2) :: st) A := x_nx (op := o_iop (fun x y => x + y)) rfl rfl
theorem x_311_40  : exG TB d 311 40 (a0 :: a1 :: a2 :: some (.int i1) :: r9) st A = exG TB d 311 41 (a0 :: a1 :: a2 :: some (.int i1) :: r9) (.int i1 :: st) A := x_nx (op := o_iload 3 1) rfl rfl
theorem x_311_41  : exG TB d 311 41 L (.int i2 :: .int i1 :: .ref p :: st) A = ka (wrI 0 (ga A p) i1 i2) p d 311 42 L st A := x_bd (op := o_wrI 0) rfl rfl (fun _ => rfl)
theorem x_311_42  : exG TB d 311 42 (some v :: r9) st A = rg v (exG TB d 311 43 (some v :: r9) (v :: st) A) := x_rg (op := o_aload 0 1) rfl rfl
theorem x_311_43  : exG TB d 311 43 L (.ref p :: st) A = kv (gf A p 148) d 311 46 L st A := x_bd (op := o_get 148) rfl rfl (fun _ => rfl)
theorem x_311_46  : exG TB d 311 46 (a0 :: a1 :: a2 :: a3 :: a4 :: some (.int i1) :: r9) st A = exG TB d 311 48 (a0 :: a1 :: a2 :: a3 :: a4 :: some (.int i1) :: r9) (.int i1 :: st) A := x_nx (op := o_iload 5 2) rfl rfl
theorem x_311_48  : exG TB d 311 48 L st A = exG TB d 311 49 L (.int (nI 3) :: st) A := x_nx (op := o_push 1 (.int 3)) rfl rfl
theorem x_311_49  : exG TB d 311 49 L (.int i2 :: .int i1 :: st) A = exG TB d 311 50 L (.int (i1 + i2) :: st) A := x_nx (op := o_iop (fun x y => x + y)) rfl rfl
theorem x_311_50  : exG TB d 311 50 (a0 :: a1 :: a2 :: a3 :: some (.int i1) :: r9) st A = exG TB d 311 52 (a0 :: a1 :: a2 :: a3 :: some (.int i1) :: r9) (.int i1 :: st) A := x_nx (op := o_iload 4 2) rfl rfl
theorem x_311_52  : exG TB d 311 52 L (.int i2 :: .int i1 :: .ref p :: st) A = ka (wrI 0 (ga A p) i1 i2) p d 311 53 L st A := x_bd (op := o_wrI 0) rfl rfl (fun _ => rfl)
theorem x_311_53  : exG TB d 311 53 (some v :: r9) st A = rg v (exG TB d 311 54 (some v :: r9) (v :: st) A) := x_rg (op := o_aload 0 1) rfl rfl
theorem x_311_54  : exG TB d 311 54 L (.ref p :: st) A = kv (gf A p 148) d 311 57 L st A := x_bd (op := o_get 148) rfl rfl (fun _ => rfl)
theorem x_311_57  : exG TB d 311 57 L st A = exG TB d 311 59 L (.int (nI 9) :: st) A := x_nx (op := o_push 2 (.int 9)) rfl rfl
theorem x_311_59  : exG TB d 311 59 L (v :: v2 :: st) A = ck (c1 v && c1 v2) (exG TB d 311 60 L (v :: v2 :: v :: v2 :: st) A) := x_gd (op := o_dup2) rfl rfl
theorem x_311_60  : exG TB d 311 60 L (.int i1 :: .ref p :: st) A = ki (rdI 0 (ga A p) i1) d 311 61 L st A := x_bd (op := o_rdI 0) rfl rfl (fun _ => rfl)
theorem x_311_61  : exG TB d 311 61 L st A = exG TB d 311 62 L (.int (nI 1) :: st) A := x_nx (op := o_push 1 (.int 1)) rfl rfl
theorem x_311_62  : exG TB d 311 62 L (.int i2 :: .int i1 :: st) A = exG TB d 311 63 L (.int (i1 + i2) :: st) A := x_nx (op := o_iop (fun x y => x + y)) rfl rfl
theorem x_311_63  : exG TB d 311 63 L (.int i2 :: .int i1 :: .ref p :: st) A = ka (wrI 0 (ga A p) i1 i2) p d 311 64 L st A := x_bd (op := o_wrI 0) rfl rfl (fun _ => rfl)
theorem x_311_64  : exG TB d 311 64 (some v :: r9) st A = rg v (exG TB d 311 65 (some v :: r9) (v :: st) A) := x_rg (op := o_aload 0 1) rfl rfl
theorem x_311_65  : exG TB d 311 65 L (.ref p :: st) A = kv (gf A p 148) d 311 68 L st A := x_bd (op := o_get 148) rfl rfl (fun _ => rfl)
theorem x_311_68  : exG TB d 311 68 L st A = exG TB d 311 70 L (.int (nI 9) :: st) A := x_nx (op := o_push 2 (.int 9)) rfl rfl
theorem x_311_70  : exG TB d 311 70 L (.int i1 :: .ref p :: st) A = ki (rdI 0 (ga A p) i1) d 311 71 L st A := x_bd (op := o_rdI 0) rfl rfl (fun _ => rfl)
theorem x_311_71  : exG TB d 311 71 L st A = exG TB d 311 72 L (.int (nI 1) :: st) A := x_nx (op := o_push 1 (.int 1)) rfl rfl
theorem x_311_72  : exG TB d 311 72 L (.int i2 :: .int i1 :: st) A = exG TB d 311 73 L (.int (i1 - i2) :: st) A := x_nx (op := o_iop (fun x y => x - y)) rfl rfl
theorem x_311_73  : exG TB d 311 73 L [v] A = ck (okv 1 v) (some (.inl (some v), A)) := x_outg (op := o_ret 1) rfl rfl
theorem e_312  : evG TB (d + 1) 312 [.ref p] A = exG TB d 312 0 [some (.ref p), none, none, none, none] [] A := evG_eq TB d 312 _ A
theorem x_312_0  : exG TB d 312 0 (some v :: r9) st A = rg v (exG TB d 312 1 (some v :: r9) (v :: st) A) := x_rg (op := o_aload 0 1) rfl rfl
theorem x_312_1  : exG TB d 312 1 (some v :: r9) st A = rg v (exG TB d 312 2 (some v :: r9) (v :: st) A) := x_rg (op := o_aload 0 1) rfl rfl
theorem x_312_2  : exG TB d 312 2 L (.ref p :: st) A = kv (gf A p 148) d 312 5 L st A := x_bd (op := o_get 148) rfl rfl (fun _ => rfl)
theorem x_312_5  : exG TB d 312 5 L st A = exG TB d 312 7 L (.int (nI 10) :: st) A := x_nx (op := o_push 2 (.int 10)) rfl rfl
theorem x_312_7  : exG TB d 312 7 L (.int i1 :: .ref p :: st) A = ki (rdI 0 (ga A p) i1) d 312 8 L st A := x_bd (op := o_rdI 0) rfl rfl (fun _ => rfl)
theorem x_312_8  : exG TB d 312 8 L st A = exG TB d 312 10 L (.int (nI 8) :: st) A := x_nx (op := o_push 2 (.int 8)) rfl rfl
theorem x_312_10  : exG TB d 312 10 L (.int i2 :: .int i1 :: st) A = if i2 ≤ i1 then exG TB d 312 17 L st A else exG TB d 312 13 L st A := x_if (op := o_icmp (fun x y => decide (y ≤ x)) 17) rfl rfl rfl
theorem x_312_13  : exG TB d 312 13 L st A = exG TB d 312 14 L (.int (nI 1) :: st) A := x_nx (op := o_push 1 (.int 1)) rfl rfl
theorem x_312_14  : exG TB d 312 14 L st A = exG TB d 312 18 L st A := x_nx (op := o_goto 18) rfl rfl
theorem x_312_17  : exG TB d 312 17 L st A = exG TB d 312 18 L (.int (nI 0) :: st) A := x_nx (op := o_push 1 (.int 0)) rfl rfl
theorem x_312_18  : exG TB d 312 18 L st A = exG TB d 312 19 L (.int (nI 3) :: st) A := x_nx (op := o_push 1 (.int 3)) rfl rfl
theorem x_312_19  : exG TB d 312 19 L [b1, b0, .ref p] A = kw0 (sel (gc A p) [(30, 304)]) [.ref p, b0, b1] d 312 22 L [] A := x_c0b (op := o_cv [(30, 304)] 2 3 true none) rfl rfl x_noh rfl
theorem x_312_22  : exG TB d 312 22 (some v :: r9) st A = rg v (exG TB d 312 23 (some v :: r9) (v :: st) A) := x_rg (op := o_aload 0 1) rfl rfl
theorem x_312_23  : exG TB d 312 23 L [.ref p] A = kw0 (sel (gc A p) [(30, 305)]) [.ref p] d 312 26 L [] A := x_c0b (op := o_cv [(30, 305)] 0 3 true none) rfl rfl x_noh rfl
theorem x_312_26  : exG TB d 312 26 (some v :: r9) st A = rg v (exG TB d 312 27 (some v :: r9) (v :: st) A) := x_rg (op := o_aload 0 1) rfl rfl
theorem x_312_27  : exG TB d 312 27 L st A = exG TB d 312 28 L (.int (nI 0) :: st) A := x_nx (op := o_push 1 (.int 0)) rfl rfl
theorem x_312_28  : exG TB d 312 28 L st A = exG TB d 312 30 L (.int (nI 100000) :: st) A := x_nx (op := o_push 2 (.int 100000)) rfl rfl
theorem x_312_30  : exG TB d 312 30 L [b1, b0, .ref p] A = kw (sel (gc A p) [(30, 306)]) [.ref p, b0, b1] d 312 33 L [] A := x_cvb (op := o_cv [(30, 306)] 2 3 false none) rfl rfl x_noh rfl
theorem x_312_33  : exG TB d 312 33 (a0 :: a1 :: r9) (.int i1 :: st) A = exG TB d 312 34 (a0 :: some (.int i1) :: r9) st A := x_nx (op := o_istore 1 1) rfl rfl
theorem x_312_34  : exG TB d 312 34 (some v :: r9) st A = rg v (exG TB d 312 35 (some v :: r9) (v :: st) A) := x_rg (op := o_aload 0 1) rfl rfl
theorem x_312_35  : exG TB d 312 35 L st A = exG TB d 312 36 L (.int (nI 0) :: st) A := x_nx (op := o_push 1 (.int 0)) rfl rfl
theorem x_312_36  : exG TB d 312 36 L st A = exG TB d 312 38 L (.int (nI 50) :: st) A := x_nx (op := o_push 2 (.int 50)) rfl rfl
theorem x_312_38  : exG TB d 312 38 L [b1, b0, .ref p] A = kw (sel (gc A p) [(30, 306)]) [.ref p, b0, b1] d 312 41 L [] A := x_cvb (op := o_cv [(30, 306)] 2 3 false none) rfl rfl x_noh rfl
theorem x_312_41  : exG TB d 312 41 (a0 :: a1 :: a2 :: r9) (.int i1 :: st) A = exG TB d 312 42 (a0 :: a1 :: some (.int i1) :: r9) st A := x_nx (op := o_istore 2 1) rfl rfl
theorem x_312_42  : exG TB d 312 42 (some v :: r9) st A = rg v (exG TB d 312 43 (some v :: r9) (v :: st) A) := x_rg (op := o_aload 0 1) rfl rfl
theorem x_312_43  : exG TB d 312 43 L st A = exG TB d 312 44 L (.int (nI 0) :: st) A := x_nx (op := o_push 1 (.int 0)) rfl rfl
theorem x_312_44  : exG TB d 312 44 L st A = exG TB d 312 46 L (.int (nI 50) :: st) A := x_nx (op := o_push 2 (.int 50)) rfl rfl
theorem x_312_46  : exG TB d 312 46 L [b1, b0, .ref p] A = kw (sel (gc A p) [(30, 306)]) [.ref p, b0, b1] d 312 49 L [] A := x_cvb (op := o_cv [(30, 306)] 2 3 false none) rfl rfl x_noh rfl
theorem x_312_49  : exG TB d 312 49 (a0 :: a1 :: a2 :: a3 :: r9) (.int i1 :: st) A = exG TB d 312 50 (a0 :: a1 :: a2 :: some (.int i1) :: r9) st A := x_nx (op := o_istore 3 1) rfl rfl
theorem x_312_50  : exG TB d 312 50 (some v :: r9) st A = rg v (exG TB d 312 51 (some v :: r9) (v :: st) A) := x_rg (op := o_aload 0 1) rfl rfl
theorem x_312_51  : exG TB d 312 51 L [.ref p] A = kw (sel (gc A p) [(30, 300)]) [.ref p] d 312 54 L [] A := x_cvb (op := o_cv [(30, 300)] 0 3 false none) rfl rfl x_noh rfl
theorem x_312_54  : exG TB d 312 54 L (.int i1 :: st) A = if i1 = nI 0 then exG TB d 312 66 L st A else exG TB d 312 57 L st A := x_if (op := o_if (fun x => decide (x = 0)) 66) rfl rfl rfl
theorem x_312_57  : exG TB d 312 57 (some v :: r9) st A = rg v (exG TB d 312 58 (some v :: r9) (v :: st) A) := x_rg (op := o_aload 0 1) rfl rfl
theorem x_312_58  : exG TB d 312 58 (a0 :: some (.int i1) :: r9) st A = exG TB d 312 59 (a0 :: some (.int i1) :: r9) (.int i1 :: st) A := x_nx (op := o_iload 1 1) rfl rfl
theorem x_312_59  : exG TB d 312 59 (a0 :: a1 :: some (.int i1) :: r9) st A = exG TB d 312 60 (a0 :: a1 :: some (.int i1) :: r9) (.int i1 :: st) A := x_nx (op := o_iload 2 1) rfl rfl
theorem x_312_60  : exG TB d 312 60 (a0 :: a1 :: a2 :: some (.int i1) :: r9) st A = exG TB d 312 61 (a0 :: a1 :: a2 :: some (.int i1) :: r9) (.int i1 :: st) A := x_nx (op := o_iload 3 1) rfl rfl
theorem x_312_61  : exG TB d 312 61 L [b2, b1, b0, .ref p] A = kw (sel (gc A p) [(30, 313)]) [.ref p, b0, b1, b2] d 312 64 L [] A := x_cvb (op := o_cv [(30, 313)] 3 3 false none) rfl rfl x_noh rfl
theorem x_312_64  : exG TB d 312 64 (a0 :: a1 :: a2 :: a3 :: a4 :: r9) (.int i1 :: st) A = exG TB d 312 66 (a0 :: a1 :: a2 :: a3 :: some (.int i1) :: r9) st A := x_nx (op := o_istore 4 2) rfl rfl
theorem x_312_66  : exG TB d 312 66 L [] A = some (.inl none, A) := x_out (op := o_vret) rfl rfl
theorem e_313 {j1 : Int32} {j2 : Int32} {j3 : Int32} : evG TB (d + 1) 313 [.ref p, .int j1, .int j2, .int j3] A = exG TB d 313 0 [some (.ref p), some (.int j1), some (.int j2), some (.int j3), none] [] A := evG_eq TB d 313 _ A
theorem x_313_0  : exG TB d 313 0 (some v :: r9) st A = rg v (exG TB d 313 1 (some v :: r9) (v :: st) A) := x_rg (op := o_aload 0 1) rfl rfl
theorem x_313_1  : exG TB d 313 1 L (.ref p :: st) A = kv (gf A p 148) d 313 4 L st A := x_bd (op := o_get 148) rfl rfl (fun _ => rfl)
theorem x_313_4  : exG TB d 313 4 L st A = exG TB d 313 6 L (.int (nI 10) :: st) A := x_nx (op := o_push 2 (.int 10)) rfl rfl
theorem x_313_6  : exG TB d 313 6 L (.int i1 :: .ref p :: st) A = ki (rdI 0 (ga A p) i1) d 313 7 L st A := x_bd (op := o_rdI 0) rfl rfl (fun _ => rfl)
theorem x_313_7  : exG TB d 313 7 (a0 :: a1 :: a2 :: a3 :: a4 :: r9) (.int i1 :: st) A = exG TB d 313 9 (a0 :: a1 :: a2 :: a3 :: some (.int i1) :: r9) st A := x_nx (op := o_istore 4 2) rfl rfl
theorem x_313_9  : exG TB d 313 9 (some v :: r9) st A = rg v (exG TB d 313 10 (some v :: r9) (v :: st) A) := x_rg (op := o_aload 0 1) rfl rfl
theorem x_313_10  : exG TB d 313 10 (a0 :: a1 :: a2 :: a3 :: some (.int i1) :: r9) st A = exG TB d 313 12 (a0 :: a1 :: a2 :: a3 :: some (.int i1) :: r9) (.int i1 :: st) A := x_nx (op := o_iload 4 2) rfl rfl
theorem x_313_12  : exG TB d 313 12 L st A = exG TB d 313 13 L (.int (nI 0) :: st) A := x_nx (op := o_push 1 (.int 0)) rfl rfl
theorem x_313_13  : exG TB d 313 13 (a0 :: some (.int i1) :: r9) st A = exG TB d 313 14 (a0 :: some (.int i1) :: r9) (.int i1 :: st) A := x_nx (op := o_iload 1 1) rfl rfl
theorem x_313_14  : exG TB d 313 14 L [b2, b1, b0, .ref p] A = kw0 (sel (gc A p) [(30, 314)]) [.ref p, b0, b1, b2] d 313 17 L [] A := x_c0b (op := o_cv [(30, 314)] 3 3 true none) rfl rfl x_noh rfl
theorem x_313_17  : exG TB d 313 17 (some v :: r9) st A = rg v (exG TB d 313 18 (some v :: r9) (v :: st) A) := x_rg (op := o_aload 0 1) rfl rfl
theorem x_313_18  : exG TB d 313 18 (a0 :: a1 :: a2 :: a3 :: some (.int i1) :: r9) st A = exG TB d 313 20 (a0 :: a1 :: a2 :: a3 :: some (.int i1) :: r9) (.int i1 :: st) A := x_nx (op := o_iload 4 2) rfl rfl
theorem x_313_20  : exG TB d 313 20 L st A = exG TB d 313 21 L (.int (nI 1) :: st) A := x_nx (op := o_push 1 (.int 1)) rfl rfl
theorem x_313_21  : exG TB d 313 21 (a0 :: a1 :: some (.int i1) :: r9) st A = exG TB d 313 22 (a0 :: a1 :: some (.int i1) :: r9) (.int i1 :: st) A := x_nx (op := o_iload 2 1) rfl rfl
theorem x_313_22  : exG TB d 313 22 L [b2, b1, b0, .ref p] A = kw0 (sel (gc A p) [(30, 314)]) [.ref p, b0, b1, b2] d 313 25 L [] A := x_c0b (op := o_cv [(30, 314)] 3 3 true none) rfl rfl x_noh rfl
theorem x_313_25  : exG TB d 313 25 (some v :: r9) st A = rg v (exG TB d 313 26 (some v :: r9) (v :: st) A) := x_rg (op := o_aload 0 1) rfl rfl
theorem x_313_26  : exG TB d 313 26 (a0 :: a1 :: a2 :: a3 :: some (.int i1) :: r9) st A = exG TB d 313 28 (a0 :: a1 :: a2 :: a3 :: some (.int i1) :: r9) (.int i1 :: st) A := x_nx (op := o_iload 4 2) rfl rfl
theorem x_313_28  : exG TB d 313 28 L st A = exG TB d 313 29 L (.int (nI 2) :: st) A := x_nx (op := o_push 1 (.int 2)) rfl rfl
theorem x_313_29  : exG TB d 313 29 (a0 :: a1 :: a2 :: some (.int i1) :: r9) st A = exG TB d 313 30 (a0 :: a1 :: a2 :: some (.int i1) :: r9) (.int i1 :: st) A := x_nx (op := o_iload 3 1) rfl rfl
theorem x_313_30  : exG TB d 313 30 L [b2, b1, b0, .ref p] A = kw0 (sel (gc A p) [(30, 314)]) [.ref p, b0, b1, b2] d 313 33 L [] A := x_c0b (op := o_cv [(30, 314)] 3 3 true none) rfl rfl x_noh rfl
theorem x_313_33  : exG TB d 313 33 (some v :: r9) st A = rg v (exG TB d 313 34 (some v :: r9) (v :: st) A) := x_rg (op := o_aload 0 1) rfl rfl
theorem x_313_34  : exG TB d 313 34 L (.ref p :: st) A = kv (gf A p 148) d 313 37 L st A := x_bd (op := o_get 148) rfl rfl (fun _ => rfl)
theorem x_313_37  : exG TB d 313 37 L st A = exG TB d 313 39 L (.int (nI 10) :: st) A := x_nx (op := o_push 2 (.int 10)) rfl rfl
theorem x_313_39  : exG TB d 313 39 L (v :: v2 :: st) A = ck (c1 v && c1 v2) (exG TB d 313 40 L (v :: v2 :: v :: v2 :: st) A) := x_gd (op := o_dup2) rfl rfl
theorem x_313_40  : exG TB d 313 40 L (.int i1 :: .ref p :: st) A = ki (rdI 0 (ga A p) i1) d 313 41 L st A := x_bd (op := o_rdI 0) rfl rfl (fun _ => rfl)
theorem x_313_41  : exG TB d 313 41 L st A = exG TB d 313 42 L (.int (nI 1) :: st) A := x_nx (op := o_push 1 (.int 1)) rfl rfl
theorem x_313_42  : exG TB d 313 42 L (.int i2 :: .int i1 :: st) A = exG TB d 313 43 L (.int (i1 + i2) :: st) A := x_nx (op := o_iop (fun x y => x + y)) rfl rfl
theorem x_313_43  : exG TB d 313 43 L (.int i2 :: .int i1 :: .ref p :: st) A = ka (wrI 0 (ga A p) i1 i2) p d 313 44 L st A := x_bd (op := o_wrI 0) rfl rfl (fun _ => rfl)
theorem x_313_44  : exG TB d 313 44 (a0 :: a1 :: a2 :: a3 :: some (.int i1) :: r9) st A = exG TB d 313 46 (a0 :: a1 :: a2 :: a3 :: some (.int i1) :: r9) (.int i1 :: st) A := x_nx (op := o_iload 4 2) rfl rfl
theorem x_313_46  : exG TB d 313 46 L [v] A = ck (okv 1 v) (some (.inl (some v), A)) := x_outg (op := o_ret 1) rfl rfl
theorem e_314 {j1 : Int32} {j2 : Int32} {j3 : Int32} : evG TB (d + 1) 314 [.ref p, .int j1, .int j2, .int j3] A = exG TB d 314 0 [some (.ref p), some (.int j1), some (.int j2), some (.int j3)] [] A := evG_eq TB d 314 _ A
theorem x_314_0  : exG TB d 314 0 (some v :: r9) st A = rg v (exG TB d 314 1 (some v :: r9) (v :: st) A) := x_rg (op := o_aload 0 1) rfl rfl
theorem x_314_1  : exG TB d 314 1 L (.ref p :: st) A = kv (gf A p 148) d 314 4 L st A := x_bd (op := o_get 148) rfl rfl (fun _ => rfl)
theorem x_314_4  : exG TB d 314 4 L st A = exG TB d 314 7 L (.int (nI 187) :: st) A := x_nx (op := o_push 3 (.int 187)) rfl rfl
theorem x_314_7  : exG TB d 314 7 L st A = exG TB d 314 9 L (.int (nI 6) :: st) A := x_nx (op := o_push 2 (.int 6)) rfl rfl
theorem x_314_9  : exG TB d 314 9 (a0 :: some (.int i1) :: r9) st A = exG TB d 314 10 (a0 :: some (.int i1) :: r9) (.int i1 :: st) A := x_nx (op := o_iload 1 1) rfl rfl
theorem x_314_10  : exG TB d 314 10 L (.int i2 :: .int i1 :: st) A = exG TB d 314 11 L (.int (i1 * i2) :: st) A := x_nx (op := o_iop (fun x y => x * y)) rfl rfl
theorem x_314_11  : exG TB d 314 11 L (.int i2 :: .int i1 :: st) A = exG TB d 314 12 L (.int (i1 + i2) :: st) A := x_nx (op := o_iop (fun x y => x + y)) rfl rfl
theorem x_314_12  : exG TB d 314 12 (a0 :: a1 :: some (.int i1) :: r9) st A = exG TB d 314 13 (a0 :: a1 :: some (.int i1) :: r9) (.int i1 :: st) A := x_nx (op := o_iload 2 1) rfl rfl
theorem x_314_13  : exG TB d 314 13 L (.int i2 :: .int i1 :: st) A = exG TB d 314 14 L (.int (i1 + i2) :: st) A := x_nx (op := o_iop (fun x y => x + y)) rfl rfl
theorem x_314_14  : exG TB d 314 14 L (v :: v2 :: st) A = ck (c1 v && c1 v2) (exG TB d 314 15 L (v :: v2 :: v :: v2 :: st) A) := x_gd (op := o_dup2) rfl rfl
theorem x_314_15  : exG TB d 314 15 L (.int i1 :: .ref p :: st) A = ki (rdI 0 (ga A p) i1) d 314 16 L st A := x_bd (op := o_rdI 0) rfl rfl (fun _ => rfl)
theorem x_314_16  : exG TB d 314 16 (a0 :: a1 :: a2 :: some (.int i1) :: r9) st A = exG TB d 314 17 (a0 :: a1 :: a2 :: some (.int i1) :: r9) (.int i1 :: st) A := x_nx (op := o_iload 3 1) rfl rfl
theorem x_314_17  : exG TB d 314 17 L (.int i2 :: .int i1 :: st) A = exG TB d 314 18 L (.int (i1 + i2) :: st) A := x_nx (op := o_iop (fun x y => x + y)) rfl rfl
theorem x_314_18  : exG TB d 314 18 L (.int i2 :: .int i1 :: .ref p :: st) A = ka (wrI 0 (ga A p) i1 i2) p d 314 19 L st A := x_bd (op := o_wrI 0) rfl rfl (fun _ => rfl)
theorem x_314_19  : exG TB d 314 19 L [] A = some (.inl none, A) := x_out (op := o_vret) rfl rfl
theorem e_315  : evG TB (d + 1) 315 [.ref p] A = exG TB d 315 0 [some (.ref p), none, none, none] [] A := evG_eq TB d 315 _ A
theorem x_315_0  : exG TB d 315 0 (some v :: r9) st A = rg v (exG TB d 315 1 (some v :: r9) (v :: st) A) := x_rg (op := o_aload 0 1) rfl rfl
theorem x_315_1  : exG TB d 315 1 (some v :: r9) st A = rg v (exG TB d 315 2 (some v :: r9) (v :: st) A) := x_rg (op := o_aload 0 1) rfl rfl
theorem x_315_2  : exG TB d 315 2 L (.ref p :: st) A = kv (gf A p 148) d 315 5 L st A := x_bd (op := o_get 148) rfl rfl (fun _ => rfl)
theorem x_315_5  : exG TB d 315 5 L st A = exG TB d 315 7 L (.int (nI 11) :: st) A := x_nx (op := o_push 2 (.int 11)) rfl rfl
theorem x_315_7  : exG TB d 315 7 L (.int i1 :: .ref p :: st) A = ki (rdI 0 (ga A p) i1) d 315 8 L st A := x_bd (op := o_rdI 0) rfl rfl (fun _ => rfl)
theorem x_315_8  : exG TB d 315 8 L st A = exG TB d 315 10 L (.int (nI 15) :: st) A := x_nx (op := o_push 2 (.int 15)) rfl rfl
theorem x_315_10  : exG TB d 315 10 L (.int i2 :: .int i1 :: st) A = if i2 ≤ i1 then exG TB d 315 17 L st A else exG TB d 315 13 L st A := x_if (op := o_icmp (fun x y => decide (y ≤ x)) 17) rfl rfl rfl
theorem x_315_13  : exG TB d 315 13 L st A = exG TB d 315 14 L (.int (nI 1) :: st) A := x_nx (op := o_push 1 (.int 1)) rfl rfl
theorem x_315_14  : exG TB d 315 14 L st A = exG TB d 315 18 L st A := x_nx (op := o_goto 18) rfl rfl
theorem x_315_17  : exG TB d 315 17 L st A = exG TB d 315 18 L (.int (nI 0) :: st) A := x_nx (op := o_push 1 (.int 0)) rfl rfl
theorem x_315_18  : exG TB d 315 18 L st A = exG TB d 315 19 L (.int (nI 3) :: st) A := x_nx (op := o_push 1 (.int 3)) rfl rfl
theorem x_315_19  : exG TB d 315 19 L [b1, b0, .ref p] A = kw0 (sel (gc A p) [(30, 304)]) [.ref p, b0, b1] d 315 22 L [] A := x_c0b (op := o_cv [(30, 304)] 2 3 true none) rfl rfl x_noh rfl
theorem x_315_22  : exG TB d 315 22 (some v :: r9) st A = rg v (exG TB d 315 23 (some v :: r9) (v :: st) A) := x_rg (op := o_aload 0 1) rfl rfl
theorem x_315_23  : exG TB d 315 23 L [.ref p] A = kw0 (sel (gc A p) [(30, 305)]) [.ref p] d 315 26 L [] A := x_c0b (op := o_cv [(30, 305)] 0 3 true none) rfl rfl x_noh rfl
theorem x_315_26  : exG TB d 315 26 (some v :: r9) st A = rg v (exG TB d 315 27 (some v :: r9) (v :: st) A) := x_rg (op := o_aload 0 1) rfl rfl
theorem x_315_27  : exG TB d 315 27 L st A = exG TB d 315 28 L (.int (nI 1) :: st) A := x_nx (op := o_push 1 (.int 1)) rfl rfl
theorem x_315_28  : exG TB d 315 28 L st A = exG TB d 315 29 L (.int (nI 4) :: st) A := x_nx (op := o_push 1 (.int 4)) rfl rfl
theorem x_315_29  : exG TB d 315 29 L [b1, b0, .ref p] A = kw (sel (gc A p) [(30, 306)]) [.ref p, b0, b1] d 315 32 L [] A := x_cvb (op := o_cv [(30, 306)] 2 3 false none) rfl rfl x_noh rfl
theorem x_315_32  : exG TB d 315 32 (a0 :: a1 :: r9) (.int i1 :: st) A = exG TB d 315 33 (a0 :: some (.int i1) :: r9) st A := x_nx (op := o_istore 1 1) rfl rfl
theorem x_315_33  : exG TB d 315 33 (some v :: r9) st A = rg v (exG TB d 315 34 (some v :: r9) (v :: st) A) := x_rg (op := o_aload 0 1) rfl rfl
theorem x_315_34  : exG TB d 315 34 L st A = exG TB d 315 36 L (.ref (sAd (sg A) 4) :: st) A := x_nx (op := o_pushA 2 4) rfl rfl
theorem x_315_36  : exG TB d 315 36 L [b0, .ref p] A = kw (sel (gc A p) [(30, 316)]) [.ref p, b0] d 315 39 L [] A := x_cvb (op := o_cv [(30, 316)] 1 3 false none) rfl rfl x_noh rfl
theorem x_315_39  : exG TB d 315 39 L (.int i1 :: st) A = if i1 = nI 0 then exG TB d 315 59 L st A else exG TB d 315 42 L st A := x_if (op := o_if (fun x => decide (x = 0)) 59) rfl rfl rfl
theorem x_315_42  : exG TB d 315 42 (some v :: r9) st A = rg v (exG TB d 315 43 (some v :: r9) (v :: st) A) := x_rg (op := o_aload 0 1) rfl rfl
theorem x_315_43  : exG TB d 315 43 L st A = exG TB d 315 44 L (.int (nI 0) :: st) A := x_nx (op := o_push 1 (.int 0)) rfl rfl
theorem x_315_44  : exG TB d 315 44 (some v :: r9) st A = rg v (exG TB d 315 45 (some v :: r9) (v :: st) A) := x_rg (op := o_aload 0 1) rfl rfl
theorem x_315_45  : exG TB d 315 45 L (.ref p :: st) A = kv (gf A p 148) d 315 48 L st A := x_bd (op := o_get 148) rfl rfl (fun _ => rfl)
theorem x_315_48  : exG TB d 315 48 L st A = exG TB d 315 50 L (.int (nI 10) :: st) A := x_nx (op := o_push 2 (.int 10)) rfl rfl
theorem x_315_50  : exG TB d 315 50 L (.int i1 :: .ref p :: st) A = ki (rdI 0 (ga A p) i1) d 315 51 L st A := x_bd (op := o_rdI 0) rfl rfl (fun _ => rfl)
theorem x_315_51  : exG TB d 315 51 L st A = exG TB d 315 52 L (.int (nI 1) :: st) A := x_nx (op := o_push 1 (.int 1)) rfl rfl
theorem x_315_52  : exG TB d 315 52 L (.int i2 :: .int i1 :: st) A = exG TB d 315 53 L (.int (i1 - i2) :: st) A := x_nx (op := o_iop (fun x y => x - y)) rfl rfl
theorem x_315_53  : exG TB d 315 53 L [b1, b0, .ref p] A = kw (sel (gc A p) [(30, 306)]) [.ref p, b0, b1] d 315 56 L [] A := x_cvb (op := o_cv [(30, 306)] 2 3 false none) rfl rfl x_noh rfl
theorem x_315_56  : exG TB d 315 56 L st A = exG TB d 315 60 L st A := x_nx (op := o_goto 60) rfl rfl
theorem x_315_59  : exG TB d 315 59 L st A = exG TB d 315 60 L (.int nN :: st) A := x_nx (op := o_push 1 (.int (-1))) rfl rfl
theorem x_315_60  : exG TB d 315 60 (a0 :: a1 :: a2 :: r9) (.int i1 :: st) A = exG TB d 315 61 (a0 :: a1 :: some (.int i1) :: r9) st A := x_nx (op := o_istore 2 1) rfl rfl
theorem x_315_61  : exG TB d 315 61 (some v :: r9) st A = rg v (exG TB d 315 62 (some v :: r9) (v :: st) A) := x_rg (op := o_aload 0 1) rfl rfl
theorem x_315_62  : exG TB d 315 62 L [.ref p] A = kw (sel (gc A p) [(30, 300)]) [.ref p] d 315 65 L [] A := x_cvb (op := o_cv [(30, 300)] 0 3 false none) rfl rfl x_noh rfl
theorem x_315_65  : exG TB d 315 65 L (.int i1 :: st) A = if i1 = nI 0 then exG TB d 315 75 L st A else exG TB d 315 68 L st A := x_if (op := o_if (fun x => decide (x = 0)) 75) rfl rfl rfl
theorem x_315_68  : exG TB d 315 68 (some v :: r9) st A = rg v (exG TB d 315 69 (some v :: r9) (v :: st) A) := x_rg (op := o_aload 0 1) rfl rfl
theorem x_315_69  : exG TB d 315 69 (a0 :: some (.int i1) :: r9) st A = exG TB d 315 70 (a0 :: some (.int i1) :: r9) (.int i1 :: st) A := x_nx (op := o_iload 1 1) rfl rfl
theorem x_315_70  : exG TB d 315 70 (a0 :: a1 :: some (.int i1) :: r9) st A = exG TB d 315 71 (a0 :: a1 :: some (.int i1) :: r9) (.int i1 :: st) A := x_nx (op := o_iload 2 1) rfl rfl
theorem x_315_71  : exG TB d 315 71 L [b1, b0, .ref p] A = kw (sel (gc A p) [(30, 317)]) [.ref p, b0, b1] d 315 74 L [] A := x_cvb (op := o_cv [(30, 317)] 2 3 false none) rfl rfl x_noh rfl
theorem x_315_74  : exG TB d 315 74 (a0 :: a1 :: a2 :: a3 :: r9) (.int i1 :: st) A = exG TB d 315 75 (a0 :: a1 :: a2 :: some (.int i1) :: r9) st A := x_nx (op := o_istore 3 1) rfl rfl
theorem x_315_75  : exG TB d 315 75 L [] A = some (.inl none, A) := x_out (op := o_vret) rfl rfl
theorem e_316  : evG TB (d + 1) 316 [.ref p, b1] A = rg b1 (exG TB d 316 0 [some (.ref p), some (b1), none] [] A) := by
  rw [evG_eq]
  show (bif (true && (isR b1 && true)) then exG TB d 316 0 [some (.ref p), some (b1), none] [] A else none) = _
  unfold rg
  cases isR b1 <;> rfl
theorem x_316_0  : exG TB d 316 0 (some v :: r9) st A = rg v (exG TB d 316 1 (some v :: r9) (v :: st) A) := x_rg (op := o_aload 0 1) rfl rfl
theorem x_316_1  : exG TB d 316 1 L [.ref p] A = kw (sel (gc A p) [(30, 300)]) [.ref p] d 316 4 L [] A := x_cvb (op := o_cv [(30, 300)] 0 3 false none) rfl rfl x_noh rfl
theorem x_316_4  : exG TB d 316 4 L (.int i1 :: st) A = if i1 = nI 0 then exG TB d 316 19 L st A else exG TB d 316 7 L st A := x_if (op := o_if (fun x => decide (x = 0)) 19) rfl rfl rfl
theorem x_316_7  : exG TB d 316 7 (some v :: r9) st A = rg v (exG TB d 316 8 (some v :: r9) (v :: st) A) := x_rg (op := o_aload 0 1) rfl rfl
theorem x_316_8  : exG TB d 316 8 (a0 :: some v :: r9) st A = rg v (exG TB d 316 9 (a0 :: some v :: r9) (v :: st) A) := x_rg (op := o_aload 1 1) rfl rfl
theorem x_316_9  : exG TB d 316 9 L [b0, .ref p] A = kw (sel (gc A p) [(30, 302)]) [.ref p, b0] d 316 12 L [] A := x_cvb (op := o_cv [(30, 302)] 1 3 false none) rfl rfl x_noh rfl
theorem x_316_12  : exG TB d 316 12 L (.int i1 :: st) A = if i1 = nI 0 then exG TB d 316 19 L st A else exG TB d 316 15 L st A := x_if (op := o_if (fun x => decide (x = 0)) 19) rfl rfl rfl
theorem x_316_15  : exG TB d 316 15 L st A = exG TB d 316 16 L (.int (nI 1) :: st) A := x_nx (op := o_push 1 (.int 1)) rfl rfl
theorem x_316_16  : exG TB d 316 16 L st A = exG TB d 316 20 L st A := x_nx (op := o_goto 20) rfl rfl
theorem x_316_19  : exG TB d 316 19 L st A = exG TB d 316 20 L (.int (nI 0) :: st) A := x_nx (op := o_push 1 (.int 0)) rfl rfl
theorem x_316_20  : exG TB d 316 20 (a0 :: a1 :: a2 :: r9) (.int i1 :: st) A = exG TB d 316 21 (a0 :: a1 :: some (.int i1) :: r9) st A := x_nx (op := o_istore 2 1) rfl rfl
theorem x_316_21  : exG TB d 316 21 (a0 :: a1 :: some (.int i1) :: r9) st A = exG TB d 316 22 (a0 :: a1 :: some (.int i1) :: r9) (.int i1 :: st) A := x_nx (op := o_iload 2 1) rfl rfl
theorem x_316_22  : exG TB d 316 22 L (.int i1 :: st) A = if i1 = nI 0 then exG TB d 316 29 L st A else exG TB d 316 25 L st A := x_if (op := o_if (fun x => decide (x = 0)) 29) rfl rfl rfl
theorem x_316_25  : exG TB d 316 25 (some v :: r9) st A = rg v (exG TB d 316 26 (some v :: r9) (v :: st) A) := x_rg (op := o_aload 0 1) rfl rfl
theorem x_316_26  : exG TB d 316 26 L [.ref p] A = kw0 (sel (gc A p) [(30, 296)]) [.ref p] d 316 29 L [] A := x_c0b (op := o_cv [(30, 296)] 0 3 true none) rfl rfl x_noh rfl
theorem x_316_29  : exG TB d 316 29 (a0 :: a1 :: some (.int i1) :: r9) st A = exG TB d 316 30 (a0 :: a1 :: some (.int i1) :: r9) (.int i1 :: st) A := x_nx (op := o_iload 2 1) rfl rfl
theorem x_316_30  : exG TB d 316 30 L [v] A = ck (okv 5 v) (some (.inl (some v), A)) := x_outg (op := o_ret 5) rfl rfl
theorem e_317 {j1 : Int32} {j2 : Int32} : evG TB (d + 1) 317 [.ref p, .int j1, .int j2] A = exG TB d 317 0 [some (.ref p), some (.int j1), some (.int j2), none] [] A := evG_eq TB d 317 _ A
theorem x_317_0  : exG TB d 317 0 L st A = exG TB d 317 3 L (.int (nI 235) :: st) A := x_nx (op := o_push 3 (.int 235)) rfl rfl
theorem x_317_3  : exG TB d 317 3 L st A = exG TB d 317 4 L (.int (nI 3) :: st) A := x_nx (op := o_push 1 (.int 3)) rfl rfl
theorem x_317_4  : exG TB d 317 4 (some v :: r9) st A = rg v (exG TB d 317 5 (some v :: r9) (v :: st) A) := x_rg (op := o_aload 0 1) rfl rfl
theorem x_317_5  : exG TB d 317 5 L (.ref p :: st) A = kv (gf A p 148) d 317 8 L st A := x_bd (op := o_get 148) rfl rfl (fun _ => rfl)
theorem x_317_8  : exG TB d 317 8 L st A = exG TB d 317 10 L (.int (nI 11) :: st) A := x_nx (op := o_push 2 (.int 11)) rfl rfl
theorem x_317_10  : exG TB d 317 10 L (.int i1 :: .ref p :: st) A = ki (rdI 0 (ga A p) i1) d 317 11 L st A := x_bd (op := o_rdI 0) rfl rfl (fun _ => rfl)
theorem x_317_11  : exG TB d 317 11 L (.int i2 :: .int i1 :: st) A = exG TB d 317 12 L (.int (i1 * i2) :: st) A := x_nx (op := o_iop (fun x y => x * y)) rfl rfl
theorem x_317_12  : exG TB d 317 12 L (.int i2 :: .int i1 :: st) A = exG TB d 317 13 L (.int (i1 + i2) :: st) A := x_nx (op := o_iop (fun x y => x + y)) rfl rfl
theorem x_317_13  : exG TB d 317 13 (a0 :: a1 :: a2 :: a3 :: r9) (.int i1 :: st) A = exG TB d 317 14 (a0 :: a1 :: a2 :: some (.int i1) :: r9) st A := x_nx (op := o_istore 3 1) rfl rfl
theorem x_317_14  : exG TB d 317 14 (some v :: r9) st A = rg v (exG TB d 317 15 (some v :: r9) (v :: st) A) := x_rg (op := o_aload 0 1) rfl rfl
theorem x_317_15  : exG TB d 317 15 L (.ref p :: st) A = kv (gf A p 148) d 317 18 L st A := x_bd (op := o_get 148) rfl rfl (fun _ => rfl)
theorem x_317_18  : exG TB d 317 18 (a0 :: a1 :: a2 :: some (.int i1) :: r9) st A = exG TB d 317 19 (a0 :: a1 :: a2 :: some (.int i1) :: r9) (.int i1 :: st) A := x_nx (op := o_iload 3 1) rfl rfl
theorem x_317_19  : exG TB d 317 19 L st A = exG TB d 317 20 L (.int (nI 0) :: st) A := x_nx (op := o_push 1 (.int 0)) rfl rfl
theorem x_317_20  : exG TB d 317 20 L (.int i2 :: .int i1 :: st) A = exG TB d 317 21 L (.int (i1 + i2) :: st) A := x_nx (op := o_iop (fun x y => x + y)) rfl rfl
theorem x_317_21  : exG TB d 317 21 (a0 :: some (.int i1) :: r9) st A = exG TB d 317 22 (a0 :: some (.int i1) :: r9) (.int i1 :: st) A := x_nx (op := o_iload 1 1) rfl rfl
theorem x_317_22  : exG TB d 317 22 L (.int i2 :: .int i1 :: .ref p :: st) A = ka (wrI 0 (ga A p) i1 i2) p d 317 23 L st A := x_bd (op := o_wrI 0) rfl rfl (fun _ => rfl)
theorem x_317_23  : exG TB d 317 23 (some v :: r9) st A = rg v (exG TB d 317 24 (some v :: r9) (v :: st) A) := x_rg (op := o_aload 0 1) rfl rfl
theorem x_317_24  : exG TB d 317 24 L (.ref p :: st) A = kv (gf A p 148) d 317 27 L st A := x_bd (op := o_get 148) rfl rfl (fun _ => rfl)
theorem x_317_27  : exG TB d 317 27 (a0 :: a1 :: a2 :: some (.int i1) :: r9) st A = exG TB d 317 28 (a0 :: a1 :: a2 :: some (.int i1) :: r9) (.int i1 :: st) A := x_nx (op := o_iload 3 1) rfl rfl
theorem x_317_28  : exG TB d 317 28 L st A = exG TB d 317 29 L (.int (nI 1) :: st) A := x_nx (op := o_push 1 (.int 1)) rfl rfl
theorem x_317_29  : exG TB d 317 29 L (.int i2 :: .int i1 :: st) A = exG TB d 317 30 L (.int (i1 + i2) :: st) A := x_nx (op := o_iop (fun x y => x + y)) rfl rfl
theorem x_317_30  : exG TB d 317 30 (a0 :: a1 :: some (.int i1) :: r9) st A = exG TB d 317 31 (a0 :: a1 :: some (.int i1) :: r9) (.int i1 :: st) A := x_nx (op := o_iload 2 1) rfl rfl
theorem x_317_31  : exG TB d 317 31 L (.int i2 :: .int i1 :: .ref p :: st) A = ka (wrI 0 (ga A p) i1 i2) p d 317 32 L st A := x_bd (op := o_wrI 0) rfl rfl (fun _ => rfl)
theorem x_317_32  : exG TB d 317 32 (some v :: r9) st A = rg v (exG TB d 317 33 (some v :: r9) (v :: st) A) := x_rg (op := o_aload 0 1) rfl rfl
theorem x_317_33  : exG TB d 317 33 L (.ref p :: st) A = kv (gf A p 148) d 317 36 L st A := x_bd (op := o_get 148) rfl rfl (fun _ => rfl)
theorem x_317_36  : exG TB d 317 36 (a0 :: a1 :: a2 :: some (.int i1) :: r9) st A = exG TB d 317 37 (a0 :: a1 :: a2 :: some (.int i1) :: r9) (.int i1 :: st) A := x_nx (op := o_iload 3 1) rfl rfl
theorem x_317_37  : exG TB d 317 37 L st A = exG TB d 317 38 L (.int (nI 2) :: st) A := x_nx (op := o_push 1 (.int 2)) rfl rfl
theorem x_317_38  : exG TB d 317 38 L (.int i2 :: .int i1 :: st) A = exG TB d 317 39 L (.int (i1 + i2) :: st) A := x_nx (op := o_iop (fun x y => x + y)) rfl rfl
theorem x_317_39  : exG TB d 317 39 L st A = exG TB d 317 40 L (.int (nI 0) :: st) A := x_nx (op := o_push 1 (.int 0)) rfl rfl
theorem x_317_40  : exG TB d 317 40 L (.int i2 :: .int i1 :: .ref p :: st) A = ka (wrI 0 (ga A p) i1 i2) p d 317 41 L st A := x_bd (op := o_wrI 0) rfl rfl (fun _ => rfl)
theorem x_317_41  : exG TB d 317 41 (some v :: r9) st A = rg v (exG TB d 317 42 (some v :: r9) (v :: st) A) := x_rg (op := o_aload 0 1) rfl rfl
theorem x_317_42  : exG TB d 317 42 L (.ref p :: st) A = kv (gf A p 148) d 317 45 L st A := x_bd (op := o_get 148) rfl rfl (fun _ => rfl)
theorem x_317_45  : exG TB d 317 45 L st A = exG TB d 317 47 L (.int (nI 11) :: st) A := x_nx (op := o_push 2 (.int 11)) rfl rfl
theorem x_317_47  : exG TB d 317 47 L (v :: v2 :: st) A = ck (c1 v && c1 v2) (exG TB d 317 48 L (v :: v2 :: v :: v2 :: st) A) := x_gd (op := o_dup2) rfl rfl
theorem x_317_48  : exG TB d 317 48 L (.int i1 :: .ref p :: st) A = ki (rdI 0 (ga A p) i1) d 317 49 L st A := x_bd (op := o_rdI 0) rfl rfl (fun _ => rfl)
theorem x_317_49  : exG TB d 317 49 L st A = exG TB d 317 50 L (.int (nI 1) :: st) A := x_nx (op := o_push 1 (.int 1)) rfl rfl
theorem x_317_50  : exG TB d 317 50 L (.int i2 :: .int i1 :: st) A = exG TB d 317 51 L (.int (i1 + i2) :: st) A := x_nx (op := o_iop (fun x y => x + y)) rfl rfl
theorem x_317_51  : exG TB d 317 51 L (.int i2 :: .int i1 :: .ref p :: st) A = ka (wrI 0 (ga A p) i1 i2) p d 317 52 L st A := x_bd (op := o_wrI 0) rfl rfl (fun _ => rfl)
theorem x_317_52  : exG TB d 317 52 (some v :: r9) st A = rg v (exG TB d 317 53 (some v :: r9) (v :: st) A) := x_rg (op := o_aload 0 1) rfl rfl
theorem x_317_53  : exG TB d 317 53 L (.ref p :: st) A = kv (gf A p 148) d 317 56 L st A := x_bd (op := o_get 148) rfl rfl (fun _ => rfl)
theorem x_317_56  : exG TB d 317 56 L st A = exG TB d 317 58 L (.int (nI 11) :: st) A := x_nx (op := o_push 2 (.int 11)) rfl rfl
theorem x_317_58  : exG TB d 317 58 L (.int i1 :: .ref p :: st) A = ki (rdI 0 (ga A p) i1) d 317 59 L st A := x_bd (op := o_rdI 0) rfl rfl (fun _ => rfl)
theorem x_317_59  : exG TB d 317 59 L st A = exG TB d 317 60 L (.int (nI 1) :: st) A := x_nx (op := o_push 1 (.int 1)) rfl rfl
theorem x_317_60  : exG TB d 317 60 L (.int i2 :: .int i1 :: st) A = exG TB d 317 61 L (.int (i1 - i2) :: st) A := x_nx (op := o_iop (fun x y => x - y)) rfl rfl
theorem x_317_61  : exG TB d 317 61 L [v] A = ck (okv 1 v) (some (.inl (some v), A)) := x_outg (op := o_ret 1) rfl rfl
theorem e_318  : evG TB (d + 1) 318 [.ref p] A = exG TB d 318 0 [some (.ref p), none, none] [] A := evG_eq TB d 318 _ A
theorem x_318_0  : exG TB d 318 0 (some v :: r9) st A = rg v (exG TB d 318 1 (some v :: r9) (v :: st) A) := x_rg (op := o_aload 0 1) rfl rfl
theorem x_318_1  : exG TB d 318 1 (some v :: r9) st A = rg v (exG TB d 318 2 (some v :: r9) (v :: st) A) := x_rg (op := o_aload 0 1) rfl rfl
theorem x_318_2  : exG TB d 318 2 L st A = exG TB d 318 4 L (.ref (sAd (sg A) 6) :: st) A := x_nx (op := o_pushA 2 6) rfl rfl
theorem x_318_4  : exG TB d 318 4 L [b0, .ref p, w0] A = kw (sel (gc A p) [(30, 302)]) [.ref p, b0] d 318 7 L [w0] A := x_cvb (op := o_cv [(30, 302)] 1 3 false none) rfl rfl x_noh rfl
theorem x_318_7  : exG TB d 318 7 L st A = exG TB d 318 8 L (.int (nI 1) :: st) A := x_nx (op := o_push 1 (.int 1)) rfl rfl
theorem x_318_8  : exG TB d 318 8 L [b1, b0, .ref p] A = kw0 (sel (gc A p) [(30, 304)]) [.ref p, b0, b1] d 318 11 L [] A := x_c0b (op := o_cv [(30, 304)] 2 3 true none) rfl rfl x_noh rfl
theorem x_318_11  : exG TB d 318 11 (some v :: r9) st A = rg v (exG TB d 318 12 (some v :: r9) (v :: st) A) := x_rg (op := o_aload 0 1) rfl rfl
theorem x_318_12  : exG TB d 318 12 L [.ref p] A = kw0 (sel (gc A p) [(30, 305)]) [.ref p] d 318 15 L [] A := x_c0b (op := o_cv [(30, 305)] 0 3 true none) rfl rfl x_noh rfl
theorem x_318_15  : exG TB d 318 15 (some v :: r9) st A = rg v (exG TB d 318 16 (some v :: r9) (v :: st) A) := x_rg (op := o_aload 0 1) rfl rfl
theorem x_318_16  : exG TB d 318 16 L st A = exG TB d 318 17 L (.int (nI 0) :: st) A := x_nx (op := o_push 1 (.int 0)) rfl rfl
theorem x_318_17  : exG TB d 318 17 L st A = exG TB d 318 19 L (.int (nI 7) :: st) A := x_nx (op := o_push 2 (.int 7)) rfl rfl
theorem x_318_19  : exG TB d 318 19 L [b1, b0, .ref p] A = kw (sel (gc A p) [(30, 306)]) [.ref p, b0, b1] d 318 22 L [] A := x_cvb (op := o_cv [(30, 306)] 2 3 false none) rfl rfl x_noh rfl
theorem x_318_22  : exG TB d 318 22 (a0 :: a1 :: r9) (.int i1 :: st) A = exG TB d 318 23 (a0 :: some (.int i1) :: r9) st A := x_nx (op := o_istore 1 1) rfl rfl
theorem x_318_23  : exG TB d 318 23 (some v :: r9) st A = rg v (exG TB d 318 24 (some v :: r9) (v :: st) A) := x_rg (op := o_aload 0 1) rfl rfl
theorem x_318_24  : exG TB d 318 24 L [.ref p] A = kw (sel (gc A p) [(30, 300)]) [.ref p] d 318 27 L [] A := x_cvb (op := o_cv [(30, 300)] 0 3 false none) rfl rfl x_noh rfl
theorem x_318_27  : exG TB d 318 27 L (.int i1 :: st) A = if i1 = nI 0 then exG TB d 318 56 L st A else exG TB d 318 30 L st A := x_if (op := o_if (fun x => decide (x = 0)) 56) rfl rfl rfl
theorem x_318_30  : exG TB d 318 30 (some v :: r9) st A = rg v (exG TB d 318 31 (some v :: r9) (v :: st) A) := x_rg (op := o_aload 0 1) rfl rfl
theorem x_318_31  : exG TB d 318 31 (some v :: r9) st A = rg v (exG TB d 318 32 (some v :: r9) (v :: st) A) := x_rg (op := o_aload 0 1) rfl rfl
theorem x_318_32  : exG TB d 318 32 L (.ref p :: st) A = kv (gf A p 153) d 318 35 L st A := x_bd (op := o_get 153) rfl rfl (fun _ => rfl)
theorem x_318_35  : exG TB d 318 35 (a0 :: some (.int i1) :: r9) st A = exG TB d 318 36 (a0 :: some (.int i1) :: r9) (.int i1 :: st) A := x_nx (op := o_iload 1 1) rfl rfl
theorem x_318_36  : exG TB d 318 36 L (.int i1 :: .ref p :: st) A = ki (rdI 0 (ga A p) i1) d 318 37 L st A := x_bd (op := o_rdI 0) rfl rfl (fun _ => rfl)
theorem x_318_37  : exG TB d 318 37 (some v :: r9) st A = rg v (exG TB d 318 38 (some v :: r9) (v :: st) A) := x_rg (op := o_aload 0 1) rfl rfl
theorem x_318_38  : exG TB d 318 38 L (.ref p :: st) A = kv (gf A p 154) d 318 41 L st A := x_bd (op := o_get 154) rfl rfl (fun _ => rfl)
theorem x_318_41  : exG TB d 318 41 (a0 :: some (.int i1) :: r9) st A = exG TB d 318 42 (a0 :: some (.int i1) :: r9) (.int i1 :: st) A := x_nx (op := o_iload 1 1) rfl rfl
theorem x_318_42  : exG TB d 318 42 L (.int i1 :: .ref p :: st) A = ki (rdI 0 (ga A p) i1) d 318 43 L st A := x_bd (op := o_rdI 0) rfl rfl (fun _ => rfl)
theorem x_318_43  : exG TB d 318 43 L [b1, b0, .ref p] A = kw (sel (gc A p) [(30, 306)]) [.ref p, b0, b1] d 318 46 L [] A := x_cvb (op := o_cv [(30, 306)] 2 3 false none) rfl rfl x_noh rfl
theorem x_318_46  : exG TB d 318 46 (a0 :: a1 :: a2 :: r9) (.int i1 :: st) A = exG TB d 318 47 (a0 :: a1 :: some (.int i1) :: r9) st A := x_nx (op := o_istore 2 1) rfl rfl
theorem x_318_47  : exG TB d 318 47 (some v :: r9) st A = rg v (exG TB d 318 48 (some v :: r9) (v :: st) A) := x_rg (op := o_aload 0 1) rfl rfl
theorem x_318_48  : exG TB d 318 48 L (.ref p :: st) A = kv (gf A p 148) d 318 51 L st A := x_bd (op := o_get 148) rfl rfl (fun _ => rfl)
theorem x_318_51  : exG TB d 318 51 L st A = exG TB d 318 52 L (.int (nI 0) :: st) A := x_nx (op := o_push 1 (.int 0)) rfl rfl
theorem x_318_52  : exG TB d 318 52 (a0 :: some (.int i1) :: r9) st A = exG TB d 318 53 (a0 :: some (.int i1) :: r9) (.int i1 :: st) A := x_nx (op := o_iload 1 1) rfl rfl
theorem x_318_53  : exG TB d 318 53 L (.int i2 :: .int i1 :: st) A = exG TB d 318 54 L (.int (i1 + i2) :: st) A := x_nx (op := o_iop (fun x y => x + y)) rfl rfl
theorem x_318_54  : exG TB d 318 54 (a0 :: a1 :: some (.int i1) :: r9) st A = exG TB d 318 55 (a0 :: a1 :: some (.int i1) :: r9) (.int i1 :: st) A := x_nx (op := o_iload 2 1) rfl rfl
theorem x_318_55  : exG TB d 318 55 L (.int i2 :: .int i1 :: .ref p :: st) A = ka (wrI 0 (ga A p) i1 i2) p d 318 56 L st A := x_bd (op := o_wrI 0) rfl rfl (fun _ => rfl)
theorem x_318_56  : exG TB d 318 56 L [] A = some (.inl none, A) := x_out (op := o_vret) rfl rfl
theorem e_319  : evG TB (d + 1) 319 [.ref p] A = exG TB d 319 0 [some (.ref p)] [] A := evG_eq TB d 319 _ A
theorem x_319_0  : exG TB d 319 0 (some v :: r9) st A = rg v (exG TB d 319 1 (some v :: r9) (v :: st) A) := x_rg (op := o_aload 0 1) rfl rfl
theorem x_319_1  : exG TB d 319 1 L st A = exG TB d 319 2 L (.int (nI 0) :: st) A := x_nx (op := o_push 1 (.int 0)) rfl rfl
theorem x_319_2  : exG TB d 319 2 L (v :: .ref p :: st) A = ck ((gf A p 155).isSome && okv 1 v) (exG TB d 319 5 L st (setf A p 155 v)) := x_gd (op := o_put 155 1) rfl rfl
theorem x_319_5  : exG TB d 319 5 (some v :: r9) st A = rg v (exG TB d 319 6 (some v :: r9) (v :: st) A) := x_rg (op := o_aload 0 1) rfl rfl
theorem x_319_6  : exG TB d 319 6 L (.ref p :: st) A = kv (gf A p 163) d 319 9 L st A := x_bd (op := o_get 163) rfl rfl (fun _ => rfl)
theorem x_319_9  : exG TB d 319 9 L [v] A = ck (okv 1 v) (some (.inl (some v), A)) := x_outg (op := o_ret 1) rfl rfl
theorem e_320  : evG TB (d + 1) 320 [.ref p] A = exG TB d 320 0 [some (.ref p)] [] A := evG_eq TB d 320 _ A
theorem x_320_0  : exG TB d 320 0 (some v :: r9) st A = rg v (exG TB d 320 1 (some v :: r9) (v :: st) A) := x_rg (op := o_aload 0 1) rfl rfl
theorem x_320_1  : exG TB d 320 1 L st A = exG TB d 320 2 L (.int (nI 0) :: st) A := x_nx (op := o_push 1 (.int 0)) rfl rfl
theorem x_320_2  : exG TB d 320 2 L (v :: .ref p :: st) A = ck ((gf A p 155).isSome && okv 1 v) (exG TB d 320 5 L st (setf A p 155 v)) := x_gd (op := o_put 155 1) rfl rfl
theorem x_320_5  : exG TB d 320 5 (some v :: r9) st A = rg v (exG TB d 320 6 (some v :: r9) (v :: st) A) := x_rg (op := o_aload 0 1) rfl rfl
theorem x_320_6  : exG TB d 320 6 L (.ref p :: st) A = kv (gf A p 164) d 320 9 L st A := x_bd (op := o_get 164) rfl rfl (fun _ => rfl)
theorem x_320_9  : exG TB d 320 9 L [v] A = ck (okv 1 v) (some (.inl (some v), A)) := x_outg (op := o_ret 1) rfl rfl
theorem e_321 {j1 : Int32} : evG TB (d + 1) 321 [.ref p, .int j1] A = exG TB d 321 0 [some (.ref p), some (.int j1)] [] A := evG_eq TB d 321 _ A
theorem x_321_0  : exG TB d 321 0 (some v :: r9) st A = rg v (exG TB d 321 1 (some v :: r9) (v :: st) A) := x_rg (op := o_aload 0 1) rfl rfl
theorem x_321_1  : exG TB d 321 1 L st A = exG TB d 321 2 L (.int (nI 0) :: st) A := x_nx (op := o_push 1 (.int 0)) rfl rfl
theorem x_321_2  : exG TB d 321 2 L (v :: .ref p :: st) A = ck ((gf A p 155).isSome && okv 1 v) (exG TB d 321 5 L st (setf A p 155 v)) := x_gd (op := o_put 155 1) rfl rfl
theorem x_321_5  : exG TB d 321 5 (a0 :: some (.int i1) :: r9) st A = exG TB d 321 6 (a0 :: some (.int i1) :: r9) (.int i1 :: st) A := x_nx (op := o_iload 1 1) rfl rfl
theorem x_321_6  : exG TB d 321 6 L st A = exG TB d 321 7 L (.int (nI 0) :: st) A := x_nx (op := o_push 1 (.int 0)) rfl rfl
theorem x_321_7  : exG TB d 321 7 L st A = exG TB d 321 9 L (.int (nI 99) :: st) A := x_nx (op := o_push 2 (.int 99)) rfl rfl
theorem x_321_9  : exG TB d 321 9 L [b2, b1, b0] A = kc (evG TB d 293 [b0, b1, b2] A) d 321 12 L [] := x_cv (op := o_cs 293 3 false none) rfl rfl x_noh rfl
theorem x_321_12  : exG TB d 321 12 L (.int i1 :: st) A = if ¬ i1 = nI 0 then exG TB d 321 21 L st A else exG TB d 321 15 L st A := x_if (op := o_if (fun x => decide (¬ x = 0)) 21) rfl rfl rfl
theorem x_321_15  : exG TB d 321 15 (some v :: r9) st A = rg v (exG TB d 321 16 (some v :: r9) (v :: st) A) := x_rg (op := o_aload 0 1) rfl rfl
theorem x_321_16  : exG TB d 321 16 L st A = exG TB d 321 17 L (.int (nI 1) :: st) A := x_nx (op := o_push 1 (.int 1)) rfl rfl
theorem x_321_17  : exG TB d 321 17 L [b0, .ref p] A = kw (sel (gc A p) [(30, 291)]) [.ref p, b0] d 321 20 L [] A := x_cvb (op := o_cv [(30, 291)] 1 3 false none) rfl rfl x_noh rfl
theorem x_321_20  : exG TB d 321 20 L [v] A = ck (okv 1 v) (some (.inl (some v), A)) := x_outg (op := o_ret 1) rfl rfl
theorem x_321_21  : exG TB d 321 21 (some v :: r9) st A = rg v (exG TB d 321 22 (some v :: r9) (v :: st) A) := x_rg (op := o_aload 0 1) rfl rfl
theorem x_321_22  : exG TB d 321 22 L (.ref p :: st) A = kv (gf A p 148) d 321 25 L st A := x_bd (op := o_get 148) rfl rfl (fun _ => rfl)
theorem x_321_25  : exG TB d 321 25 L st A = exG TB d 321 27 L (.int (nI 8) :: st) A := x_nx (op := o_push 2 (.int 8)) rfl rfl
theorem x_321_27  : exG TB d 321 27 L (.int i1 :: .ref p :: st) A = ki (rdI 0 (ga A p) i1) d 321 28 L st A := x_bd (op := o_rdI 0) rfl rfl (fun _ => rfl)
theorem x_321_28  : exG TB d 321 28 L st A = exG TB d 321 30 L (.int (nI 12) :: st) A := x_nx (op := o_push 2 (.int 12)) rfl rfl
theorem x_321_30  : exG TB d 321 30 L (.int i2 :: .int i1 :: st) A = if ¬ i1 = i2 then exG TB d 321 41 L st A else exG TB d 321 33 L st A := x_if (op := o_icmp (fun x y => decide (¬ x = y)) 41) rfl rfl rfl
theorem x_321_33  : exG TB d 321 33 (some v :: r9) st A = rg v (exG TB d 321 34 (some v :: r9) (v :: st) A) := x_rg (op := o_aload 0 1) rfl rfl
theorem x_321_34  : exG TB d 321 34 L st A = exG TB d 321 35 L (.int (nI 2) :: st) A := x_nx (op := o_push 1 (.int 2)) rfl rfl
theorem x_321_35  : exG TB d 321 35 L [b0, .ref p] A = kw (sel (gc A p) [(30, 291)]) [.ref p, b0] d 321 38 L [] A := x_cvb (op := o_cv [(30, 291)] 1 3 false none) rfl rfl x_noh rfl
theorem x_321_38  : exG TB d 321 38 L st A = exG TB d 321 46 L st A := x_nx (op := o_goto 46) rfl rfl
theorem x_321_41  : exG TB d 321 41 (some v :: r9) st A = rg v (exG TB d 321 42 (some v :: r9) (v :: st) A) := x_rg (op := o_aload 0 1) rfl rfl
theorem x_321_42  : exG TB d 321 42 (a0 :: some (.int i1) :: r9) st A = exG TB d 321 43 (a0 :: some (.int i1) :: r9) (.int i1 :: st) A := x_nx (op := o_iload 1 1) rfl rfl
theorem x_321_43  : exG TB d 321 43 L [b0, .ref p] A = kw (sel (gc A p) [(30, 308)]) [.ref p, b0] d 321 46 L [] A := x_cvb (op := o_cv [(30, 308)] 1 3 false none) rfl rfl x_noh rfl
theorem x_321_46  : exG TB d 321 46 L [v] A = ck (okv 1 v) (some (.inl (some v), A)) := x_outg (op := o_ret 1) rfl rfl
theorem e_322 {j1 : Int32} {j2 : Int32} {j3 : Int32} {j4 : Int32} : evG TB (d + 1) 322 [.ref p, .int j1, .int j2, .int j3, .int j4] A = exG TB d 322 0 [some (.ref p), some (.int j1), some (.int j2), some (.int j3), some (.int j4)] [] A := evG_eq TB d 322 _ A
theorem x_322_0  : exG TB d 322 0 (some v :: r9) st A = rg v (exG TB d 322 1 (some v :: r9) (v :: st) A) := x_rg (op := o_aload 0 1) rfl rfl
theorem x_322_1  : exG TB d 322 1 L st A = exG TB d 322 2 L (.int (nI 0) :: st) A := x_nx (op := o_push 1 (.int 0)) rfl rfl
theorem x_322_2  : exG TB d 322 2 L (v :: .ref p :: st) A = ck ((gf A p 155).isSome && okv 1 v) (exG TB d 322 5 L st (setf A p 155 v)) := x_gd (op := o_put 155 1) rfl rfl
theorem x_322_5  : exG TB d 322 5 (some v :: r9) st A = rg v (exG TB d 322 6 (some v :: r9) (v :: st) A) := x_rg (op := o_aload 0 1) rfl rfl
theorem x_322_6  : exG TB d 322 6 (a0 :: some (.int i1) :: r9) st A = exG TB d 322 7 (a0 :: some (.int i1) :: r9) (.int i1 :: st) A := x_nx (op := o_iload 1 1) rfl rfl
theorem x_322_7  : exG TB d 322 7 L [b0, .ref p] A = kw (sel (gc A p) [(30, 323)]) [.ref p, b0] d 322 10 L [] A := x_cvb (op := o_cv [(30, 323)] 1 3 false none) rfl rfl x_noh rfl
theorem x_322_10  : exG TB d 322 10 L (.int i1 :: st) A = if i1 = nI 0 then exG TB d 322 21 L st A else exG TB d 322 13 L st A := x_if (op := o_if (fun x => decide (x = 0)) 21) rfl rfl rfl
theorem x_322_13  : exG TB d 322 13 (some v :: r9) st A = rg v (exG TB d 322 14 (some v :: r9) (v :: st) A) := x_rg (op := o_aload 0 1) rfl rfl
theorem x_322_14  : exG TB d 322 14 (a0 :: a1 :: some (.int i1) :: r9) st A = exG TB d 322 15 (a0 :: a1 :: some (.int i1) :: r9) (.int i1 :: st) A := x_nx (op := o_iload 2 1) rfl rfl
theorem x_322_15  : exG TB d 322 15 L [b0, .ref p] A = kw (sel (gc A p) [(30, 323)]) [.ref p, b0] d 322 18 L [] A := x_cvb (op := o_cv [(30, 323)] 1 3 false none) rfl rfl x_noh rfl
theorem x_322_18  : exG TB d 322 18 L (.int i1 :: st) A = if ¬ i1 = nI 0 then exG TB d 322 27 L st A else exG TB d 322 21 L st A := x_if (op := o_if (fun x => decide (¬ x = 0)) 27) rfl rfl rfl
theorem x_322_21  : exG TB d 322 21 (some v :: r9) st A = rg v (exG TB d 322 22 (some v :: r9) (v :: st) A) := x_rg (op := o_aload 0 1) rfl rfl
theorem x_322_22  : exG TB d 322 22 L st A = exG TB d 322 23 L (.int (nI 1) :: st) A := x_nx (op := o_push 1 (.int 1)) rfl rfl
theorem x_322_23  : exG TB d 322 23 L [b0, .ref p] A = kw (sel (gc A p) [(30, 291)]) [.ref p, b0] d 322 26 L [] A := x_cvb (op := o_cv [(30, 291)] 1 3 false none) rfl rfl x_noh rfl
theorem x_322_26  : exG TB d 322 26 L [v] A = ck (okv 1 v) (some (.inl (some v), A)) := x_outg (op := o_ret 1) rfl rfl
theorem x_322_27  : exG TB d 322 27 (a0 :: some (.int i1) :: r9) st A = exG TB d 322 28 (a0 :: some (.int i1) :: r9) (.int i1 :: st) A := x_nx (op := o_iload 1 1) rfl rfl
theorem x_322_28  : exG TB d 322 28 (a0 :: a1 :: some (.int i1) :: r9) st A = exG TB d 322 29 (a0 :: a1 :: some (.int i1) :: r9) (.int i1 :: st) A := x_nx (op := o_iload 2 1) rfl rfl
theorem x_322_29  : exG TB d 322 29 L (.int i2 :: .int i1 :: st) A = if i1 = i2 then exG TB d 322 54 L st A else exG TB d 322 32 L st A := x_if (op := o_icmp (fun x y => decide (x = y)) 54) rfl rfl rfl
theorem x_322_32  : exG TB d 322 32 (a0 :: a1 :: a2 :: some (.int i1) :: r9) st A = exG TB d 322 33 (a0 :: a1 :: a2 :: some (.int i1) :: r9) (.int i1 :: st) A := x_nx (op := o_iload 3 1) rfl rfl
theorem x_322_33  : exG TB d 322 33 L st A = exG TB d 322 34 L (.int (nI 1) :: st) A := x_nx (op := o_push 1 (.int 1)) rfl rfl
theorem x_322_34  : exG TB d 322 34 L st A = exG TB d 322 36 L (.int (nI 60) :: st) A := x_nx (op := o_push 2 (.int 60)) rfl rfl
theorem x_322_36  : exG TB d 322 36 L [b2, b1, b0] A = kc (evG TB d 293 [b0, b1, b2] A) d 322 39 L [] := x_cv (op := o_cs 293 3 false none) rfl rfl x_noh rfl
theorem x_322_39  : exG TB d 322 39 L (.int i1 :: st) A = if i1 = nI 0 then exG TB d 322 54 L st A else exG TB d 322 42 L st A := x_if (op := o_if (fun x => decide (x = 0)) 54) rfl rfl rfl
theorem x_322_42  : exG TB d 322 42 (a0 :: a1 :: a2 :: a3 :: some (.int i1) :: r9) st A = exG TB d 322 44 (a0 :: a1 :: a2 :: a3 :: some (.int i1) :: r9) (.int i1 :: st) A := x_nx (op := o_iload 4 2) rfl rfl
theorem x_322_44  : exG TB d 322 44 L st A = exG TB d 322 45 L (.int (nI 0) :: st) A := x_nx (op := o_push 1 (.int 0)) rfl rfl
theorem x_322_45  : exG TB d 322 45 L st A = exG TB d 322 48 L (.int (nI 999) :: st) A := x_nx (op := o_push 3 (.int 999)) rfl rfl
theorem x_322_48  : exG TB d 322 48 L [b2, b1, b0] A = kc (evG TB d 293 [b0, b1, b2] A) d 322 51 L [] := x_cv (op := o_cs 293 3 false none) rfl rfl x_noh rfl
theorem x_322_51  : exG TB d 322 51 L (.int i1 :: st) A = if ¬ i1 = nI 0 then exG TB d 322 60 L st A else exG TB d 322 54 L st A := x_if (op := o_if (fun x => decide (¬ x = 0)) 60) rfl rfl rfl
theorem x_322_54  : exG TB d 322 54 (some v :: r9) st A = rg v (exG TB d 322 55 (some v :: r9) (v :: st) A) := x_rg (op := o_aload 0 1) rfl rfl
theorem x_322_55  : exG TB d 322 55 L st A = exG TB d 322 56 L (.int (nI 2) :: st) A := x_nx (op := o_push 1 (.int 2)) rfl rfl
theorem x_322_56  : exG TB d 322 56 L [b0, .ref p] A = kw (sel (gc A p) [(30, 291)]) [.ref p, b0] d 322 59 L [] A := x_cvb (op := o_cv [(30, 291)] 1 3 false none) rfl rfl x_noh rfl
theorem x_322_59  : exG TB d 322 59 L [v] A = ck (okv 1 v) (some (.inl (some v), A)) := x_outg (op := o_ret 1) rfl rfl
theorem x_322_60  : exG TB d 322 60 (some v :: r9) st A = rg v (exG TB d 322 61 (some v :: r9) (v :: st) A) := x_rg (op := o_aload 0 1) rfl rfl
theorem x_322_61  : exG TB d 322 61 (a0 :: some (.int i1) :: r9) st A = exG TB d 322 62 (a0 :: some (.int i1) :: r9) (.int i1 :: st) A := x_nx (op := o_iload 1 1) rfl rfl
theorem x_322_62  : exG TB d 322 62 (a0 :: a1 :: some (.int i1) :: r9) st A = exG TB d 322 63 (a0 :: a1 :: some (.int i1) :: r9) (.int i1 :: st) A := x_nx (op := o_iload 2 1) rfl rfl
theorem x_322_63  : exG TB d 322 63 L [b1, b0, .ref p] A = kw (sel (gc A p) [(30, 310)]) [.ref p, b0, b1] d 322 66 L [] A := x_cvb (op := o_cv [(30, 310)] 2 3 false none) rfl rfl x_noh rfl
theorem x_322_66  : exG TB d 322 66 L st A = exG TB d 322 67 L (.int nN :: st) A := x_nx (op := o_push 1 (.int (-1))) rfl rfl
theorem x_322_67  : exG TB d 322 67 L (.int i2 :: .int i1 :: st) A = if ¬ i1 = i2 then exG TB d 322 82 L st A else exG TB d 322 70 L st A := x_if (op := o_icmp (fun x y => decide (¬ x = y)) 82) rfl rfl rfl
theorem x_322_70  : exG TB d 322 70 (some v :: r9) st A = rg v (exG TB d 322 71 (some v :: r9) (v :: st) A) := x_rg (op := o_aload 0 1) rfl rfl
theorem x_322_71  : exG TB d 322 71 L (.ref p :: st) A = kv (gf A p 148) d 322 74 L st A := x_bd (op := o_get 148) rfl rfl (fun _ => rfl)
theorem x_322_74  : exG TB d 322 74 L st A = exG TB d 322 76 L (.int (nI 9) :: st) A := x_nx (op := o_push 2 (.int 9)) rfl rfl
theorem x_322_76  : exG TB d 322 76 L (.int i1 :: .ref p :: st) A = ki (rdI 0 (ga A p) i1) d 322 77 L st A := x_bd (op := o_rdI 0) rfl rfl (fun _ => rfl)
theorem x_322_77  : exG TB d 322 77 L st A = exG TB d 322 79 L (.int (nI 40) :: st) A := x_nx (op := o_push 2 (.int 40)) rfl rfl
theorem x_322_79  : exG TB d 322 79 L (.int i2 :: .int i1 :: st) A = if ¬ i1 = i2 then exG TB d 322 90 L st A else exG TB d 322 82 L st A := x_if (op := o_icmp (fun x y => decide (¬ x = y)) 90) rfl rfl rfl
theorem x_322_82  : exG TB d 322 82 (some v :: r9) st A = rg v (exG TB d 322 83 (some v :: r9) (v :: st) A) := x_rg (op := o_aload 0 1) rfl rfl
theorem x_322_83  : exG TB d 322 83 L st A = exG TB d 322 84 L (.int (nI 3) :: st) A := x_nx (op := o_push 1 (.int 3)) rfl rfl
theorem x_322_84  : exG TB d 322 84 L [b0, .ref p] A = kw (sel (gc A p) [(30, 291)]) [.ref p, b0] d 322 87 L [] A := x_cvb (op := o_cv [(30, 291)] 1 3 false none) rfl rfl x_noh rfl
theorem x_322_87  : exG TB d 322 87 L st A = exG TB d 322 99 L st A := x_nx (op := o_goto 99) rfl rfl
theorem x_322_90  : exG TB d 322 90 (some v :: r9) st A = rg v (exG TB d 322 91 (some v :: r9) (v :: st) A) := x_rg (op := o_aload 0 1) rfl rfl
theorem x_322_91  : exG TB d 322 91 (a0 :: some (.int i1) :: r9) st A = exG TB d 322 92 (a0 :: some (.int i1) :: r9) (.int i1 :: st) A := x_nx (op := o_iload 1 1) rfl rfl
theorem x_322_92  : exG TB d 322 92 (a0 :: a1 :: some (.int i1) :: r9) st A = exG TB d 322 93 (a0 :: a1 :: some (.int i1) :: r9) (.int i1 :: st) A := x_nx (op := o_iload 2 1) rfl rfl
theorem x_322_93  : exG TB d 322 93 (a0 :: a1 :: a2 :: some (.int i1) :: r9) st A = exG TB d 322 94 (a0 :: a1 :: a2 :: some (.int i1) :: r9) (.int i1 :: st) A := x_nx (op := o_iload 3 1) rfl rfl
theorem x_322_94  : exG TB d 322 94 (a0 :: a1 :: a2 :: a3 :: some (.int i1) :: r9) st A = exG TB d 322 96 (a0 :: a1 :: a2 :: a3 :: some (.int i1) :: r9) (.int i1 :: st) A := x_nx (op := o_iload 4 2) rfl rfl
theorem x_322_96  : exG TB d 322 96 L [b3, b2, b1, b0, .ref p] A = kw (sel (gc A p) [(30, 311)]) [.ref p, b0, b1, b2, b3] d 322 99 L [] A := x_cvb (op := o_cv [(30, 311)] 4 3 false none) rfl rfl x_noh rfl
theorem x_322_99  : exG TB d 322 99 L [v] A = ck (okv 1 v) (some (.inl (some v), A)) := x_outg (op := o_ret 1) rfl rfl
theorem e_323 {j1 : Int32} : evG TB (d + 1) 323 [.ref p, .int j1] A = exG TB d 323 0 [some (.ref p), some (.int j1)] [] A := evG_eq TB d 323 _ A
theorem x_323_0  : exG TB d 323 0 (a0 :: some (.int i1) :: r9) st A = exG TB d 323 1 (a0 :: some (.int i1) :: r9) (.int i1 :: st) A := x_nx (op := o_iload 1 1) rfl rfl
theorem x_323_1  : exG TB d 323 1 L st A = exG TB d 323 2 L (.int (nI 0) :: st) A := x_nx (op := o_push 1 (.int 0)) rfl rfl
theorem x_323_2  : exG TB d 323 2 (some v :: r9) st A = rg v (exG TB d 323 3 (some v :: r9) (v :: st) A) := x_rg (op := o_aload 0 1) rfl rfl
theorem x_323_3  : exG TB d 323 3 L (.ref p :: st) A = kv (gf A p 148) d 323 6 L st A := x_bd (op := o_get 148) rfl rfl (fun _ => rfl)
theorem x_323_6  : exG TB d 323 6 L st A = exG TB d 323 8 L (.int (nI 8) :: st) A := x_nx (op := o_push 2 (.int 8)) rfl rfl
theorem x_323_8  : exG TB d 323 8 L (.int i1 :: .ref p :: st) A = ki (rdI 0 (ga A p) i1) d 323 9 L st A := x_bd (op := o_rdI 0) rfl rfl (fun _ => rfl)
theorem x_323_9  : exG TB d 323 9 L st A = exG TB d 323 10 L (.int (nI 1) :: st) A := x_nx (op := o_push 1 (.int 1)) rfl rfl
theorem x_323_10  : exG TB d 323 10 L (.int i2 :: .int i1 :: st) A = exG TB d 323 11 L (.int (i1 - i2) :: st) A := x_nx (op := o_iop (fun x y => x - y)) rfl rfl
theorem x_323_11  : exG TB d 323 11 L [b2, b1, b0] A = kc (evG TB d 293 [b0, b1, b2] A) d 323 14 L [] := x_cv (op := o_cs 293 3 false none) rfl rfl x_noh rfl
theorem x_323_14  : exG TB d 323 14 L [v] A = ck (okv 5 v) (some (.inl (some v), A)) := x_outg (op := o_ret 5) rfl rfl
theorem e_324 {j1 : Int32} {j2 : Int32} {j3 : Int32} : evG TB (d + 1) 324 [.ref p, .int j1, .int j2, .int j3] A = exG TB d 324 0 [some (.ref p), some (.int j1), some (.int j2), some (.int j3)] [] A := evG_eq TB d 324 _ A
theorem x_324_0  : exG TB d 324 0 (some v :: r9) st A = rg v (exG TB d 324 1 (some v :: r9) (v :: st) A) := x_rg (op := o_aload 0 1) rfl rfl
theorem x_324_1  : exG TB d 324 1 L st A = exG TB d 324 2 L (.int (nI 0) :: st) A := x_nx (op := o_push 1 (.int 0)) rfl rfl
theorem x_324_2  : exG TB d 324 2 L (v :: .ref p :: st) A = ck ((gf A p 155).isSome && okv 1 v) (exG TB d 324 5 L st (setf A p 155 v)) := x_gd (op := o_put 155 1) rfl rfl
theorem x_324_5  : exG TB d 324 5 (a0 :: some (.int i1) :: r9) st A = exG TB d 324 6 (a0 :: some (.int i1) :: r9) (.int i1 :: st) A := x_nx (op := o_iload 1 1) rfl rfl
theorem x_324_6  : exG TB d 324 6 L st A = exG TB d 324 7 L (.int (nI 0) :: st) A := x_nx (op := o_push 1 (.int 0)) rfl rfl
theorem x_324_7  : exG TB d 324 7 L st A = exG TB d 324 9 L (.int (nI 100000) :: st) A := x_nx (op := o_push 2 (.int 100000)) rfl rfl
theorem x_324_9  : exG TB d 324 9 L [b2, b1, b0] A = kc (evG TB d 293 [b0, b1, b2] A) d 324 12 L [] := x_cv (op := o_cs 293 3 false none) rfl rfl x_noh rfl
theorem x_324_12  : exG TB d 324 12 L (.int i1 :: st) A = if i1 = nI 0 then exG TB d 324 35 L st A else exG TB d 324 15 L st A := x_if (op := o_if (fun x => decide (x = 0)) 35) rfl rfl rfl
theorem x_324_15  : exG TB d 324 15 (a0 :: a1 :: some (.int i1) :: r9) st A = exG TB d 324 16 (a0 :: a1 :: some (.int i1) :: r9) (.int i1 :: st) A := x_nx (op := o_iload 2 1) rfl rfl
theorem x_324_16  : exG TB d 324 16 L st A = exG TB d 324 17 L (.int (nI 0) :: st) A := x_nx (op := o_push 1 (.int 0)) rfl rfl
theorem x_324_17  : exG TB d 324 17 L st A = exG TB d 324 19 L (.int (nI 50) :: st) A := x_nx (op := o_push 2 (.int 50)) rfl rfl
theorem x_324_19  : exG TB d 324 19 L [b2, b1, b0] A = kc (evG TB d 293 [b0, b1, b2] A) d 324 22 L [] := x_cv (op := o_cs 293 3 false none) rfl rfl x_noh rfl
theorem x_324_22  : exG TB d 324 22 L (.int i1 :: st) A = if i1 = nI 0 then exG TB d 324 35 L st A else exG TB d 324 25 L st A := x_if (op := o_if (fun x => decide (x = 0)) 35) rfl rfl rfl
theorem x_324_25  : exG TB d 324 25 (a0 :: a1 :: a2 :: some (.int i1) :: r9) st A = exG TB d 324 26 (a0 :: a1 :: a2 :: some (.int i1) :: r9) (.int i1 :: st) A := x_nx (op := o_iload 3 1) rfl rfl
theorem x_324_26  : exG TB d 324 26 L st A = exG TB d 324 27 L (.int (nI 0) :: st) A := x_nx (op := o_push 1 (.int 0)) rfl rfl
theorem x_324_27  : exG TB d 324 27 L st A = exG TB d 324 29 L (.int (nI 50) :: st) A := x_nx (op := o_push 2 (.int 50)) rfl rfl
theorem x_324_29  : exG TB d 324 29 L [b2, b1, b0] A = kc (evG TB d 293 [b0, b1, b2] A) d 324 32 L [] := x_cv (op := o_cs 293 3 false none) rfl rfl x_noh rfl
theorem x_324_32  : exG TB d 324 32 L (.int i1 :: st) A = if ¬ i1 = nI 0 then exG TB d 324 41 L st A else exG TB d 324 35 L st A := x_if (op := o_if (fun x => decide (¬ x = 0)) 41) rfl rfl rfl
theorem x_324_35  : exG TB d 324 35 (some v :: r9) st A = rg v (exG TB d 324 36 (some v :: r9) (v :: st) A) := x_rg (op := o_aload 0 1) rfl rfl
theorem x_324_36  : exG TB d 324 36 L st A = exG TB d 324 37 L (.int (nI 1) :: st) A := x_nx (op := o_push 1 (.int 1)) rfl rfl
theorem x_324_37  : exG TB d 324 37 L [b0, .ref p] A = kw (sel (gc A p) [(30, 291)]) [.ref p, b0] d 324 40 L [] A := x_cvb (op := o_cv [(30, 291)] 1 3 false none) rfl rfl x_noh rfl
theorem x_324_40  : exG TB d 324 40 L [v] A = ck (okv 1 v) (some (.inl (some v), A)) := x_outg (op := o_ret 1) rfl rfl
theorem x_324_41  : exG TB d 324 41 (some v :: r9) st A = rg v (exG TB d 324 42 (some v :: r9) (v :: st) A) := x_rg (op := o_aload 0 1) rfl rfl
theorem x_324_42  : exG TB d 324 42 L (.ref p :: st) A = kv (gf A p 148) d 324 45 L st A := x_bd (op := o_get 148) rfl rfl (fun _ => rfl)
theorem x_324_45  : exG TB d 324 45 L st A = exG TB d 324 47 L (.int (nI 10) :: st) A := x_nx (op := o_push 2 (.int 10)) rfl rfl
theorem x_324_47  : exG TB d 324 47 L (.int i1 :: .ref p :: st) A = ki (rdI 0 (ga A p) i1) d 324 48 L st A := x_bd (op := o_rdI 0) rfl rfl (fun _ => rfl)
theorem x_324_48  : exG TB d 324 48 L st A = exG TB d 324 50 L (.int (nI 8) :: st) A := x_nx (op := o_push 2 (.int 8)) rfl rfl
theorem x_324_50  : exG TB d 324 50 L (.int i2 :: .int i1 :: st) A = if ¬ i1 = i2 then exG TB d 324 61 L st A else exG TB d 324 53 L st A := x_if (op := o_icmp (fun x y => decide (¬ x = y)) 61) rfl rfl rfl
theorem x_324_53  : exG TB d 324 53 (some v :: r9) st A = rg v (exG TB d 324 54 (some v :: r9) (v :: st) A) := x_rg (op := o_aload 0 1) rfl rfl
theorem x_324_54  : exG TB d 324 54 L st A = exG TB d 324 55 L (.int (nI 2) :: st) A := x_nx (op := o_push 1 (.int 2)) rfl rfl
theorem x_324_55  : exG TB d 324 55 L [b0, .ref p] A = kw (sel (gc A p) [(30, 291)]) [.ref p, b0] d 324 58 L [] A := x_cvb (op := o_cv [(30, 291)] 1 3 false none) rfl rfl x_noh rfl
theorem x_324_58  : exG TB d 324 58 L st A = exG TB d 324 68 L st A := x_nx (op := o_goto 68) rfl rfl
theorem x_324_61  : exG TB d 324 61 (some v :: r9) st A = rg v (exG TB d 324 62 (some v :: r9) (v :: st) A) := x_rg (op := o_aload 0 1) rfl rfl
theorem x_324_62  : exG TB d 324 62 (a0 :: some (.int i1) :: r9) st A = exG TB d 324 63 (a0 :: some (.int i1) :: r9) (.int i1 :: st) A := x_nx (op := o_iload 1 1) rfl rfl
theorem x_324_63  : exG TB d 324 63 (a0 :: a1 :: some (.int i1) :: r9) st A = exG TB d 324 64 (a0 :: a1 :: some (.int i1) :: r9) (.int i1 :: st) A := x_nx (op := o_iload 2 1) rfl rfl
theorem x_324_64  : exG TB d 324 64 (a0 :: a1 :: a2 :: some (.int i1) :: r9) st A = exG TB d 324 65 (a0 :: a1 :: a2 :: some (.int i1) :: r9) (.int i1 :: st) A := x_nx (op := o_iload 3 1) rfl rfl
theorem x_324_65  : exG TB d 324 65 L [b2, b1, b0, .ref p] A = kw (sel (gc A p) [(30, 313)]) [.ref p, b0, b1, b2] d 324 68 L [] A := x_cvb (op := o_cv [(30, 313)] 3 3 false none) rfl rfl x_noh rfl
theorem x_324_68  : exG TB d 324 68 L [v] A = ck (okv 1 v) (some (.inl (some v), A)) := x_outg (op := o_ret 1) rfl rfl
theorem e_325 {j1 : Int32} {j2 : Int32} : evG TB (d + 1) 325 [.ref p, .int j1, .int j2] A = exG TB d 325 0 [some (.ref p), some (.int j1), some (.int j2)] [] A := evG_eq TB d 325 _ A
theorem x_325_0  : exG TB d 325 0 (some v :: r9) st A = rg v (exG TB d 325 1 (some v :: r9) (v :: st) A) := x_rg (op := o_aload 0 1) rfl rfl
theorem x_325_1  : exG TB d 325 1 L st A = exG TB d 325 2 L (.int (nI 0) :: st) A := x_nx (op := o_push 1 (.int 0)) rfl rfl
theorem x_325_2  : exG TB d 325 2 L (v :: .ref p :: st) A = ck ((gf A p 155).isSome && okv 1 v) (exG TB d 325 5 L st (setf A p 155 v)) := x_gd (op := o_put 155 1) rfl rfl
theorem x_325_5  : exG TB d 325 5 (a0 :: a1 :: some (.int i1) :: r9) st A = exG TB d 325 6 (a0 :: a1 :: some (.int i1) :: r9) (.int i1 :: st) A := x_nx (op := o_iload 2 1) rfl rfl
theorem x_325_6  : exG TB d 325 6 L st A = exG TB d 325 7 L (.int nN :: st) A := x_nx (op := o_push 1 (.int (-1))) rfl rfl
theorem x_325_7  : exG TB d 325 7 L (.int i2 :: .int i1 :: st) A = if i1 = i2 then exG TB d 325 24 L st A else exG TB d 325 10 L st A := x_if (op := o_icmp (fun x y => decide (x = y)) 24) rfl rfl rfl
theorem x_325_10  : exG TB d 325 10 (some v :: r9) st A = rg v (exG TB d 325 11 (some v :: r9) (v :: st) A) := x_rg (op := o_aload 0 1) rfl rfl
theorem x_325_11  : exG TB d 325 11 (a0 :: a1 :: some (.int i1) :: r9) st A = exG TB d 325 12 (a0 :: a1 :: some (.int i1) :: r9) (.int i1 :: st) A := x_nx (op := o_iload 2 1) rfl rfl
theorem x_325_12  : exG TB d 325 12 L [b0, .ref p] A = kw (sel (gc A p) [(30, 326)]) [.ref p, b0] d 325 15 L [] A := x_cvb (op := o_cv [(30, 326)] 1 3 false none) rfl rfl x_noh rfl
theorem x_325_15  : exG TB d 325 15 L (.int i1 :: st) A = if ¬ i1 = nI 0 then exG TB d 325 24 L st A else exG TB d 325 18 L st A := x_if (op := o_if (fun x => decide (¬ x = 0)) 24) rfl rfl rfl
theorem x_325_18  : exG TB d 325 18 (some v :: r9) st A = rg v (exG TB d 325 19 (some v :: r9) (v :: st) A) := x_rg (op := o_aload 0 1) rfl rfl
theorem x_325_19  : exG TB d 325 19 L st A = exG TB d 325 20 L (.int (nI 1) :: st) A := x_nx (op := o_push 1 (.int 1)) rfl rfl
theorem x_325_20  : exG TB d 325 20 L [b0, .ref p] A = kw (sel (gc A p) [(30, 291)]) [.ref p, b0] d 325 23 L [] A := x_cvb (op := o_cv [(30, 291)] 1 3 false none) rfl rfl x_noh rfl
theorem x_325_23  : exG TB d 325 23 L [v] A = ck (okv 1 v) (some (.inl (some v), A)) := x_outg (op := o_ret 1) rfl rfl
theorem x_325_24  : exG TB d 325 24 (a0 :: some (.int i1) :: r9) st A = exG TB d 325 25 (a0 :: some (.int i1) :: r9) (.int i1 :: st) A := x_nx (op := o_iload 1 1) rfl rfl
theorem x_325_25  : exG TB d 325 25 L st A = exG TB d 325 26 L (.int (nI 1) :: st) A := x_nx (op := o_push 1 (.int 1)) rfl rfl
theorem x_325_26  : exG TB d 325 26 L st A = exG TB d 325 27 L (.int (nI 4) :: st) A := x_nx (op := o_push 1 (.int 4)) rfl rfl
theorem x_325_27  : exG TB d 325 27 L [b2, b1, b0] A = kc (evG TB d 293 [b0, b1, b2] A) d 325 30 L [] := x_cv (op := o_cs 293 3 false none) rfl rfl x_noh rfl
theorem x_325_30  : exG TB d 325 30 L (.int i1 :: st) A = if ¬ i1 = nI 0 then exG TB d 325 39 L st A else exG TB d 325 33 L st A := x_if (op := o_if (fun x => decide (¬ x = 0)) 39) rfl rfl rfl
theorem x_325_33  : exG TB d 325 33 (some v :: r9) st A = rg v (exG TB d 325 34 (some v :: r9) (v :: st) A) := x_rg (op := o_aload 0 1) rfl rfl
theorem x_325_34  : exG TB d 325 34 L st A = exG TB d 325 35 L (.int (nI 2) :: st) A := x_nx (op := o_push 1 (.int 2)) rfl rfl
theorem x_325_35  : exG TB d 325 35 L [b0, .ref p] A = kw (sel (gc A p) [(30, 291)]) [.ref p, b0] d 325 38 L [] A := x_cvb (op := o_cv [(30, 291)] 1 3 false none) rfl rfl x_noh rfl
theorem x_325_38  : exG TB d 325 38 L [v] A = ck (okv 1 v) (some (.inl (some v), A)) := x_outg (op := o_ret 1) rfl rfl
theorem x_325_39  : exG TB d 325 39 (some v :: r9) st A = rg v (exG TB d 325 40 (some v :: r9) (v :: st) A) := x_rg (op := o_aload 0 1) rfl rfl
theorem x_325_40  : exG TB d 325 40 L (.ref p :: st) A = kv (gf A p 148) d 325 43 L st A := x_bd (op := o_get 148) rfl rfl (fun _ => rfl)
theorem x_325_43  : exG TB d 325 43 L st A = exG TB d 325 45 L (.int (nI 11) :: st) A := x_nx (op := o_push 2 (.int 11)) rfl rfl
theorem x_325_45  : exG TB d 325 45 L (.int i1 :: .ref p :: st) A = ki (rdI 0 (ga A p) i1) d 325 46 L st A := x_bd (op := o_rdI 0) rfl rfl (fun _ => rfl)
theorem x_325_46  : exG TB d 325 46 L st A = exG TB d 325 48 L (.int (nI 15) :: st) A := x_nx (op := o_push 2 (.int 15)) rfl rfl
theorem x_325_48  : exG TB d 325 48 L (.int i2 :: .int i1 :: st) A = if ¬ i1 = i2 then exG TB d 325 59 L st A else exG TB d 325 51 L st A := x_if (op := o_icmp (fun x y => decide (¬ x = y)) 59) rfl rfl rfl
theorem x_325_51  : exG TB d 325 51 (some v :: r9) st A = rg v (exG TB d 325 52 (some v :: r9) (v :: st) A) := x_rg (op := o_aload 0 1) rfl rfl
theorem x_325_52  : exG TB d 325 52 L st A = exG TB d 325 53 L (.int (nI 3) :: st) A := x_nx (op := o_push 1 (.int 3)) rfl rfl
theorem x_325_53  : exG TB d 325 53 L [b0, .ref p] A = kw (sel (gc A p) [(30, 291)]) [.ref p, b0] d 325 56 L [] A := x_cvb (op := o_cv [(30, 291)] 1 3 false none) rfl rfl x_noh rfl
theorem x_325_56  : exG TB d 325 56 L st A = exG TB d 325 65 L st A := x_nx (op := o_goto 65) rfl rfl
theorem x_325_59  : exG TB d 325 59 (some v :: r9) st A = rg v (exG TB d 325 60 (some v :: r9) (v :: st) A) := x_rg (op := o_aload 0 1) rfl rfl
theorem x_325_60  : exG TB d 325 60 (a0 :: some (.int i1) :: r9) st A = exG TB d 325 61 (a0 :: some (.int i1) :: r9) (.int i1 :: st) A := x_nx (op := o_iload 1 1) rfl rfl
theorem x_325_61  : exG TB d 325 61 (a0 :: a1 :: some (.int i1) :: r9) st A = exG TB d 325 62 (a0 :: a1 :: some (.int i1) :: r9) (.int i1 :: st) A := x_nx (op := o_iload 2 1) rfl rfl
theorem x_325_62  : exG TB d 325 62 L [b1, b0, .ref p] A = kw (sel (gc A p) [(30, 317)]) [.ref p, b0, b1] d 325 65 L [] A := x_cvb (op := o_cv [(30, 317)] 2 3 false none) rfl rfl x_noh rfl
theorem x_325_65  : exG TB d 325 65 L [v] A = ck (okv 1 v) (some (.inl (some v), A)) := x_outg (op := o_ret 1) rfl rfl
theorem e_326 {j1 : Int32} : evG TB (d + 1) 326 [.ref p, .int j1] A = exG TB d 326 0 [some (.ref p), some (.int j1)] [] A := evG_eq TB d 326 _ A
theorem x_326_0  : exG TB d 326 0 (a0 :: some (.int i1) :: r9) st A = exG TB d 326 1 (a0 :: some (.int i1) :: r9) (.int i1 :: st) A := x_nx (op := o_iload 1 1) rfl rfl
theorem x_326_1  : exG TB d 326 1 L st A = exG TB d 326 2 L (.int (nI 0) :: st) A := x_nx (op := o_push 1 (.int 0)) rfl rfl
theorem x_326_2  : exG TB d 326 2 (some v :: r9) st A = rg v (exG TB d 326 3 (some v :: r9) (v :: st) A) := x_rg (op := o_aload 0 1) rfl rfl
theorem x_326_3  : exG TB d 326 3 L (.ref p :: st) A = kv (gf A p 148) d 326 6 L st A := x_bd (op := o_get 148) rfl rfl (fun _ => rfl)
theorem x_326_6  : exG TB d 326 6 L st A = exG TB d 326 8 L (.int (nI 10) :: st) A := x_nx (op := o_push 2 (.int 10)) rfl rfl
theorem x_326_8  : exG TB d 326 8 L (.int i1 :: .ref p :: st) A = ki (rdI 0 (ga A p) i1) d 326 9 L st A := x_bd (op := o_rdI 0) rfl rfl (fun _ => rfl)
theorem x_326_9  : exG TB d 326 9 L st A = exG TB d 326 10 L (.int (nI 1) :: st) A := x_nx (op := o_push 1 (.int 1)) rfl rfl
theorem x_326_10  : exG TB d 326 10 L (.int i2 :: .int i1 :: st) A = exG TB d 326 11 L (.int (i1 - i2) :: st) A := x_nx (op := o_iop (fun x y => x - y)) rfl rfl
theorem x_326_11  : exG TB d 326 11 L [b2, b1, b0] A = kc (evG TB d 293 [b0, b1, b2] A) d 326 14 L [] := x_cv (op := o_cs 293 3 false none) rfl rfl x_noh rfl
theorem x_326_14  : exG TB d 326 14 L [v] A = ck (okv 5 v) (some (.inl (some v), A)) := x_outg (op := o_ret 5) rfl rfl
theorem e_327 {j1 : Int32} {j2 : Int32} : evG TB (d + 1) 327 [.ref p, .int j1, .int j2] A = exG TB d 327 0 [some (.ref p), some (.int j1), some (.int j2), none] [] A := evG_eq TB d 327 _ A
theorem x_327_0  : exG TB d 327 0 (some v :: r9) st A = rg v (exG TB d 327 1 (some v :: r9) (v :: st) A) := x_rg (op := o_aload 0 1) rfl rfl
theorem x_327_1  : exG TB d 327 1 L st A = exG TB d 327 2 L (.int (nI 0) :: st) A := x_nx (op := o_push 1 (.int 0)) rfl rfl
theorem x_327_2  : exG TB d 327 2 L (v :: .ref p :: st) A = ck ((gf A p 155).isSome && okv 1 v) (exG TB d 327 5 L st (setf A p 155 v)) := x_gd (op := o_put 155 1) rfl rfl
theorem x_327_5  : exG TB d 327 5 (a0 :: some (.int i1) :: r9) st A = exG TB d 327 6 (a0 :: some (.int i1) :: r9) (.int i1 :: st) A := x_nx (op := o_iload 1 1) rfl rfl
theorem x_327_6  : exG TB d 327 6 L st A = exG TB d 327 7 L (.int (nI 0) :: st) A := x_nx (op := o_push 1 (.int 0)) rfl rfl
theorem x_327_7  : exG TB d 327 7 L st A = exG TB d 327 9 L (.int (nI 7) :: st) A := x_nx (op := o_push 2 (.int 7)) rfl rfl
theorem x_327_9  : exG TB d 327 9 L [b2, b1, b0] A = kc (evG TB d 293 [b0, b1, b2] A) d 327 12 L [] := x_cv (op := o_cs 293 3 false none) rfl rfl x_noh rfl
theorem x_327_12  : exG TB d 327 12 L (.int i1 :: st) A = if i1 = nI 0 then exG TB d 327 34 L st A else exG TB d 327 15 L st A := x_if (op := o_if (fun x => decide (x = 0)) 34) rfl rfl rfl
theorem x_327_15  : exG TB d 327 15 (a0 :: a1 :: some (.int i1) :: r9) st A = exG TB d 327 16 (a0 :: a1 :: some (.int i1) :: r9) (.int i1 :: st) A := x_nx (op := o_iload 2 1) rfl rfl
theorem x_327_16  : exG TB d 327 16 (some v :: r9) st A = rg v (exG TB d 327 17 (some v :: r9) (v :: st) A) := x_rg (op := o_aload 0 1) rfl rfl
theorem x_327_17  : exG TB d 327 17 L (.ref p :: st) A = kv (gf A p 153) d 327 20 L st A := x_bd (op := o_get 153) rfl rfl (fun _ => rfl)
theorem x_327_20  : exG TB d 327 20 (a0 :: some (.int i1) :: r9) st A = exG TB d 327 21 (a0 :: some (.int i1) :: r9) (.int i1 :: st) A := x_nx (op := o_iload 1 1) rfl rfl
theorem x_327_21  : exG TB d 327 21 L (.int i1 :: .ref p :: st) A = ki (rdI 0 (ga A p) i1) d 327 22 L st A := x_bd (op := o_rdI 0) rfl rfl (fun _ => rfl)
theorem x_327_22  : exG TB d 327 22 (some v :: r9) st A = rg v (exG TB d 327 23 (some v :: r9) (v :: st) A) := x_rg (op := o_aload 0 1) rfl rfl
theorem x_327_23  : exG TB d 327 23 L (.ref p :: st) A = kv (gf A p 154) d 327 26 L st A := x_bd (op := o_get 154) rfl rfl (fun _ => rfl)
theorem x_327_26  : exG TB d 327 26 (a0 :: some (.int i1) :: r9) st A = exG TB d 327 27 (a0 :: some (.int i1) :: r9) (.int i1 :: st) A := x_nx (op := o_iload 1 1) rfl rfl
theorem x_327_27  : exG TB d 327 27 L (.int i1 :: .ref p :: st) A = ki (rdI 0 (ga A p) i1) d 327 28 L st A := x_bd (op := o_rdI 0) rfl rfl (fun _ => rfl)
theorem x_327_28  : exG TB d 327 28 L [b2, b1, b0] A = kc (evG TB d 293 [b0, b1, b2] A) d 327 31 L [] := x_cv (op := o_cs 293 3 false none) rfl rfl x_noh rfl
theorem x_327_31  : exG TB d 327 31 L (.int i1 :: st) A = if ¬ i1 = nI 0 then exG TB d 327 40 L st A else exG TB d 327 34 L st A := x_if (op := o_if (fun x => decide (¬ x = 0)) 40) rfl rfl rfl
theorem x_327_34  : exG TB d 327 34 (some v :: r9) st A = rg v (exG TB d 327 35 (some v :: r9) (v :: st) A) := x_rg (op := o_aload 0 1) rfl rfl
theorem x_327_35  : exG TB d 327 35 L st A = exG TB d 327 36 L (.int (nI 1) :: st) A := x_nx (op := o_push 1 (.int 1)) rfl rfl
theorem x_327_36  : exG TB d 327 36 L [b0, .ref p] A = kw (sel (gc A p) [(30, 291)]) [.ref p, b0] d 327 39 L [] A := x_cvb (op := o_cv [(30, 291)] 1 3 false none) rfl rfl x_noh rfl
theorem x_327_39  : exG TB d 327 39 L [v] A = ck (okv 1 v) (some (.inl (some v), A)) := x_outg (op := o_ret 1) rfl rfl
theorem x_327_40  : exG TB d 327 40 (some v :: r9) st A = rg v (exG TB d 327 41 (some v :: r9) (v :: st) A) := x_rg (op := o_aload 0 1) rfl rfl
theorem x_327_41  : exG TB d 327 41 (a0 :: some (.int i1) :: r9) st A = exG TB d 327 42 (a0 :: some (.int i1) :: r9) (.int i1 :: st) A := x_nx (op := o_iload 1 1) rfl rfl
theorem x_327_42  : exG TB d 327 42 L [b0, .ref p] A = kw (sel (gc A p) [(30, 328)]) [.ref p, b0] d 327 45 L [] A := x_cvb (op := o_cv [(30, 328)] 1 3 false none) rfl rfl x_noh rfl
theorem x_327_45  : exG TB d 327 45 (a0 :: a1 :: a2 :: a3 :: r9) (.int i1 :: st) A = exG TB d 327 46 (a0 :: a1 :: a2 :: some (.int i1) :: r9) st A := x_nx (op := o_istore 3 1) rfl rfl
theorem x_327_46  : exG TB d 327 46 (some v :: r9) st A = rg v (exG TB d 327 47 (some v :: r9) (v :: st) A) := x_rg (op := o_aload 0 1) rfl rfl
theorem x_327_47  : exG TB d 327 47 L (.ref p :: st) A = kv (gf A p 148) d 327 50 L st A := x_bd (op := o_get 148) rfl rfl (fun _ => rfl)
theorem x_327_50  : exG TB d 327 50 L st A = exG TB d 327 51 L (.int (nI 0) :: st) A := x_nx (op := o_push 1 (.int 0)) rfl rfl
theorem x_327_51  : exG TB d 327 51 (a0 :: some (.int i1) :: r9) st A = exG TB d 327 52 (a0 :: some (.int i1) :: r9) (.int i1 :: st) A := x_nx (op := o_iload 1 1) rfl rfl
theorem x_327_52  : exG TB d 327 52 L (.int i2 :: .int i1 :: st) A = exG TB d 327 53 L (.int (i1 + i2) :: st) A := x_nx (op := o_iop (fun x y => x + y)) rfl rfl
theorem x_327_53  : exG TB d 327 53 (a0 :: a1 :: some (.int i1) :: r9) st A = exG TB d 327 54 (a0 :: a1 :: some (.int i1) :: r9) (.int i1 :: st) A := x_nx (op := o_iload 2 1) rfl rfl
theorem x_327_54  : exG TB d 327 54 L (.int i2 :: .int i1 :: .ref p :: st) A = ka (wrI 0 (ga A p) i1 i2) p d 327 55 L st A := x_bd (op := o_wrI 0) rfl rfl (fun _ => rfl)
theorem x_327_55  : exG TB d 327 55 (a0 :: a1 :: a2 :: some (.int i1) :: r9) st A = exG TB d 327 56 (a0 :: a1 :: a2 :: some (.int i1) :: r9) (.int i1 :: st) A := x_nx (op := o_iload 3 1) rfl rfl
theorem x_327_56  : exG TB d 327 56 L [v] A = ck (okv 1 v) (some (.inl (some v), A)) := x_outg (op := o_ret 1) rfl rfl
theorem e_328 {j1 : Int32} : evG TB (d + 1) 328 [.ref p, .int j1] A = exG TB d 328 0 [some (.ref p), some (.int j1)] [] A := evG_eq TB d 328 _ A
theorem x_328_0  : exG TB d 328 0 (some v :: r9) st A = rg v (exG TB d 328 1 (some v :: r9) (v :: st) A) := x_rg (op := o_aload 0 1) rfl rfl
theorem x_328_1  : exG TB d 328 1 L (.ref p :: st) A = kv (gf A p 148) d 328 4 L st A := x_bd (op := o_get 148) rfl rfl (fun _ => rfl)
theorem x_328_4  : exG TB d 328 4 L st A = exG TB d 328 5 L (.int (nI 0) :: st) A := x_nx (op := o_push 1 (.int 0)) rfl rfl
theorem x_328_5  : exG TB d 328 5 (a0 :: some (.int i1) :: r9) st A = exG TB d 328 6 (a0 :: some (.int i1) :: r9) (.int i1 :: st) A := x_nx (op := o_iload 1 1) rfl rfl
theorem x_328_6  : exG TB d 328 6 L (.int i2 :: .int i1 :: st) A = exG TB d 328 7 L (.int (i1 + i2) :: st) A := x_nx (op := o_iop (fun x y => x + y)) rfl rfl
theorem x_328_7  : exG TB d 328 7 L (.int i1 :: .ref p :: st) A = ki (rdI 0 (ga A p) i1) d 328 8 L st A := x_bd (op := o_rdI 0) rfl rfl (fun _ => rfl)
theorem x_328_8  : exG TB d 328 8 L [v] A = ck (okv 1 v) (some (.inl (some v), A)) := x_outg (op := o_ret 1) rfl rfl
theorem e_329 {j1 : Int32} : evG TB (d + 1) 329 [.ref p, .int j1] A = exG TB d 329 0 [some (.ref p), some (.int j1)] [] A := evG_eq TB d 329 _ A
theorem x_329_0  : exG TB d 329 0 (some v :: r9) st A = rg v (exG TB d 329 1 (some v :: r9) (v :: st) A) := x_rg (op := o_aload 0 1) rfl rfl
theorem x_329_1  : exG TB d 329 1 L st A = exG TB d 329 2 L (.int (nI 0) :: st) A := x_nx (op := o_push 1 (.int 0)) rfl rfl
theorem x_329_2  : exG TB d 329 2 L (v :: .ref p :: st) A = ck ((gf A p 155).isSome && okv 1 v) (exG TB d 329 5 L st (setf A p 155 v)) := x_gd (op := o_put 155 1) rfl rfl
theorem x_329_5  : exG TB d 329 5 (a0 :: some (.int i1) :: r9) st A = exG TB d 329 6 (a0 :: some (.int i1) :: r9) (.int i1 :: st) A := x_nx (op := o_iload 1 1) rfl rfl
theorem x_329_6  : exG TB d 329 6 L st A = exG TB d 329 7 L (.int (nI 0) :: st) A := x_nx (op := o_push 1 (.int 0)) rfl rfl
theorem x_329_7  : exG TB d 329 7 L st A = exG TB d 329 9 L (.int (nI 16) :: st) A := x_nx (op := o_push 2 (.int 16)) rfl rfl
theorem x_329_9  : exG TB d 329 9 L [b2, b1, b0] A = kc (evG TB d 293 [b0, b1, b2] A) d 329 12 L [] := x_cv (op := o_cs 293 3 false none) rfl rfl x_noh rfl
theorem x_329_12  : exG TB d 329 12 L (.int i1 :: st) A = if ¬ i1 = nI 0 then exG TB d 329 21 L st A else exG TB d 329 15 L st A := x_if (op := o_if (fun x => decide (¬ x = 0)) 21) rfl rfl rfl
theorem x_329_15  : exG TB d 329 15 (some v :: r9) st A = rg v (exG TB d 329 16 (some v :: r9) (v :: st) A) := x_rg (op := o_aload 0 1) rfl rfl
theorem x_329_16  : exG TB d 329 16 L st A = exG TB d 329 17 L (.int (nI 1) :: st) A := x_nx (op := o_push 1 (.int 1)) rfl rfl
theorem x_329_17  : exG TB d 329 17 L [b0, .ref p] A = kw (sel (gc A p) [(30, 291)]) [.ref p, b0] d 329 20 L [] A := x_cvb (op := o_cv [(30, 291)] 1 3 false none) rfl rfl x_noh rfl
theorem x_329_20  : exG TB d 329 20 L [v] A = ck (okv 1 v) (some (.inl (some v), A)) := x_outg (op := o_ret 1) rfl rfl
theorem x_329_21  : exG TB d 329 21 (a0 :: some (.int i1) :: r9) st A = exG TB d 329 22 (a0 :: some (.int i1) :: r9) (.int i1 :: st) A := x_nx (op := o_iload 1 1) rfl rfl
theorem x_329_22  : exG TB d 329 22 L st A = exG TB d 329 24 L (.int (nI 14) :: st) A := x_nx (op := o_push 2 (.int 14)) rfl rfl
theorem x_329_24  : exG TB d 329 24 L (.int i2 :: .int i1 :: st) A = if i2 ≤ i1 then exG TB d 329 34 L st A else exG TB d 329 27 L st A := x_if (op := o_icmp (fun x y => decide (y ≤ x)) 34) rfl rfl rfl
theorem x_329_27  : exG TB d 329 27 (some v :: r9) st A = rg v (exG TB d 329 28 (some v :: r9) (v :: st) A) := x_rg (op := o_aload 0 1) rfl rfl
theorem x_329_28  : exG TB d 329 28 L (.ref p :: st) A = kv (gf A p 148) d 329 31 L st A := x_bd (op := o_get 148) rfl rfl (fun _ => rfl)
theorem x_329_31  : exG TB d 329 31 (a0 :: some (.int i1) :: r9) st A = exG TB d 329 32 (a0 :: some (.int i1) :: r9) (.int i1 :: st) A := x_nx (op := o_iload 1 1) rfl rfl
theorem x_329_32  : exG TB d 329 32 L (.int i1 :: .ref p :: st) A = ki (rdI 0 (ga A p) i1) d 329 33 L st A := x_bd (op := o_rdI 0) rfl rfl (fun _ => rfl)
theorem x_329_33  : exG TB d 329 33 L [v] A = ck (okv 1 v) (some (.inl (some v), A)) := x_outg (op := o_ret 1) rfl rfl
theorem x_329_34  : exG TB d 329 34 (a0 :: some (.int i1) :: r9) st A = exG TB d 329 35 (a0 :: some (.int i1) :: r9) (.int i1 :: st) A := x_nx (op := o_iload 1 1) rfl rfl
theorem x_329_35  : exG TB d 329 35 L st A = exG TB d 329 37 L (.int (nI 14) :: st) A := x_nx (op := o_push 2 (.int 14)) rfl rfl
theorem x_329_37  : exG TB d 329 37 L (.int i2 :: .int i1 :: st) A = if ¬ i1 = i2 then exG TB d 329 48 L st A else exG TB d 329 40 L st A := x_if (op := o_icmp (fun x y => decide (¬ x = y)) 48) rfl rfl rfl
theorem x_329_40  : exG TB d 329 40 (some v :: r9) st A = rg v (exG TB d 329 41 (some v :: r9) (v :: st) A) := x_rg (op := o_aload 0 1) rfl rfl
theorem x_329_41  : exG TB d 329 41 L st A = exG TB d 329 42 L (.int (nI 0) :: st) A := x_nx (op := o_push 1 (.int 0)) rfl rfl
theorem x_329_42  : exG TB d 329 42 L [b0, .ref p] A = kw (sel (gc A p) [(30, 330)]) [.ref p, b0] d 329 45 L [] A := x_cvb (op := o_cv [(30, 330)] 1 3 false none) rfl rfl x_noh rfl
theorem x_329_45  : exG TB d 329 45 L st A = exG TB d 329 63 L st A := x_nx (op := o_goto 63) rfl rfl
theorem x_329_48  : exG TB d 329 48 (some v :: r9) st A = rg v (exG TB d 329 49 (some v :: r9) (v :: st) A) := x_rg (op := o_aload 0 1) rfl rfl
theorem x_329_49  : exG TB d 329 49 (a0 :: some (.int i1) :: r9) st A = exG TB d 329 50 (a0 :: some (.int i1) :: r9) (.int i1 :: st) A := x_nx (op := o_iload 1 1) rfl rfl
theorem x_329_50  : exG TB d 329 50 L st A = exG TB d 329 52 L (.int (nI 16) :: st) A := x_nx (op := o_push 2 (.int 16)) rfl rfl
theorem x_329_52  : exG TB d 329 52 L (.int i2 :: .int i1 :: st) A = if ¬ i1 = i2 then exG TB d 329 59 L st A else exG TB d 329 55 L st A := x_if (op := o_icmp (fun x y => decide (¬ x = y)) 59) rfl rfl rfl
theorem x_329_55  : exG TB d 329 55 L st A = exG TB d 329 56 L (.int (nI 1) :: st) A := x_nx (op := o_push 1 (.int 1)) rfl rfl
theorem x_329_56  : exG TB d 329 56 L st A = exG TB d 329 60 L st A := x_nx (op := o_goto 60) rfl rfl
theorem x_329_59  : exG TB d 329 59 L st A = exG TB d 329 60 L (.int (nI 0) :: st) A := x_nx (op := o_push 1 (.int 0)) rfl rfl
theorem x_329_60  : exG TB d 329 60 L [b0, .ref p] A = kw (sel (gc A p) [(30, 332)]) [.ref p, b0] d 329 63 L [] A := x_cvb (op := o_cv [(30, 332)] 1 3 false none) rfl rfl x_noh rfl
theorem x_329_63  : exG TB d 329 63 L [v] A = ck (okv 1 v) (some (.inl (some v), A)) := x_outg (op := o_ret 1) rfl rfl
theorem e_330 {j1 : Int32} : evG TB (d + 1) 330 [.ref p, .int j1] A = exG TB d 330 0 [some (.ref p), some (.int j1), none, none] [] A := evG_eq TB d 330 _ A
theorem x_330_0  : exG TB d 330 0 L st A = exG TB d 330 1 L (.int (nI 0) :: st) A := x_nx (op := o_push 1 (.int 0)) rfl rfl
theorem x_330_1  : exG TB d 330 1 (a0 :: a1 :: a2 :: r9) (.int i1 :: st) A = exG TB d 330 2 (a0 :: a1 :: some (.int i1) :: r9) st A := x_nx (op := o_istore 2 1) rfl rfl
theorem x_330_2  : exG TB d 330 2 L st A = exG TB d 330 3 L (.int (nI 0) :: st) A := x_nx (op := o_push 1 (.int 0)) rfl rfl
theorem x_330_3  : exG TB d 330 3 (a0 :: a1 :: a2 :: a3 :: r9) (.int i1 :: st) A = exG TB d 330 4 (a0 :: a1 :: a2 :: some (.int i1) :: r9) st A := x_nx (op := o_istore 3 1) rfl rfl
theorem x_330_4  : exG TB d 330 4 (a0 :: a1 :: a2 :: some (.int i1) :: r9) st A = exG TB d 330 5 (a0 :: a1 :: a2 :: some (.int i1) :: r9) (.int i1 :: st) A := x_nx (op := o_iload 3 1) rfl rfl
theorem x_330_5  : exG TB d 330 5 (some v :: r9) st A = rg v (exG TB d 330 6 (some v :: r9) (v :: st) A) := x_rg (op := o_aload 0 1) rfl rfl
theorem x_330_6  : exG TB d 330 6 L (.ref p :: st) A = kv (gf A p 148) d 330 9 L st A := x_bd (op := o_get 148) rfl rfl (fun _ => rfl)
theorem x_330_9  : exG TB d 330 9 L st A = exG TB d 330 11 L (.int (nI 12) :: st) A := x_nx (op := o_push 2 (.int 12)) rfl rfl
theorem x_330_11  : exG TB d 330 11 L (.int i1 :: .ref p :: st) A = ki (rdI 0 (ga A p) i1) d 330 12 L st A := x_bd (op := o_rdI 0) rfl rfl (fun _ => rfl)
theorem x_330_12  : exG TB d 330 12 L (.int i2 :: .int i1 :: st) A = if i2 ≤ i1 then exG TB d 330 39 L st A else exG TB d 330 15 L st A := x_if (op := o_icmp (fun x y => decide (y ≤ x)) 39) rfl rfl rfl
theorem x_330_15  : exG TB d 330 15 (a0 :: a1 :: some (.int i1) :: r9) st A = exG TB d 330 16 (a0 :: a1 :: some (.int i1) :: r9) (.int i1 :: st) A := x_nx (op := o_iload 2 1) rfl rfl
theorem x_330_16  : exG TB d 330 16 (some v :: r9) st A = rg v (exG TB d 330 17 (some v :: r9) (v :: st) A) := x_rg (op := o_aload 0 1) rfl rfl
theorem x_330_17  : exG TB d 330 17 (a0 :: a1 :: a2 :: some (.int i1) :: r9) st A = exG TB d 330 18 (a0 :: a1 :: a2 :: some (.int i1) :: r9) (.int i1 :: st) A := x_nx (op := o_iload 3 1) rfl rfl
theorem x_330_18  : exG TB d 330 18 L st A = exG TB d 330 19 L (.int (nI 5) :: st) A := x_nx (op := o_push 1 (.int 5)) rfl rfl
theorem x_330_19  : exG TB d 330 19 L [b1, b0, .ref p, w0] A = kw (sel (gc A p) [(30, 331)]) [.ref p, b0, b1] d 330 22 L [w0] A := x_cvb (op := o_cv [(30, 331)] 2 3 false none) rfl rfl x_noh rfl
theorem x_330_22  : exG TB d 330 22 (a0 :: some (.int i1) :: r9) st A = exG TB d 330 23 (a0 :: some (.int i1) :: r9) (.int i1 :: st) A := x_nx (op := o_iload 1 1) rfl rfl
theorem x_330_23  : exG TB d 330 23 L (.int i2 :: .int i1 :: st) A = if ¬ i1 = i2 then exG TB d 330 30 L st A else exG TB d 330 26 L st A := x_if (op := o_icmp (fun x y => decide (¬ x = y)) 30) rfl rfl rfl
theorem x_330_26  : exG TB d 330 26 L st A = exG TB d 330 27 L (.int (nI 1) :: st) A := x_nx (op := o_push 1 (.int 1)) rfl rfl
theorem x_330_27  : exG TB d 330 27 L st A = exG TB d 330 31 L st A := x_nx (op := o_goto 31) rfl rfl
theorem x_330_30  : exG TB d 330 30 L st A = exG TB d 330 31 L (.int (nI 0) :: st) A := x_nx (op := o_push 1 (.int 0)) rfl rfl
theorem x_330_31  : exG TB d 330 31 L (.int i2 :: .int i1 :: st) A = exG TB d 330 32 L (.int (i1 + i2) :: st) A := x_nx (op := o_iop (fun x y => x + y)) rfl rfl
theorem x_330_32  : exG TB d 330 32 (a0 :: a1 :: a2 :: r9) (.int i1 :: st) A = exG TB d 330 33 (a0 :: a1 :: some (.int i1) :: r9) st A := x_nx (op := o_istore 2 1) rfl rfl
theorem x_330_33  : exG TB d 330 33 (a0 :: a1 :: a2 :: some (.int i1) :: r9) st A = exG TB d 330 36 (a0 :: a1 :: a2 :: some (.int (i1 + (nI 1))) :: r9) st A := x_nx (op := o_iinc 3 1) rfl rfl
theorem x_330_36  : exG TB d 330 36 L st A = exG TB d 330 4 L st A := x_nx (op := o_goto 4) rfl rfl
theorem x_330_39  : exG TB d 330 39 (a0 :: a1 :: some (.int i1) :: r9) st A = exG TB d 330 40 (a0 :: a1 :: some (.int i1) :: r9) (.int i1 :: st) A := x_nx (op := o_iload 2 1) rfl rfl
theorem x_330_40  : exG TB d 330 40 L [v] A = ck (okv 1 v) (some (.inl (some v), A)) := x_outg (op := o_ret 1) rfl rfl
theorem e_331 {j1 : Int32} {j2 : Int32} : evG TB (d + 1) 331 [.ref p, .int j1, .int j2] A = exG TB d 331 0 [some (.ref p), some (.int j1), some (.int j2)] [] A := evG_eq TB d 331 _ A
theorem x_331_0  : exG TB d 331 0 (some v :: r9) st A = rg v (exG TB d 331 1 (some v :: r9) (v :: st) A) := x_rg (op := o_aload 0 1) rfl rfl
theorem x_331_1  : exG TB d 331 1 L (.ref p :: st) A = kv (gf A p 148) d 331 4 L st A := x_bd (op := o_get 148) rfl rfl (fun _ => rfl)
theorem x_331_4  : exG TB d 331 4 L st A = exG TB d 331 7 L (.int (nI 280) :: st) A := x_nx (op := o_push 3 (.int 280)) rfl rfl
theorem x_331_7  : exG TB d 331 7 L st A = exG TB d 331 9 L (.int (nI 7) :: st) A := x_nx (op := o_push 2 (.int 7)) rfl rfl
theorem x_331_9  : exG TB d 331 9 (a0 :: some (.int i1) :: r9) st A = exG TB d 331 10 (a0 :: some (.int i1) :: r9) (.int i1 :: st) A := x_nx (op := o_iload 1 1) rfl rfl
theorem x_331_10  : exG TB d 331 10 L (.int i2 :: .int i1 :: st) A = exG TB d 331 11 L (.int (i1 * i2) :: st) A := x_nx (op := o_iop (fun x y => x * y)) rfl rfl
theorem x_331_11  : exG TB d 331 11 L (.int i2 :: .int i1 :: st) A = exG TB d 331 12 L (.int (i1 + i2) :: st) A := x_nx (op := o_iop (fun x y => x + y)) rfl rfl
theorem x_331_12  : exG TB d 331 12 (a0 :: a1 :: some (.int i1) :: r9) st A = exG TB d 331 13 (a0 :: a1 :: some (.int i1) :: r9) (.int i1 :: st) A := x_nx (op := o_iload 2 1) rfl rfl
theorem x_331_13  : exG TB d 331 13 L (.int i2 :: .int i1 :: st) A = exG TB d 331 14 L (.int (i1 + i2) :: st) A := x_nx (op := o_iop (fun x y => x + y)) rfl rfl
theorem x_331_14  : exG TB d 331 14 L (.int i1 :: .ref p :: st) A = ki (rdI 0 (ga A p) i1) d 331 15 L st A := x_bd (op := o_rdI 0) rfl rfl (fun _ => rfl)
theorem x_331_15  : exG TB d 331 15 L [v] A = ck (okv 1 v) (some (.inl (some v), A)) := x_outg (op := o_ret 1) rfl rfl
theorem e_332 {j1 : Int32} : evG TB (d + 1) 332 [.ref p, .int j1] A = exG TB d 332 0 [some (.ref p), some (.int j1), none, none, none] [] A := evG_eq TB d 332 _ A
theorem x_332_0  : exG TB d 332 0 L st A = exG TB d 332 1 L (.int (nI 0) :: st) A := x_nx (op := o_push 1 (.int 0)) rfl rfl
theorem x_332_1  : exG TB d 332 1 (a0 :: a1 :: a2 :: r9) (.int i1 :: st) A = exG TB d 332 2 (a0 :: a1 :: some (.int i1) :: r9) st A := x_nx (op := o_istore 2 1) rfl rfl
theorem x_332_2  : exG TB d 332 2 L st A = exG TB d 332 3 L (.int (nI 0) :: st) A := x_nx (op := o_push 1 (.int 0)) rfl rfl
theorem x_332_3  : exG TB d 332 3 (a0 :: a1 :: a2 :: a3 :: r9) (.int i1 :: st) A = exG TB d 332 4 (a0 :: a1 :: a2 :: some (.int i1) :: r9) st A := x_nx (op := o_istore 3 1) rfl rfl
theorem x_332_4  : exG TB d 332 4 (a0 :: a1 :: a2 :: some (.int i1) :: r9) st A = exG TB d 332 5 (a0 :: a1 :: a2 :: some (.int i1) :: r9) (.int i1 :: st) A := x_nx (op := o_iload 3 1) rfl rfl
theorem x_332_5  : exG TB d 332 5 (some v :: r9) st A = rg v (exG TB d 332 6 (some v :: r9) (v :: st) A) := x_rg (op := o_aload 0 1) rfl rfl
theorem x_332_6  : exG TB d 332 6 L (.ref p :: st) A = kv (gf A p 148) d 332 9 L st A := x_bd (op := o_get 148) rfl rfl (fun _ => rfl)
theorem x_332_9  : exG TB d 332 9 L st A = exG TB d 332 11 L (.int (nI 13) :: st) A := x_nx (op := o_push 2 (.int 13)) rfl rfl
theorem x_332_11  : exG TB d 332 11 L (.int i1 :: .ref p :: st) A = ki (rdI 0 (ga A p) i1) d 332 12 L st A := x_bd (op := o_rdI 0) rfl rfl (fun _ => rfl)
theorem x_332_12  : exG TB d 332 12 L (.int i2 :: .int i1 :: st) A = if i2 ≤ i1 then exG TB d 332 54 L st A else exG TB d 332 15 L st A := x_if (op := o_icmp (fun x y => decide (y ≤ x)) 54) rfl rfl rfl
theorem x_332_15  : exG TB d 332 15 (some v :: r9) st A = rg v (exG TB d 332 16 (some v :: r9) (v :: st) A) := x_rg (op := o_aload 0 1) rfl rfl
theorem x_332_16  : exG TB d 332 16 (a0 :: a1 :: a2 :: some (.int i1) :: r9) st A = exG TB d 332 17 (a0 :: a1 :: a2 :: some (.int i1) :: r9) (.int i1 :: st) A := x_nx (op := o_iload 3 1) rfl rfl
theorem x_332_17  : exG TB d 332 17 L st A = exG TB d 332 19 L (.int (nI 11) :: st) A := x_nx (op := o_push 2 (.int 11)) rfl rfl
theorem x_332_19  : exG TB d 332 19 L [b1, b0, .ref p] A = kw (sel (gc A p) [(30, 333)]) [.ref p, b0, b1] d 332 22 L [] A := x_cvb (op := o_cv [(30, 333)] 2 3 false none) rfl rfl x_noh rfl
theorem x_332_22  : exG TB d 332 22 (a0 :: a1 :: a2 :: a3 :: a4 :: r9) (.int i1 :: st) A = exG TB d 332 24 (a0 :: a1 :: a2 :: a3 :: some (.int i1) :: r9) st A := x_nx (op := o_istore 4 2) rfl rfl
theorem x_332_24  : exG TB d 332 24 (a0 :: a1 :: some (.int i1) :: r9) st A = exG TB d 332 25 (a0 :: a1 :: some (.int i1) :: r9) (.int i1 :: st) A := x_nx (op := o_iload 2 1) rfl rfl
theorem x_332_25  : exG TB d 332 25 (a0 :: a1 :: a2 :: a3 :: some (.int i1) :: r9) st A = exG TB d 332 27 (a0 :: a1 :: a2 :: a3 :: some (.int i1) :: r9) (.int i1 :: st) A := x_nx (op := o_iload 4 2) rfl rfl
theorem x_332_27  : exG TB d 332 27 L st A = exG TB d 332 28 L (.int (nI 1) :: st) A := x_nx (op := o_push 1 (.int 1)) rfl rfl
theorem x_332_28  : exG TB d 332 28 L (.int i2 :: .int i1 :: st) A = if i1 = i2 then exG TB d 332 41 L st A else exG TB d 332 31 L st A := x_if (op := o_icmp (fun x y => decide (x = y)) 41) rfl rfl rfl
theorem x_332_31  : exG TB d 332 31 (a0 :: a1 :: a2 :: a3 :: some (.int i1) :: r9) st A = exG TB d 332 33 (a0 :: a1 :: a2 :: a3 :: some (.int i1) :: r9) (.int i1 :: st) A := x_nx (op := o_iload 4 2) rfl rfl
theorem x_332_33  : exG TB d 332 33 L st A = exG TB d 332 34 L (.int (nI 2) :: st) A := x_nx (op := o_push 1 (.int 2)) rfl rfl
theorem x_332_34  : exG TB d 332 34 L (.int i2 :: .int i1 :: st) A = if ¬ i1 = i2 then exG TB d 332 45 L st A else exG TB d 332 37 L st A := x_if (op := o_icmp (fun x y => decide (¬ x = y)) 45) rfl rfl rfl
theorem x_332_37  : exG TB d 332 37 (a0 :: some (.int i1) :: r9) st A = exG TB d 332 38 (a0 :: some (.int i1) :: r9) (.int i1 :: st) A := x_nx (op := o_iload 1 1) rfl rfl
theorem x_332_38  : exG TB d 332 38 L (.int i1 :: st) A = if ¬ i1 = nI 0 then exG TB d 332 45 L st A else exG TB d 332 41 L st A := x_if (op := o_if (fun x => decide (¬ x = 0)) 45) rfl rfl rfl
theorem x_332_41  : exG TB d 332 41 L st A = exG TB d 332 42 L (.int (nI 1) :: st) A := x_nx (op := o_push 1 (.int 1)) rfl rfl
theorem x_332_42  : exG TB d 332 42 L st A = exG TB d 332 46 L st A := x_nx (op := o_goto 46) rfl rfl
theorem x_332_45  : exG TB d 332 45 L st A = exG TB d 332 46 L (.int (nI 0) :: st) A := x_nx (op := o_push 1 (.int 0)) rfl rfl
theorem x_332_46  : exG TB d 332 46 L (.int i2 :: .int i1 :: st) A = exG TB d 332 47 L (.int (i1 + i2) :: st) A := x_nx (op := o_iop (fun x y => x + y)) rfl rfl
theorem x_332_47  : exG TB d 332 47 (a0 :: a1 :: a2 :: r9) (.int i1 :: st) A = exG TB d 332 48 (a0 :: a1 :: some (.int i1) :: r9) st A := x_nx (op := o_istore 2 1) rfl rfl
theorem x_332_48  : exG TB d 332 48 (a0 :: a1 :: a2 :: some (.int i1) :: r9) st A = exG TB d 332 51 (a0 :: a1 :: a2 :: some (.int (i1 + (nI 1))) :: r9) st A := x_nx (op := o_iinc 3 1) rfl rfl
theorem x_332_51  : exG TB d 332 51 L st A = exG TB d 332 4 L st A := x_nx (op := o_goto 4) rfl rfl
theorem x_332_54  : exG TB d 332 54 (a0 :: a1 :: some (.int i1) :: r9) st A = exG TB d 332 55 (a0 :: a1 :: some (.int i1) :: r9) (.int i1 :: st) A := x_nx (op := o_iload 2 1) rfl rfl
theorem x_332_55  : exG TB d 332 55 L [v] A = ck (okv 1 v) (some (.inl (some v), A)) := x_outg (op := o_ret 1) rfl rfl
theorem e_333 {j1 : Int32} {j2 : Int32} : evG TB (d + 1) 333 [.ref p, .int j1, .int j2] A = exG TB d 333 0 [some (.ref p), some (.int j1), some (.int j2)] [] A := evG_eq TB d 333 _ A
theorem x_333_0  : exG TB d 333 0 (some v :: r9) st A = rg v (exG TB d 333 1 (some v :: r9) (v :: st) A) := x_rg (op := o_aload 0 1) rfl rfl
theorem x_333_1  : exG TB d 333 1 L (.ref p :: st) A = kv (gf A p 148) d 333 4 L st A := x_bd (op := o_get 148) rfl rfl (fun _ => rfl)
theorem x_333_4  : exG TB d 333 4 L st A = exG TB d 333 7 L (.int (nI 1120) :: st) A := x_nx (op := o_push 3 (.int 1120)) rfl rfl
theorem x_333_7  : exG TB d 333 7 L st A = exG TB d 333 9 L (.int (nI 18) :: st) A := x_nx (op := o_push 2 (.int 18)) rfl rfl
theorem x_333_9  : exG TB d 333 9 (a0 :: some (.int i1) :: r9) st A = exG TB d 333 10 (a0 :: some (.int i1) :: r9) (.int i1 :: st) A := x_nx (op := o_iload 1 1) rfl rfl
theorem x_333_10  : exG TB d 333 10 L (.int i2 :: .int i1 :: st) A = exG TB d 333 11 L (.int (i1 * i2) :: st) A := x_nx (op := o_iop (fun x y => x * y)) rfl rfl
theorem x_333_11  : exG TB d 333 11 L (.int i2 :: .int i1 :: st) A = exG TB d 333 12 L (.int (i1 + i2) :: st) A := x_nx (op := o_iop (fun x y => x + y)) rfl rfl
theorem x_333_12  : exG TB d 333 12 (a0 :: a1 :: some (.int i1) :: r9) st A = exG TB d 333 13 (a0 :: a1 :: some (.int i1) :: r9) (.int i1 :: st) A := x_nx (op := o_iload 2 1) rfl rfl
theorem x_333_13  : exG TB d 333 13 L (.int i2 :: .int i1 :: st) A = exG TB d 333 14 L (.int (i1 + i2) :: st) A := x_nx (op := o_iop (fun x y => x + y)) rfl rfl
theorem x_333_14  : exG TB d 333 14 L (.int i1 :: .ref p :: st) A = ki (rdI 0 (ga A p) i1) d 333 15 L st A := x_bd (op := o_rdI 0) rfl rfl (fun _ => rfl)
theorem x_333_15  : exG TB d 333 15 L [v] A = ck (okv 1 v) (some (.inl (some v), A)) := x_outg (op := o_ret 1) rfl rfl
theorem e_334 {j1 : Int32} {j2 : Int32} : evG TB (d + 1) 334 [.ref p, .int j1, .int j2] A = exG TB d 334 0 [some (.ref p), some (.int j1), some (.int j2)] [] A := evG_eq TB d 334 _ A
theorem x_334_0  : exG TB d 334 0 (some v :: r9) st A = rg v (exG TB d 334 1 (some v :: r9) (v :: st) A) := x_rg (op := o_aload 0 1) rfl rfl
theorem x_334_1  : exG TB d 334 1 L st A = exG TB d 334 2 L (.int (nI 0) :: st) A := x_nx (op := o_push 1 (.int 0)) rfl rfl
theorem x_334_2  : exG TB d 334 2 L (v :: .ref p :: st) A = ck ((gf A p 155).isSome && okv 1 v) (exG TB d 334 5 L st (setf A p 155 v)) := x_gd (op := o_put 155 1) rfl rfl
theorem x_334_5  : exG TB d 334 5 (some v :: r9) st A = rg v (exG TB d 334 6 (some v :: r9) (v :: st) A) := x_rg (op := o_aload 0 1) rfl rfl
theorem x_334_6  : exG TB d 334 6 (a0 :: some (.int i1) :: r9) st A = exG TB d 334 7 (a0 :: some (.int i1) :: r9) (.int i1 :: st) A := x_nx (op := o_iload 1 1) rfl rfl
theorem x_334_7  : exG TB d 334 7 L [b0, .ref p] A = kw (sel (gc A p) [(30, 326)]) [.ref p, b0] d 334 10 L [] A := x_cvb (op := o_cv [(30, 326)] 1 3 false none) rfl rfl x_noh rfl
theorem x_334_10  : exG TB d 334 10 L (.int i1 :: st) A = if ¬ i1 = nI 0 then exG TB d 334 19 L st A else exG TB d 334 13 L st A := x_if (op := o_if (fun x => decide (¬ x = 0)) 19) rfl rfl rfl
theorem x_334_13  : exG TB d 334 13 (some v :: r9) st A = rg v (exG TB d 334 14 (some v :: r9) (v :: st) A) := x_rg (op := o_aload 0 1) rfl rfl
theorem x_334_14  : exG TB d 334 14 L st A = exG TB d 334 15 L (.int (nI 1) :: st) A := x_nx (op := o_push 1 (.int 1)) rfl rfl
theorem x_334_15  : exG TB d 334 15 L [b0, .ref p] A = kw (sel (gc A p) [(30, 291)]) [.ref p, b0] d 334 18 L [] A := x_cvb (op := o_cv [(30, 291)] 1 3 false none) rfl rfl x_noh rfl
theorem x_334_18  : exG TB d 334 18 L [v] A = ck (okv 1 v) (some (.inl (some v), A)) := x_outg (op := o_ret 1) rfl rfl
theorem x_334_19  : exG TB d 334 19 (a0 :: a1 :: some (.int i1) :: r9) st A = exG TB d 334 20 (a0 :: a1 :: some (.int i1) :: r9) (.int i1 :: st) A := x_nx (op := o_iload 2 1) rfl rfl
theorem x_334_20  : exG TB d 334 20 L st A = exG TB d 334 21 L (.int (nI 0) :: st) A := x_nx (op := o_push 1 (.int 0)) rfl rfl
theorem x_334_21  : exG TB d 334 21 L st A = exG TB d 334 22 L (.int (nI 5) :: st) A := x_nx (op := o_push 1 (.int 5)) rfl rfl
theorem x_334_22  : exG TB d 334 22 L [b2, b1, b0] A = kc (evG TB d 293 [b0, b1, b2] A) d 334 25 L [] := x_cv (op := o_cs 293 3 false none) rfl rfl x_noh rfl
theorem x_334_25  : exG TB d 334 25 L (.int i1 :: st) A = if i1 = nI 0 then exG TB d 334 37 L st A else exG TB d 334 28 L st A := x_if (op := o_if (fun x => decide (x = 0)) 37) rfl rfl rfl
theorem x_334_28  : exG TB d 334 28 (some v :: r9) st A = rg v (exG TB d 334 29 (some v :: r9) (v :: st) A) := x_rg (op := o_aload 0 1) rfl rfl
theorem x_334_29  : exG TB d 334 29 (a0 :: some (.int i1) :: r9) st A = exG TB d 334 30 (a0 :: some (.int i1) :: r9) (.int i1 :: st) A := x_nx (op := o_iload 1 1) rfl rfl
theorem x_334_30  : exG TB d 334 30 (a0 :: a1 :: some (.int i1) :: r9) st A = exG TB d 334 31 (a0 :: a1 :: some (.int i1) :: r9) (.int i1 :: st) A := x_nx (op := o_iload 2 1) rfl rfl
theorem x_334_31  : exG TB d 334 31 L [b1, b0, .ref p] A = kw (sel (gc A p) [(30, 335)]) [.ref p, b0, b1] d 334 34 L [] A := x_cvb (op := o_cv [(30, 335)] 2 3 false none) rfl rfl x_noh rfl
theorem x_334_34  : exG TB d 334 34 L st A = exG TB d 334 42 L st A := x_nx (op := o_goto 42) rfl rfl
theorem x_334_37  : exG TB d 334 37 (some v :: r9) st A = rg v (exG TB d 334 38 (some v :: r9) (v :: st) A) := x_rg (op := o_aload 0 1) rfl rfl
theorem x_334_38  : exG TB d 334 38 L st A = exG TB d 334 39 L (.int (nI 2) :: st) A := x_nx (op := o_push 1 (.int 2)) rfl rfl
theorem x_334_39  : exG TB d 334 39 L [b0, .ref p] A = kw (sel (gc A p) [(30, 291)]) [.ref p, b0] d 334 42 L [] A := x_cvb (op := o_cv [(30, 291)] 1 3 false none) rfl rfl x_noh rfl
theorem x_334_42  : exG TB d 334 42 L [v] A = ck (okv 1 v) (some (.inl (some v), A)) := x_outg (op := o_ret 1) rfl rfl
theorem e_335 {j1 : Int32} {j2 : Int32} : evG TB (d + 1) 335 [.ref p, .int j1, .int j2] A = exG TB d 335 0 [some (.ref p), some (.int j1), some (.int j2)] [] A := evG_eq TB d 335 _ A
theorem x_335_0  : exG TB d 335 0 (some v :: r9) st A = rg v (exG TB d 335 1 (some v :: r9) (v :: st) A) := x_rg (op := o_aload 0 1) rfl rfl
theorem x_335_1  : exG TB d 335 1 L (.ref p :: st) A = kv (gf A p 148) d 335 4 L st A := x_bd (op := o_get 148) rfl rfl (fun _ => rfl)
theorem x_335_4  : exG TB d 335 4 L st A = exG TB d 335 7 L (.int (nI 187) :: st) A := x_nx (op := o_push 3 (.int 187)) rfl rfl
theorem x_335_7  : exG TB d 335 7 L st A = exG TB d 335 9 L (.int (nI 6) :: st) A := x_nx (op := o_push 2 (.int 6)) rfl rfl
theorem x_335_9  : exG TB d 335 9 (a0 :: some (.int i1) :: r9) st A = exG TB d 335 10 (a0 :: some (.int i1) :: r9) (.int i1 :: st) A := x_nx (op := o_iload 1 1) rfl rfl
theorem x_335_10  : exG TB d 335 10 L (.int i2 :: .int i1 :: st) A = exG TB d 335 11 L (.int (i1 * i2) :: st) A := x_nx (op := o_iop (fun x y => x * y)) rfl rfl
theorem x_335_11  : exG TB d 335 11 L (.int i2 :: .int i1 :: st) A = exG TB d 335 12 L (.int (i1 + i2) :: st) A := x_nx (op := o_iop (fun x y => x + y)) rfl rfl
theorem x_335_12  : exG TB d 335 12 (a0 :: a1 :: some (.int i1) :: r9) st A = exG TB d 335 13 (a0 :: a1 :: some (.int i1) :: r9) (.int i1 :: st) A := x_nx (op := o_iload 2 1) rfl rfl
theorem x_335_13  : exG TB d 335 13 L (.int i2 :: .int i1 :: st) A = exG TB d 335 14 L (.int (i1 + i2) :: st) A := x_nx (op := o_iop (fun x y => x + y)) rfl rfl
theorem x_335_14  : exG TB d 335 14 L (.int i1 :: .ref p :: st) A = ki (rdI 0 (ga A p) i1) d 335 15 L st A := x_bd (op := o_rdI 0) rfl rfl (fun _ => rfl)
theorem x_335_15  : exG TB d 335 15 L [v] A = ck (okv 1 v) (some (.inl (some v), A)) := x_outg (op := o_ret 1) rfl rfl
theorem e_336 {j1 : Int32} {j2 : Int32} : evG TB (d + 1) 336 [.ref p, .int j1, .int j2] A = exG TB d 336 0 [some (.ref p), some (.int j1), some (.int j2)] [] A := evG_eq TB d 336 _ A
theorem x_336_0  : exG TB d 336 0 (some v :: r9) st A = rg v (exG TB d 336 1 (some v :: r9) (v :: st) A) := x_rg (op := o_aload 0 1) rfl rfl
theorem x_336_1  : exG TB d 336 1 L st A = exG TB d 336 2 L (.int (nI 0) :: st) A := x_nx (op := o_push 1 (.int 0)) rfl rfl
theorem x_336_2  : exG TB d 336 2 L (v :: .ref p :: st) A = ck ((gf A p 155).isSome && okv 1 v) (exG TB d 336 5 L st (setf A p 155 v)) := x_gd (op := o_put 155 1) rfl rfl
theorem x_336_5  : exG TB d 336 5 (some v :: r9) st A = rg v (exG TB d 336 6 (some v :: r9) (v :: st) A) := x_rg (op := o_aload 0 1) rfl rfl
theorem x_336_6  : exG TB d 336 6 (a0 :: some (.int i1) :: r9) st A = exG TB d 336 7 (a0 :: some (.int i1) :: r9) (.int i1 :: st) A := x_nx (op := o_iload 1 1) rfl rfl
theorem x_336_7  : exG TB d 336 7 L [b0, .ref p] A = kw (sel (gc A p) [(30, 326)]) [.ref p, b0] d 336 10 L [] A := x_cvb (op := o_cv [(30, 326)] 1 3 false none) rfl rfl x_noh rfl
theorem x_336_10  : exG TB d 336 10 L (.int i1 :: st) A = if ¬ i1 = nI 0 then exG TB d 336 19 L st A else exG TB d 336 13 L st A := x_if (op := o_if (fun x => decide (¬ x = 0)) 19) rfl rfl rfl
theorem x_336_13  : exG TB d 336 13 (some v :: r9) st A = rg v (exG TB d 336 14 (some v :: r9) (v :: st) A) := x_rg (op := o_aload 0 1) rfl rfl
theorem x_336_14  : exG TB d 336 14 L st A = exG TB d 336 15 L (.int (nI 1) :: st) A := x_nx (op := o_push 1 (.int 1)) rfl rfl
theorem x_336_15  : exG TB d 336 15 L [b0, .ref p] A = kw (sel (gc A p) [(30, 291)]) [.ref p, b0] d 336 18 L [] A := x_cvb (op := o_cv [(30, 291)] 1 3 false none) rfl rfl x_noh rfl
theorem x_336_18  : exG TB d 336 18 L [v] A = ck (okv 1 v) (some (.inl (some v), A)) := x_outg (op := o_ret 1) rfl rfl
theorem x_336_19  : exG TB d 336 19 (a0 :: a1 :: some (.int i1) :: r9) st A = exG TB d 336 20 (a0 :: a1 :: some (.int i1) :: r9) (.int i1 :: st) A := x_nx (op := o_iload 2 1) rfl rfl
theorem x_336_20  : exG TB d 336 20 L st A = exG TB d 336 21 L (.int (nI 1) :: st) A := x_nx (op := o_push 1 (.int 1)) rfl rfl
theorem x_336_21  : exG TB d 336 21 L st A = exG TB d 336 23 L (.int (nI 100000) :: st) A := x_nx (op := o_push 2 (.int 100000)) rfl rfl
theorem x_336_23  : exG TB d 336 23 L [b2, b1, b0] A = kc (evG TB d 293 [b0, b1, b2] A) d 336 26 L [] := x_cv (op := o_cs 293 3 false none) rfl rfl x_noh rfl
theorem x_336_26  : exG TB d 336 26 L (.int i1 :: st) A = if ¬ i1 = nI 0 then exG TB d 336 35 L st A else exG TB d 336 29 L st A := x_if (op := o_if (fun x => decide (¬ x = 0)) 35) rfl rfl rfl
theorem x_336_29  : exG TB d 336 29 (some v :: r9) st A = rg v (exG TB d 336 30 (some v :: r9) (v :: st) A) := x_rg (op := o_aload 0 1) rfl rfl
theorem x_336_30  : exG TB d 336 30 L st A = exG TB d 336 31 L (.int (nI 2) :: st) A := x_nx (op := o_push 1 (.int 2)) rfl rfl
theorem x_336_31  : exG TB d 336 31 L [b0, .ref p] A = kw (sel (gc A p) [(30, 291)]) [.ref p, b0] d 336 34 L [] A := x_cvb (op := o_cv [(30, 291)] 1 3 false none) rfl rfl x_noh rfl
theorem x_336_34  : exG TB d 336 34 L [v] A = ck (okv 1 v) (some (.inl (some v), A)) := x_outg (op := o_ret 1) rfl rfl
theorem x_336_35  : exG TB d 336 35 (some v :: r9) st A = rg v (exG TB d 336 36 (some v :: r9) (v :: st) A) := x_rg (op := o_aload 0 1) rfl rfl
theorem x_336_36  : exG TB d 336 36 (a0 :: some (.int i1) :: r9) st A = exG TB d 336 37 (a0 :: some (.int i1) :: r9) (.int i1 :: st) A := x_nx (op := o_iload 1 1) rfl rfl
theorem x_336_37  : exG TB d 336 37 L st A = exG TB d 336 38 L (.int (nI 0) :: st) A := x_nx (op := o_push 1 (.int 0)) rfl rfl
theorem x_336_38  : exG TB d 336 38 (a0 :: a1 :: some (.int i1) :: r9) st A = exG TB d 336 39 (a0 :: a1 :: some (.int i1) :: r9) (.int i1 :: st) A := x_nx (op := o_iload 2 1) rfl rfl
theorem x_336_39  : exG TB d 336 39 L [b2, b1, b0, .ref p] A = kw0 (sel (gc A p) [(30, 314)]) [.ref p, b0, b1, b2] d 336 42 L [] A := x_c0b (op := o_cv [(30, 314)] 3 3 true none) rfl rfl x_noh rfl
theorem x_336_42  : exG TB d 336 42 (some v :: r9) st A = rg v (exG TB d 336 43 (some v :: r9) (v :: st) A) := x_rg (op := o_aload 0 1) rfl rfl
theorem x_336_43  : exG TB d 336 43 (a0 :: some (.int i1) :: r9) st A = exG TB d 336 44 (a0 :: some (.int i1) :: r9) (.int i1 :: st) A := x_nx (op := o_iload 1 1) rfl rfl
theorem x_336_44  : exG TB d 336 44 L st A = exG TB d 336 45 L (.int (nI 0) :: st) A := x_nx (op := o_push 1 (.int 0)) rfl rfl
theorem x_336_45  : exG TB d 336 45 L [b1, b0, .ref p] A = kw (sel (gc A p) [(30, 335)]) [.ref p, b0, b1] d 336 48 L [] A := x_cvb (op := o_cv [(30, 335)] 2 3 false none) rfl rfl x_noh rfl
theorem x_336_48  : exG TB d 336 48 L [v] A = ck (okv 1 v) (some (.inl (some v), A)) := x_outg (op := o_ret 1) rfl rfl
theorem e_337 {j1 : Int32} {j2 : Int32} : evG TB (d + 1) 337 [.ref p, .int j1, .int j2] A = exG TB d 337 0 [some (.ref p), some (.int j1), some (.int j2)] [] A := evG_eq TB d 337 _ A
theorem x_337_0  : exG TB d 337 0 (some v :: r9) st A = rg v (exG TB d 337 1 (some v :: r9) (v :: st) A) := x_rg (op := o_aload 0 1) rfl rfl
theorem x_337_1  : exG TB d 337 1 L st A = exG TB d 337 2 L (.int (nI 0) :: st) A := x_nx (op := o_push 1 (.int 0)) rfl rfl
theorem x_337_2  : exG TB d 337 2 L (v :: .ref p :: st) A = ck ((gf A p 155).isSome && okv 1 v) (exG TB d 337 5 L st (setf A p 155 v)) := x_gd (op := o_put 155 1) rfl rfl
theorem x_337_5  : exG TB d 337 5 (some v :: r9) st A = rg v (exG TB d 337 6 (some v :: r9) (v :: st) A) := x_rg (op := o_aload 0 1) rfl rfl
theorem x_337_6  : exG TB d 337 6 (a0 :: some (.int i1) :: r9) st A = exG TB d 337 7 (a0 :: some (.int i1) :: r9) (.int i1 :: st) A := x_nx (op := o_iload 1 1) rfl rfl
theorem x_337_7  : exG TB d 337 7 L [b0, .ref p] A = kw (sel (gc A p) [(30, 338)]) [.ref p, b0] d 337 10 L [] A := x_cvb (op := o_cv [(30, 338)] 1 3 false none) rfl rfl x_noh rfl
theorem x_337_10  : exG TB d 337 10 L (.int i1 :: st) A = if ¬ i1 = nI 0 then exG TB d 337 19 L st A else exG TB d 337 13 L st A := x_if (op := o_if (fun x => decide (¬ x = 0)) 19) rfl rfl rfl
theorem x_337_13  : exG TB d 337 13 (some v :: r9) st A = rg v (exG TB d 337 14 (some v :: r9) (v :: st) A) := x_rg (op := o_aload 0 1) rfl rfl
theorem x_337_14  : exG TB d 337 14 L st A = exG TB d 337 15 L (.int (nI 1) :: st) A := x_nx (op := o_push 1 (.int 1)) rfl rfl
theorem x_337_15  : exG TB d 337 15 L [b0, .ref p] A = kw (sel (gc A p) [(30, 291)]) [.ref p, b0] d 337 18 L [] A := x_cvb (op := o_cv [(30, 291)] 1 3 false none) rfl rfl x_noh rfl
theorem x_337_18  : exG TB d 337 18 L [v] A = ck (okv 1 v) (some (.inl (some v), A)) := x_outg (op := o_ret 1) rfl rfl
theorem x_337_19  : exG TB d 337 19 (a0 :: a1 :: some (.int i1) :: r9) st A = exG TB d 337 20 (a0 :: a1 :: some (.int i1) :: r9) (.int i1 :: st) A := x_nx (op := o_iload 2 1) rfl rfl
theorem x_337_20  : exG TB d 337 20 L (.int i1 :: st) A = exG TB d 337 (swt 0 [64, 64, 64, 71, 78, 85, 91] 97 i1) L st A := x_nx (op := o_sw (swt 0 [64, 64, 64, 71, 78, 85, 91] 97)) rfl rfl
theorem x_337_64  : exG TB d 337 64 (some v :: r9) st A = rg v (exG TB d 337 65 (some v :: r9) (v :: st) A) := x_rg (op := o_aload 0 1) rfl rfl
theorem x_337_65  : exG TB d 337 65 (a0 :: some (.int i1) :: r9) st A = exG TB d 337 66 (a0 :: some (.int i1) :: r9) (.int i1 :: st) A := x_nx (op := o_iload 1 1) rfl rfl
theorem x_337_66  : exG TB d 337 66 (a0 :: a1 :: some (.int i1) :: r9) st A = exG TB d 337 67 (a0 :: a1 :: some (.int i1) :: r9) (.int i1 :: st) A := x_nx (op := o_iload 2 1) rfl rfl
theorem x_337_67  : exG TB d 337 67 L [b1, b0, .ref p] A = kw (sel (gc A p) [(30, 339)]) [.ref p, b0, b1] d 337 70 L [] A := x_cvb (op := o_cv [(30, 339)] 2 3 false none) rfl rfl x_noh rfl
theorem x_337_70  : exG TB d 337 70 L [v] A = ck (okv 1 v) (some (.inl (some v), A)) := x_outg (op := o_ret 1) rfl rfl
theorem x_337_71  : exG TB d 337 71 (some v :: r9) st A = rg v (exG TB d 337 72 (some v :: r9) (v :: st) A) := x_rg (op := o_aload 0 1) rfl rfl
theorem x_337_72  : exG TB d 337 72 (a0 :: some (.int i1) :: r9) st A = exG TB d 337 73 (a0 :: some (.int i1) :: r9) (.int i1 :: st) A := x_nx (op := o_iload 1 1) rfl rfl
theorem x_337_73  : exG TB d 337 73 L st A = exG TB d 337 74 L (.int (nI 1) :: st) A := x_nx (op := o_push 1 (.int 1)) rfl rfl
theorem x_337_74  : exG TB d 337 74 L [b1, b0, .ref p] A = kw (sel (gc A p) [(30, 340)]) [.ref p, b0, b1] d 337 77 L [] A := x_cvb (op := o_cv [(30, 340)] 2 3 false none) rfl rfl x_noh rfl
theorem x_337_77  : exG TB d 337 77 L [v] A = ck (okv 1 v) (some (.inl (some v), A)) := x_outg (op := o_ret 1) rfl rfl
theorem x_337_78  : exG TB d 337 78 (some v :: r9) st A = rg v (exG TB d 337 79 (some v :: r9) (v :: st) A) := x_rg (op := o_aload 0 1) rfl rfl
theorem x_337_79  : exG TB d 337 79 (a0 :: some (.int i1) :: r9) st A = exG TB d 337 80 (a0 :: some (.int i1) :: r9) (.int i1 :: st) A := x_nx (op := o_iload 1 1) rfl rfl
theorem x_337_80  : exG TB d 337 80 L st A = exG TB d 337 81 L (.int (nI 3) :: st) A := x_nx (op := o_push 1 (.int 3)) rfl rfl
theorem x_337_81  : exG TB d 337 81 L [b1, b0, .ref p] A = kw (sel (gc A p) [(30, 340)]) [.ref p, b0, b1] d 337 84 L [] A := x_cvb (op := o_cv [(30, 340)] 2 3 false none) rfl rfl x_noh rfl
theorem x_337_84  : exG TB d 337 84 L [v] A = ck (okv 1 v) (some (.inl (some v), A)) := x_outg (op := o_ret 1) rfl rfl
theorem x_337_85  : exG TB d 337 85 (some v :: r9) st A = rg v (exG TB d 337 86 (some v :: r9) (v :: st) A) := x_rg (op := o_aload 0 1) rfl rfl
theorem x_337_86  : exG TB d 337 86 (a0 :: some (.int i1) :: r9) st A = exG TB d 337 87 (a0 :: some (.int i1) :: r9) (.int i1 :: st) A := x_nx (op := o_iload 1 1) rfl rfl
theorem x_337_87  : exG TB d 337 87 L [b0, .ref p] A = kw (sel (gc A p) [(30, 341)]) [.ref p, b0] d 337 90 L [] A := x_cvb (op := o_cv [(30, 341)] 1 3 false none) rfl rfl x_noh rfl
theorem x_337_90  : exG TB d 337 90 L [v] A = ck (okv 1 v) (some (.inl (some v), A)) := x_outg (op := o_ret 1) rfl rfl
theorem x_337_91  : exG TB d 337 91 (some v :: r9) st A = rg v (exG TB d 337 92 (some v :: r9) (v :: st) A) := x_rg (op := o_aload 0 1) rfl rfl
theorem x_337_92  : exG TB d 337 92 (a0 :: some (.int i1) :: r9) st A = exG TB d 337 93 (a0 :: some (.int i1) :: r9) (.int i1 :: st) A := x_nx (op := o_iload 1 1) rfl rfl
theorem x_337_93  : exG TB d 337 93 L [b0, .ref p] A = kw (sel (gc A p) [(30, 342)]) [.ref p, b0] d 337 96 L [] A := x_cvb (op := o_cv [(30, 342)] 1 3 false none) rfl rfl x_noh rfl
theorem x_337_96  : exG TB d 337 96 L [v] A = ck (okv 1 v) (some (.inl (some v), A)) := x_outg (op := o_ret 1) rfl rfl
theorem x_337_97  : exG TB d 337 97 (some v :: r9) st A = rg v (exG TB d 337 98 (some v :: r9) (v :: st) A) := x_rg (op := o_aload 0 1) rfl rfl
theorem x_337_98  : exG TB d 337 98 L st A = exG TB d 337 99 L (.int (nI 2) :: st) A := x_nx (op := o_push 1 (.int 2)) rfl rfl
theorem x_337_99  : exG TB d 337 99 L [b0, .ref p] A = kw (sel (gc A p) [(30, 291)]) [.ref p, b0] d 337 102 L [] A := x_cvb (op := o_cv [(30, 291)] 1 3 false none) rfl rfl x_noh rfl
theorem x_337_102  : exG TB d 337 102 L [v] A = ck (okv 1 v) (some (.inl (some v), A)) := x_outg (op := o_ret 1) rfl rfl
theorem e_338 {j1 : Int32} : evG TB (d + 1) 338 [.ref p, .int j1] A = exG TB d 338 0 [some (.ref p), some (.int j1)] [] A := evG_eq TB d 338 _ A
theorem x_338_0  : exG TB d 338 0 (a0 :: some (.int i1) :: r9) st A = exG TB d 338 1 (a0 :: some (.int i1) :: r9) (.int i1 :: st) A := x_nx (op := o_iload 1 1) rfl rfl
theorem x_338_1  : exG TB d 338 1 L st A = exG TB d 338 2 L (.int (nI 0) :: st) A := x_nx (op := o_push 1 (.int 0)) rfl rfl
theorem x_338_2  : exG TB d 338 2 (some v :: r9) st A = rg v (exG TB d 338 3 (some v :: r9) (v :: st) A) := x_rg (op := o_aload 0 1) rfl rfl
theorem x_338_3  : exG TB d 338 3 L (.ref p :: st) A = kv (gf A p 148) d 338 6 L st A := x_bd (op := o_get 148) rfl rfl (fun _ => rfl)
theorem x_338_6  : exG TB d 338 6 L st A = exG TB d 338 8 L (.int (nI 11) :: st) A := x_nx (op := o_push 2 (.int 11)) rfl rfl
theorem x_338_8  : exG TB d 338 8 L (.int i1 :: .ref p :: st) A = ki (rdI 0 (ga A p) i1) d 338 9 L st A := x_bd (op := o_rdI 0) rfl rfl (fun _ => rfl)
theorem x_338_9  : exG TB d 338 9 L st A = exG TB d 338 10 L (.int (nI 1) :: st) A := x_nx (op := o_push 1 (.int 1)) rfl rfl
theorem x_338_10  : exG TB d 338 10 L (.int i2 :: .int i1 :: st) A = exG TB d 338 11 L (.int (i1 - i2) :: st) A := x_nx (op := o_iop (fun x y => x - y)) rfl rfl
theorem x_338_11  : exG TB d 338 11 L [b2, b1, b0] A = kc (evG TB d 293 [b0, b1, b2] A) d 338 14 L [] := x_cv (op := o_cs 293 3 false none) rfl rfl x_noh rfl
theorem x_338_14  : exG TB d 338 14 L [v] A = ck (okv 5 v) (some (.inl (some v), A)) := x_outg (op := o_ret 5) rfl rfl
theorem e_339 {j1 : Int32} {j2 : Int32} : evG TB (d + 1) 339 [.ref p, .int j1, .int j2] A = exG TB d 339 0 [some (.ref p), some (.int j1), some (.int j2)] [] A := evG_eq TB d 339 _ A
theorem x_339_0  : exG TB d 339 0 (some v :: r9) st A = rg v (exG TB d 339 1 (some v :: r9) (v :: st) A) := x_rg (op := o_aload 0 1) rfl rfl
theorem x_339_1  : exG TB d 339 1 L (.ref p :: st) A = kv (gf A p 148) d 339 4 L st A := x_bd (op := o_get 148) rfl rfl (fun _ => rfl)
theorem x_339_4  : exG TB d 339 4 L st A = exG TB d 339 7 L (.int (nI 235) :: st) A := x_nx (op := o_push 3 (.int 235)) rfl rfl
theorem x_339_7  : exG TB d 339 7 L st A = exG TB d 339 8 L (.int (nI 3) :: st) A := x_nx (op := o_push 1 (.int 3)) rfl rfl
theorem x_339_8  : exG TB d 339 8 (a0 :: some (.int i1) :: r9) st A = exG TB d 339 9 (a0 :: some (.int i1) :: r9) (.int i1 :: st) A := x_nx (op := o_iload 1 1) rfl rfl
theorem x_339_9  : exG TB d 339 9 L (.int i2 :: .int i1 :: st) A = exG TB d 339 10 L (.int (i1 * i2) :: st) A := x_nx (op := o_iop (fun x y => x * y)) rfl rfl
theorem x_339_10  : exG TB d 339 10 L (.int i2 :: .int i1 :: st) A = exG TB d 339 11 L (.int (i1 + i2) :: st) A := x_nx (op := o_iop (fun x y => x + y)) rfl rfl
theorem x_339_11  : exG TB d 339 11 (a0 :: a1 :: some (.int i1) :: r9) st A = exG TB d 339 12 (a0 :: a1 :: some (.int i1) :: r9) (.int i1 :: st) A := x_nx (op := o_iload 2 1) rfl rfl
theorem x_339_12  : exG TB d 339 12 L (.int i2 :: .int i1 :: st) A = exG TB d 339 13 L (.int (i1 + i2) :: st) A := x_nx (op := o_iop (fun x y => x + y)) rfl rfl
theorem x_339_13  : exG TB d 339 13 L (.int i1 :: .ref p :: st) A = ki (rdI 0 (ga A p) i1) d 339 14 L st A := x_bd (op := o_rdI 0) rfl rfl (fun _ => rfl)
theorem x_339_14  : exG TB d 339 14 L [v] A = ck (okv 1 v) (some (.inl (some v), A)) := x_outg (op := o_ret 1) rfl rfl
theorem e_340 {j1 : Int32} {j2 : Int32} : evG TB (d + 1) 340 [.ref p, .int j1, .int j2] A = exG TB d 340 0 [some (.ref p), some (.int j1), some (.int j2), none, none] [] A := evG_eq TB d 340 _ A
theorem x_340_0  : exG TB d 340 0 L st A = exG TB d 340 1 L (.int (nI 0) :: st) A := x_nx (op := o_push 1 (.int 0)) rfl rfl
theorem x_340_1  : exG TB d 340 1 (a0 :: a1 :: a2 :: a3 :: r9) (.int i1 :: st) A = exG TB d 340 2 (a0 :: a1 :: a2 :: some (.int i1) :: r9) st A := x_nx (op := o_istore 3 1) rfl rfl
theorem x_340_2  : exG TB d 340 2 L st A = exG TB d 340 3 L (.int (nI 0) :: st) A := x_nx (op := o_push 1 (.int 0)) rfl rfl
theorem x_340_3  : exG TB d 340 3 (a0 :: a1 :: a2 :: a3 :: a4 :: r9) (.int i1 :: st) A = exG TB d 340 5 (a0 :: a1 :: a2 :: a3 :: some (.int i1) :: r9) st A := x_nx (op := o_istore 4 2) rfl rfl
theorem x_340_5  : exG TB d 340 5 (a0 :: a1 :: a2 :: a3 :: some (.int i1) :: r9) st A = exG TB d 340 7 (a0 :: a1 :: a2 :: a3 :: some (.int i1) :: r9) (.int i1 :: st) A := x_nx (op := o_iload 4 2) rfl rfl
theorem x_340_7  : exG TB d 340 7 (some v :: r9) st A = rg v (exG TB d 340 8 (some v :: r9) (v :: st) A) := x_rg (op := o_aload 0 1) rfl rfl
theorem x_340_8  : exG TB d 340 8 L (.ref p :: st) A = kv (gf A p 148) d 340 11 L st A := x_bd (op := o_get 148) rfl rfl (fun _ => rfl)
theorem x_340_11  : exG TB d 340 11 L st A = exG TB d 340 13 L (.int (nI 12) :: st) A := x_nx (op := o_push 2 (.int 12)) rfl rfl
theorem x_340_13  : exG TB d 340 13 L (.int i1 :: .ref p :: st) A = ki (rdI 0 (ga A p) i1) d 340 14 L st A := x_bd (op := o_rdI 0) rfl rfl (fun _ => rfl)
theorem x_340_14  : exG TB d 340 14 L (.int i2 :: .int i1 :: st) A = if i2 ≤ i1 then exG TB d 340 53 L st A else exG TB d 340 17 L st A := x_if (op := o_icmp (fun x y => decide (y ≤ x)) 53) rfl rfl rfl
theorem x_340_17  : exG TB d 340 17 (a0 :: a1 :: a2 :: some (.int i1) :: r9) st A = exG TB d 340 18 (a0 :: a1 :: a2 :: some (.int i1) :: r9) (.int i1 :: st) A := x_nx (op := o_iload 3 1) rfl rfl
theorem x_340_18  : exG TB d 340 18 (some v :: r9) st A = rg v (exG TB d 340 19 (some v :: r9) (v :: st) A) := x_rg (op := o_aload 0 1) rfl rfl
theorem x_340_19  : exG TB d 340 19 (a0 :: a1 :: a2 :: a3 :: some (.int i1) :: r9) st A = exG TB d 340 21 (a0 :: a1 :: a2 :: a3 :: some (.int i1) :: r9) (.int i1 :: st) A := x_nx (op := o_iload 4 2) rfl rfl
theorem x_340_21  : exG TB d 340 21 L st A = exG TB d 340 22 L (.int (nI 0) :: st) A := x_nx (op := o_push 1 (.int 0)) rfl rfl
theorem x_340_22  : exG TB d 340 22 L [b1, b0, .ref p, w0] A = kw (sel (gc A p) [(30, 331)]) [.ref p, b0, b1] d 340 25 L [w0] A := x_cvb (op := o_cv [(30, 331)] 2 3 false none) rfl rfl x_noh rfl
theorem x_340_25  : exG TB d 340 25 (a0 :: some (.int i1) :: r9) st A = exG TB d 340 26 (a0 :: some (.int i1) :: r9) (.int i1 :: st) A := x_nx (op := o_iload 1 1) rfl rfl
theorem x_340_26  : exG TB d 340 26 L (.int i2 :: .int i1 :: st) A = if ¬ i1 = i2 then exG TB d 340 44 L st A else exG TB d 340 29 L st A := x_if (op := o_icmp (fun x y => decide (¬ x = y)) 44) rfl rfl rfl
theorem x_340_29  : exG TB d 340 29 (some v :: r9) st A = rg v (exG TB d 340 30 (some v :: r9) (v :: st) A) := x_rg (op := o_aload 0 1) rfl rfl
theorem x_340_30  : exG TB d 340 30 (a0 :: a1 :: a2 :: a3 :: some (.int i1) :: r9) st A = exG TB d 340 32 (a0 :: a1 :: a2 :: a3 :: some (.int i1) :: r9) (.int i1 :: st) A := x_nx (op := o_iload 4 2) rfl rfl
theorem x_340_32  : exG TB d 340 32 L st A = exG TB d 340 33 L (.int (nI 5) :: st) A := x_nx (op := o_push 1 (.int 5)) rfl rfl
theorem x_340_33  : exG TB d 340 33 L [b1, b0, .ref p, w0] A = kw (sel (gc A p) [(30, 331)]) [.ref p, b0, b1] d 340 36 L [w0] A := x_cvb (op := o_cv [(30, 331)] 2 3 false none) rfl rfl x_noh rfl
theorem x_340_36  : exG TB d 340 36 (a0 :: a1 :: some (.int i1) :: r9) st A = exG TB d 340 37 (a0 :: a1 :: some (.int i1) :: r9) (.int i1 :: st) A := x_nx (op := o_iload 2 1) rfl rfl
theorem x_340_37  : exG TB d 340 37 L (.int i2 :: .int i1 :: st) A = if ¬ i1 = i2 then exG TB d 340 44 L st A else exG TB d 340 40 L st A := x_if (op := o_icmp (fun x y => decide (¬ x = y)) 44) rfl rfl rfl
theorem x_340_40  : exG TB d 340 40 L st A = exG TB d 340 41 L (.int (nI 1) :: st) A := x_nx (op := o_push 1 (.int 1)) rfl rfl
theorem x_340_41  : exG TB d 340 41 L st A = exG TB d 340 45 L st A := x_nx (op := o_goto 45) rfl rfl
theorem x_340_44  : exG TB d 340 44 L st A = exG TB d 340 45 L (.int (nI 0) :: st) A := x_nx (op := o_push 1 (.int 0)) rfl rfl
theorem x_340_45  : exG TB d 340 45 L (.int i2 :: .int i1 :: st) A = exG TB d 340 46 L (.int (i1 + i2) :: st) A := x_nx (op := o_iop (fun x y => x + y)) rfl rfl
theorem x_340_46  : exG TB d 340 46 (a0 :: a1 :: a2 :: a3 :: r9) (.int i1 :: st) A = exG TB d 340 47 (a0 :: a1 :: a2 :: some (.int i1) :: r9) st A := x_nx (op := o_istore 3 1) rfl rfl
theorem x_340_47  : exG TB d 340 47 (a0 :: a1 :: a2 :: a3 :: some (.int i1) :: r9) st A = exG TB d 340 50 (a0 :: a1 :: a2 :: a3 :: some (.int (i1 + (nI 1))) :: r9) st A := x_nx (op := o_iinc 4 1) rfl rfl
theorem x_340_50  : exG TB d 340 50 L st A = exG TB d 340 5 L st A := x_nx (op := o_goto 5) rfl rfl
theorem x_340_53  : exG TB d 340 53 (a0 :: a1 :: a2 :: some (.int i1) :: r9) st A = exG TB d 340 54 (a0 :: a1 :: a2 :: some (.int i1) :: r9) (.int i1 :: st) A := x_nx (op := o_iload 3 1) rfl rfl
theorem x_340_54  : exG TB d 340 54 L [v] A = ck (okv 1 v) (some (.inl (some v), A)) := x_outg (op := o_ret 1) rfl rfl
theorem e_341 {j1 : Int32} : evG TB (d + 1) 341 [.ref p, .int j1] A = exG TB d 341 0 [some (.ref p), some (.int j1), none, none, none] [] A := evG_eq TB d 341 _ A
theorem x_341_0  : exG TB d 341 0 L st A = exG TB d 341 1 L (.int nN :: st) A := x_nx (op := o_push 1 (.int (-1))) rfl rfl
theorem x_341_1  : exG TB d 341 1 (a0 :: a1 :: a2 :: r9) (.int i1 :: st) A = exG TB d 341 2 (a0 :: a1 :: some (.int i1) :: r9) st A := x_nx (op := o_istore 2 1) rfl rfl
theorem x_341_2  : exG TB d 341 2 L st A = exG TB d 341 3 L (.int (nI 0) :: st) A := x_nx (op := o_push 1 (.int 0)) rfl rfl
theorem x_341_3  : exG TB d 341 3 (a0 :: a1 :: a2 :: a3 :: r9) (.int i1 :: st) A = exG TB d 341 4 (a0 :: a1 :: a2 :: some (.int i1) :: r9) st A := x_nx (op := o_istore 3 1) rfl rfl
theorem x_341_4  : exG TB d 341 4 (a0 :: a1 :: a2 :: some (.int i1) :: r9) st A = exG TB d 341 5 (a0 :: a1 :: a2 :: some (.int i1) :: r9) (.int i1 :: st) A := x_nx (op := o_iload 3 1) rfl rfl
theorem x_341_5  : exG TB d 341 5 (some v :: r9) st A = rg v (exG TB d 341 6 (some v :: r9) (v :: st) A) := x_rg (op := o_aload 0 1) rfl rfl
theorem x_341_6  : exG TB d 341 6 L (.ref p :: st) A = kv (gf A p 148) d 341 9 L st A := x_bd (op := o_get 148) rfl rfl (fun _ => rfl)
theorem x_341_9  : exG TB d 341 9 L st A = exG TB d 341 11 L (.int (nI 12) :: st) A := x_nx (op := o_push 2 (.int 12)) rfl rfl
theorem x_341_11  : exG TB d 341 11 L (.int i1 :: .ref p :: st) A = ki (rdI 0 (ga A p) i1) d 341 12 L st A := x_bd (op := o_rdI 0) rfl rfl (fun _ => rfl)
theorem x_341_12  : exG TB d 341 12 L (.int i2 :: .int i1 :: st) A = if i2 ≤ i1 then exG TB d 341 68 L st A else exG TB d 341 15 L st A := x_if (op := o_icmp (fun x y => decide (y ≤ x)) 68) rfl rfl rfl
theorem x_341_15  : exG TB d 341 15 (some v :: r9) st A = rg v (exG TB d 341 16 (some v :: r9) (v :: st) A) := x_rg (op := o_aload 0 1) rfl rfl
theorem x_341_16  : exG TB d 341 16 (a0 :: a1 :: a2 :: some (.int i1) :: r9) st A = exG TB d 341 17 (a0 :: a1 :: a2 :: some (.int i1) :: r9) (.int i1 :: st) A := x_nx (op := o_iload 3 1) rfl rfl
theorem x_341_17  : exG TB d 341 17 L st A = exG TB d 341 18 L (.int (nI 0) :: st) A := x_nx (op := o_push 1 (.int 0)) rfl rfl
theorem x_341_18  : exG TB d 341 18 L [b1, b0, .ref p] A = kw (sel (gc A p) [(30, 331)]) [.ref p, b0, b1] d 341 21 L [] A := x_cvb (op := o_cv [(30, 331)] 2 3 false none) rfl rfl x_noh rfl
theorem x_341_21  : exG TB d 341 21 (a0 :: some (.int i1) :: r9) st A = exG TB d 341 22 (a0 :: some (.int i1) :: r9) (.int i1 :: st) A := x_nx (op := o_iload 1 1) rfl rfl
theorem x_341_22  : exG TB d 341 22 L (.int i2 :: .int i1 :: st) A = if ¬ i1 = i2 then exG TB d 341 39 L st A else exG TB d 341 25 L st A := x_if (op := o_icmp (fun x y => decide (¬ x = y)) 39) rfl rfl rfl
theorem x_341_25  : exG TB d 341 25 (some v :: r9) st A = rg v (exG TB d 341 26 (some v :: r9) (v :: st) A) := x_rg (op := o_aload 0 1) rfl rfl
theorem x_341_26  : exG TB d 341 26 (a0 :: a1 :: a2 :: some (.int i1) :: r9) st A = exG TB d 341 27 (a0 :: a1 :: a2 :: some (.int i1) :: r9) (.int i1 :: st) A := x_nx (op := o_iload 3 1) rfl rfl
theorem x_341_27  : exG TB d 341 27 L st A = exG TB d 341 28 L (.int (nI 5) :: st) A := x_nx (op := o_push 1 (.int 5)) rfl rfl
theorem x_341_28  : exG TB d 341 28 L [b1, b0, .ref p] A = kw (sel (gc A p) [(30, 331)]) [.ref p, b0, b1] d 341 31 L [] A := x_cvb (op := o_cv [(30, 331)] 2 3 false none) rfl rfl x_noh rfl
theorem x_341_31  : exG TB d 341 31 L st A = exG TB d 341 32 L (.int (nI 3) :: st) A := x_nx (op := o_push 1 (.int 3)) rfl rfl
theorem x_341_32  : exG TB d 341 32 L (.int i2 :: .int i1 :: st) A = if ¬ i1 = i2 then exG TB d 341 39 L st A else exG TB d 341 35 L st A := x_if (op := o_icmp (fun x y => decide (¬ x = y)) 39) rfl rfl rfl
theorem x_341_35  : exG TB d 341 35 L st A = exG TB d 341 36 L (.int (nI 1) :: st) A := x_nx (op := o_push 1 (.int 1)) rfl rfl
theorem x_341_36  : exG TB d 341 36 L st A = exG TB d 341 40 L st A := x_nx (op := o_goto 40) rfl rfl
theorem x_341_39  : exG TB d 341 39 L st A = exG TB d 341 40 L (.int (nI 0) :: st) A := x_nx (op := o_push 1 (.int 0)) rfl rfl
theorem x_341_40  : exG TB d 341 40 (a0 :: a1 :: a2 :: a3 :: a4 :: r9) (.int i1 :: st) A = exG TB d 341 42 (a0 :: a1 :: a2 :: a3 :: some (.int i1) :: r9) st A := x_nx (op := o_istore 4 2) rfl rfl
theorem x_341_42  : exG TB d 341 42 (a0 :: a1 :: a2 :: a3 :: some (.int i1) :: r9) st A = exG TB d 341 44 (a0 :: a1 :: a2 :: a3 :: some (.int i1) :: r9) (.int i1 :: st) A := x_nx (op := o_iload 4 2) rfl rfl
theorem x_341_44  : exG TB d 341 44 L (.int i1 :: st) A = if i1 = nI 0 then exG TB d 341 60 L st A else exG TB d 341 47 L st A := x_if (op := o_if (fun x => decide (x = 0)) 60) rfl rfl rfl
theorem x_341_47  : exG TB d 341 47 (a0 :: a1 :: some (.int i1) :: r9) st A = exG TB d 341 48 (a0 :: a1 :: some (.int i1) :: r9) (.int i1 :: st) A := x_nx (op := o_iload 2 1) rfl rfl
theorem x_341_48  : exG TB d 341 48 (some v :: r9) st A = rg v (exG TB d 341 49 (some v :: r9) (v :: st) A) := x_rg (op := o_aload 0 1) rfl rfl
theorem x_341_49  : exG TB d 341 49 (a0 :: a1 :: a2 :: some (.int i1) :: r9) st A = exG TB d 341 50 (a0 :: a1 :: a2 :: some (.int i1) :: r9) (.int i1 :: st) A := x_nx (op := o_iload 3 1) rfl rfl
theorem x_341_50  : exG TB d 341 50 L st A = exG TB d 341 51 L (.int (nI 2) :: st) A := x_nx (op := o_push 1 (.int 2)) rfl rfl
theorem x_341_51  : exG TB d 341 51 L [b1, b0, .ref p, w0] A = kw (sel (gc A p) [(30, 331)]) [.ref p, b0, b1] d 341 54 L [w0] A := x_cvb (op := o_cv [(30, 331)] 2 3 false none) rfl rfl x_noh rfl
theorem x_341_54  : exG TB d 341 54 L [b1, b0] A = kc (evG TB d 6 [b0, b1] A) d 341 57 L [] := x_cv (op := o_cs 6 2 false none) rfl rfl x_noh rfl
theorem x_341_57  : exG TB d 341 57 L st A = exG TB d 341 61 L st A := x_nx (op := o_goto 61) rfl rfl
theorem x_341_60  : exG TB d 341 60 (a0 :: a1 :: some (.int i1) :: r9) st A = exG TB d 341 61 (a0 :: a1 :: some (.int i1) :: r9) (.int i1 :: st) A := x_nx (op := o_iload 2 1) rfl rfl
theorem x_341_61  : exG TB d 341 61 (a0 :: a1 :: a2 :: r9) (.int i1 :: st) A = exG TB d 341 62 (a0 :: a1 :: some (.int i1) :: r9) st A := x_nx (op := o_istore 2 1) rfl rfl
theorem x_341_62  : exG TB d 341 62 (a0 :: a1 :: a2 :: some (.int i1) :: r9) st A = exG TB d 341 65 (a0 :: a1 :: a2 :: some (.int (i1 + (nI 1))) :: r9) st A := x_nx (op := o_iinc 3 1) rfl rfl
theorem x_341_65  : exG TB d 341 65 L st A = exG TB d 341 4 L st A := x_nx (op := o_goto 4) rfl rfl
theorem x_341_68  : exG TB d 341 68 (a0 :: a1 :: some (.int i1) :: r9) st A = exG TB d 341 69 (a0 :: a1 :: some (.int i1) :: r9) (.int i1 :: st) A := x_nx (op := o_iload 2 1) rfl rfl
theorem x_341_69  : exG TB d 341 69 L [v] A = ck (okv 1 v) (some (.inl (some v), A)) := x_outg (op := o_ret 1) rfl rfl
theorem e_342 {j1 : Int32} : evG TB (d + 1) 342 [.ref p, .int j1] A = exG TB d 342 0 [some (.ref p), some (.int j1), none, none] [] A := evG_eq TB d 342 _ A
theorem x_342_0  : exG TB d 342 0 L st A = exG TB d 342 1 L (.int (nI 0) :: st) A := x_nx (op := o_push 1 (.int 0)) rfl rfl
theorem x_342_1  : exG TB d 342 1 (a0 :: a1 :: a2 :: r9) (.int i1 :: st) A = exG TB d 342 2 (a0 :: a1 :: some (.int i1) :: r9) st A := x_nx (op := o_istore 2 1) rfl rfl
theorem x_342_2  : exG TB d 342 2 L st A = exG TB d 342 3 L (.int (nI 0) :: st) A := x_nx (op := o_push 1 (.int 0)) rfl rfl
theorem x_342_3  : exG TB d 342 3 (a0 :: a1 :: a2 :: a3 :: r9) (.int i1 :: st) A = exG TB d 342 4 (a0 :: a1 :: a2 :: some (.int i1) :: r9) st A := x_nx (op := o_istore 3 1) rfl rfl
theorem x_342_4  : exG TB d 342 4 (a0 :: a1 :: a2 :: some (.int i1) :: r9) st A = exG TB d 342 5 (a0 :: a1 :: a2 :: some (.int i1) :: r9) (.int i1 :: st) A := x_nx (op := o_iload 3 1) rfl rfl
theorem x_342_5  : exG TB d 342 5 (some v :: r9) st A = rg v (exG TB d 342 6 (some v :: r9) (v :: st) A) := x_rg (op := o_aload 0 1) rfl rfl
theorem x_342_6  : exG TB d 342 6 L (.ref p :: st) A = kv (gf A p 148) d 342 9 L st A := x_bd (op := o_get 148) rfl rfl (fun _ => rfl)
theorem x_342_9  : exG TB d 342 9 L st A = exG TB d 342 11 L (.int (nI 13) :: st) A := x_nx (op := o_push 2 (.int 13)) rfl rfl
theorem x_342_11  : exG TB d 342 11 L (.int i1 :: .ref p :: st) A = ki (rdI 0 (ga A p) i1) d 342 12 L st A := x_bd (op := o_rdI 0) rfl rfl (fun _ => rfl)
theorem x_342_12  : exG TB d 342 12 L (.int i2 :: .int i1 :: st) A = if i2 ≤ i1 then exG TB d 342 39 L st A else exG TB d 342 15 L st A := x_if (op := o_icmp (fun x y => decide (y ≤ x)) 39) rfl rfl rfl
theorem x_342_15  : exG TB d 342 15 (a0 :: a1 :: some (.int i1) :: r9) st A = exG TB d 342 16 (a0 :: a1 :: some (.int i1) :: r9) (.int i1 :: st) A := x_nx (op := o_iload 2 1) rfl rfl
theorem x_342_16  : exG TB d 342 16 (some v :: r9) st A = rg v (exG TB d 342 17 (some v :: r9) (v :: st) A) := x_rg (op := o_aload 0 1) rfl rfl
theorem x_342_17  : exG TB d 342 17 (a0 :: a1 :: a2 :: some (.int i1) :: r9) st A = exG TB d 342 18 (a0 :: a1 :: a2 :: some (.int i1) :: r9) (.int i1 :: st) A := x_nx (op := o_iload 3 1) rfl rfl
theorem x_342_18  : exG TB d 342 18 L st A = exG TB d 342 19 L (.int (nI 0) :: st) A := x_nx (op := o_push 1 (.int 0)) rfl rfl
theorem x_342_19  : exG TB d 342 19 L [b1, b0, .ref p, w0] A = kw (sel (gc A p) [(30, 333)]) [.ref p, b0, b1] d 342 22 L [w0] A := x_cvb (op := o_cv [(30, 333)] 2 3 false none) rfl rfl x_noh rfl
theorem x_342_22  : exG TB d 342 22 (a0 :: some (.int i1) :: r9) st A = exG TB d 342 23 (a0 :: some (.int i1) :: r9) (.int i1 :: st) A := x_nx (op := o_iload 1 1) rfl rfl
theorem x_342_23  : exG TB d 342 23 L (.int i2 :: .int i1 :: st) A = if ¬ i1 = i2 then exG TB d 342 30 L st A else exG TB d 342 26 L st A := x_if (op := o_icmp (fun x y => decide (¬ x = y)) 30) rfl rfl rfl
theorem x_342_26  : exG TB d 342 26 L st A = exG TB d 342 27 L (.int (nI 1) :: st) A := x_nx (op := o_push 1 (.int 1)) rfl rfl
theorem x_342_27  : exG TB d 342 27 L st A = exG TB d 342 31 L st A := x_nx (op := o_goto 31) rfl rfl
theorem x_342_30  : exG TB d 342 30 L st A = exG TB d 342 31 L (.int (nI 0) :: st) A := x_nx (op := o_push 1 (.int 0)) rfl rfl
theorem x_342_31  : exG TB d 342 31 L (.int i2 :: .int i1 :: st) A = exG TB d 342 32 L (.int (i1 + i2) :: st) A := x_nx (op := o_iop (fun x y => x + y)) rfl rfl
theorem x_342_32  : exG TB d 342 32 (a0 :: a1 :: a2 :: r9) (.int i1 :: st) A = exG TB d 342 33 (a0 :: a1 :: some (.int i1) :: r9) st A := x_nx (op := o_istore 2 1) rfl rfl
theorem x_342_33  : exG TB d 342 33 (a0 :: a1 :: a2 :: some (.int i1) :: r9) st A = exG TB d 342 36 (a0 :: a1 :: a2 :: some (.int (i1 + (nI 1))) :: r9) st A := x_nx (op := o_iinc 3 1) rfl rfl
theorem x_342_36  : exG TB d 342 36 L st A = exG TB d 342 4 L st A := x_nx (op := o_goto 4) rfl rfl
theorem x_342_39  : exG TB d 342 39 (a0 :: a1 :: some (.int i1) :: r9) st A = exG TB d 342 40 (a0 :: a1 :: some (.int i1) :: r9) (.int i1 :: st) A := x_nx (op := o_iload 2 1) rfl rfl
theorem x_342_40  : exG TB d 342 40 L [v] A = ck (okv 1 v) (some (.inl (some v), A)) := x_outg (op := o_ret 1) rfl rfl
theorem e_343 {j1 : Int32} {j2 : Int32} : evG TB (d + 1) 343 [.ref p, .int j1, .int j2] A = exG TB d 343 0 [some (.ref p), some (.int j1), some (.int j2), none] [] A := evG_eq TB d 343 _ A
theorem x_343_0  : exG TB d 343 0 (some v :: r9) st A = rg v (exG TB d 343 1 (some v :: r9) (v :: st) A) := x_rg (op := o_aload 0 1) rfl rfl
theorem x_343_1  : exG TB d 343 1 L st A = exG TB d 343 2 L (.int (nI 0) :: st) A := x_nx (op := o_push 1 (.int 0)) rfl rfl
theorem x_343_2  : exG TB d 343 2 L (v :: .ref p :: st) A = ck ((gf A p 155).isSome && okv 1 v) (exG TB d 343 5 L st (setf A p 155 v)) := x_gd (op := o_put 155 1) rfl rfl
theorem x_343_5  : exG TB d 343 5 (some v :: r9) st A = rg v (exG TB d 343 6 (some v :: r9) (v :: st) A) := x_rg (op := o_aload 0 1) rfl rfl
theorem x_343_6  : exG TB d 343 6 (a0 :: some (.int i1) :: r9) st A = exG TB d 343 7 (a0 :: some (.int i1) :: r9) (.int i1 :: st) A := x_nx (op := o_iload 1 1) rfl rfl
theorem x_343_7  : exG TB d 343 7 L [b0, .ref p] A = kw (sel (gc A p) [(30, 338)]) [.ref p, b0] d 343 10 L [] A := x_cvb (op := o_cv [(30, 338)] 1 3 false none) rfl rfl x_noh rfl
theorem x_343_10  : exG TB d 343 10 L (.int i1 :: st) A = if i1 = nI 0 then exG TB d 343 26 L st A else exG TB d 343 13 L st A := x_if (op := o_if (fun x => decide (x = 0)) 26) rfl rfl rfl
theorem x_343_13  : exG TB d 343 13 (a0 :: a1 :: some (.int i1) :: r9) st A = exG TB d 343 14 (a0 :: a1 :: some (.int i1) :: r9) (.int i1 :: st) A := x_nx (op := o_iload 2 1) rfl rfl
theorem x_343_14  : exG TB d 343 14 L st A = exG TB d 343 15 L (.int nN :: st) A := x_nx (op := o_push 1 (.int (-1))) rfl rfl
theorem x_343_15  : exG TB d 343 15 L (.int i2 :: .int i1 :: st) A = if i1 = i2 then exG TB d 343 32 L st A else exG TB d 343 18 L st A := x_if (op := o_icmp (fun x y => decide (x = y)) 32) rfl rfl rfl
theorem x_343_18  : exG TB d 343 18 (some v :: r9) st A = rg v (exG TB d 343 19 (some v :: r9) (v :: st) A) := x_rg (op := o_aload 0 1) rfl rfl
theorem x_343_19  : exG TB d 343 19 (a0 :: a1 :: some (.int i1) :: r9) st A = exG TB d 343 20 (a0 :: a1 :: some (.int i1) :: r9) (.int i1 :: st) A := x_nx (op := o_iload 2 1) rfl rfl
theorem x_343_20  : exG TB d 343 20 L [b0, .ref p] A = kw (sel (gc A p) [(30, 326)]) [.ref p, b0] d 343 23 L [] A := x_cvb (op := o_cv [(30, 326)] 1 3 false none) rfl rfl x_noh rfl
theorem x_343_23  : exG TB d 343 23 L (.int i1 :: st) A = if ¬ i1 = nI 0 then exG TB d 343 32 L st A else exG TB d 343 26 L st A := x_if (op := o_if (fun x => decide (¬ x = 0)) 32) rfl rfl rfl
theorem x_343_26  : exG TB d 343 26 (some v :: r9) st A = rg v (exG TB d 343 27 (some v :: r9) (v :: st) A) := x_rg (op := o_aload 0 1) rfl rfl
theorem x_343_27  : exG TB d 343 27 L st A = exG TB d 343 28 L (.int (nI 1) :: st) A := x_nx (op := o_push 1 (.int 1)) rfl rfl
theorem x_343_28  : exG TB d 343 28 L [b0, .ref p] A = kw (sel (gc A p) [(30, 291)]) [.ref p, b0] d 343 31 L [] A := x_cvb (op := o_cv [(30, 291)] 1 3 false none) rfl rfl x_noh rfl
theorem x_343_31  : exG TB d 343 31 L [v] A = ck (okv 1 v) (some (.inl (some v), A)) := x_outg (op := o_ret 1) rfl rfl
theorem x_343_32  : exG TB d 343 32 (some v :: r9) st A = rg v (exG TB d 343 33 (some v :: r9) (v :: st) A) := x_rg (op := o_aload 0 1) rfl rfl
theorem x_343_33  : exG TB d 343 33 (a0 :: some (.int i1) :: r9) st A = exG TB d 343 34 (a0 :: some (.int i1) :: r9) (.int i1 :: st) A := x_nx (op := o_iload 1 1) rfl rfl
theorem x_343_34  : exG TB d 343 34 L st A = exG TB d 343 35 L (.int (nI 1) :: st) A := x_nx (op := o_push 1 (.int 1)) rfl rfl
theorem x_343_35  : exG TB d 343 35 L [b1, b0, .ref p] A = kw (sel (gc A p) [(30, 339)]) [.ref p, b0, b1] d 343 38 L [] A := x_cvb (op := o_cv [(30, 339)] 2 3 false none) rfl rfl x_noh rfl
theorem x_343_38  : exG TB d 343 38 (a0 :: a1 :: a2 :: a3 :: r9) (.int i1 :: st) A = exG TB d 343 39 (a0 :: a1 :: a2 :: some (.int i1) :: r9) st A := x_nx (op := o_istore 3 1) rfl rfl
theorem x_343_39  : exG TB d 343 39 (some v :: r9) st A = rg v (exG TB d 343 40 (some v :: r9) (v :: st) A) := x_rg (op := o_aload 0 1) rfl rfl
theorem x_343_40  : exG TB d 343 40 L (.ref p :: st) A = kv (gf A p 148) d 343 43 L st A := x_bd (op := o_get 148) rfl rfl (fun _ => rfl)
theorem x_343_43  : exG TB d 343 43 L st A = exG TB d 343 46 L (.int (nI 235) :: st) A := x_nx (op := o_push 3 (.int 235)) rfl rfl
theorem x_343_46  : exG TB d 343 46 L st A = exG TB d 343 47 L (.int (nI 3) :: st) A := x_nx (op := o_push 1 (.int 3)) rfl rfl
theorem x_343_47  : exG TB d 343 47 (a0 :: some (.int i1) :: r9) st A = exG TB d 343 48 (a0 :: some (.int i1) :: r9) (.int i1 :: st) A := x_nx (op := o_iload 1 1) rfl rfl
theorem x_343_48  : exG TB d 343 48 L (.int i2 :: .int i1 :: st) A = exG TB d 343 49 L (.int (i1 * i2) :: st) A := x_nx (op := o_iop (fun x y => x * y)) rfl rfl
theorem x_343_49  : exG TB d 343 49 L (.int i2 :: .int i1 :: st) A = exG TB d 343 50 L (.int (i1 + i2) :: st) A := x_nx (op := o_iop (fun x y => x + y)) rfl rfl
theorem x_343_50  : exG TB d 343 50 L st A = exG TB d 343 51 L (.int (nI 1) :: st) A := x_nx (op := o_push 1 (.int 1)) rfl rfl
theorem x_343_51  : exG TB d 343 51 L (.int i2 :: .int i1 :: st) A = exG TB d 343 52 L (.int (i1 + i2) :: st) A := x_nx (op := o_iop (fun x y => x + y)) rfl rfl
theorem x_343_52  : exG TB d 343 52 (a0 :: a1 :: some (.int i1) :: r9) st A = exG TB d 343 53 (a0 :: a1 :: some (.int i1) :: r9) (.int i1 :: st) A := x_nx (op := o_iload 2 1) rfl rfl
theorem x_343_53  : exG TB d 343 53 L (.int i2 :: .int i1 :: .ref p :: st) A = ka (wrI 0 (ga A p) i1 i2) p d 343 54 L st A := x_bd (op := o_wrI 0) rfl rfl (fun _ => rfl)
theorem x_343_54  : exG TB d 343 54 (a0 :: a1 :: a2 :: some (.int i1) :: r9) st A = exG TB d 343 55 (a0 :: a1 :: a2 :: some (.int i1) :: r9) (.int i1 :: st) A := x_nx (op := o_iload 3 1) rfl rfl
theorem x_343_55  : exG TB d 343 55 L [v] A = ck (okv 1 v) (some (.inl (some v), A)) := x_outg (op := o_ret 1) rfl rfl
theorem e_344 {j1 : Int32} {j2 : Int32} {j3 : Int32} {j4 : Int32} : evG TB (d + 1) 344 [.ref p, .int j1, .int j2, .int j3, .int j4] A = exG TB d 344 0 [some (.ref p), some (.int j1), some (.int j2), some (.int j3), some (.int j4)] [] A := evG_eq TB d 344 _ A
theorem x_344_0  : exG TB d 344 0 (some v :: r9) st A = rg v (exG TB d 344 1 (some v :: r9) (v :: st) A) := x_rg (op := o_aload 0 1) rfl rfl
theorem x_344_1  : exG TB d 344 1 L st A = exG TB d 344 2 L (.int (nI 0) :: st) A := x_nx (op := o_push 1 (.int 0)) rfl rfl
theorem x_344_2  : exG TB d 344 2 L (v :: .ref p :: st) A = ck ((gf A p 155).isSome && okv 1 v) (exG TB d 344 5 L st (setf A p 155 v)) := x_gd (op := o_put 155 1) rfl rfl
theorem x_344_5  : exG TB d 344 5 (some v :: r9) st A = rg v (exG TB d 344 6 (some v :: r9) (v :: st) A) := x_rg (op := o_aload 0 1) rfl rfl
theorem x_344_6  : exG TB d 344 6 (a0 :: some (.int i1) :: r9) st A = exG TB d 344 7 (a0 :: some (.int i1) :: r9) (.int i1 :: st) A := x_nx (op := o_iload 1 1) rfl rfl
theorem x_344_7  : exG TB d 344 7 L [b0, .ref p] A = kw (sel (gc A p) [(30, 323)]) [.ref p, b0] d 344 10 L [] A := x_cvb (op := o_cv [(30, 323)] 1 3 false none) rfl rfl x_noh rfl
theorem x_344_10  : exG TB d 344 10 L (.int i1 :: st) A = if i1 = nI 0 then exG TB d 344 21 L st A else exG TB d 344 13 L st A := x_if (op := o_if (fun x => decide (x = 0)) 21) rfl rfl rfl
theorem x_344_13  : exG TB d 344 13 (some v :: r9) st A = rg v (exG TB d 344 14 (some v :: r9) (v :: st) A) := x_rg (op := o_aload 0 1) rfl rfl
theorem x_344_14  : exG TB d 344 14 (a0 :: a1 :: some (.int i1) :: r9) st A = exG TB d 344 15 (a0 :: a1 :: some (.int i1) :: r9) (.int i1 :: st) A := x_nx (op := o_iload 2 1) rfl rfl
theorem x_344_15  : exG TB d 344 15 L [b0, .ref p] A = kw (sel (gc A p) [(30, 323)]) [.ref p, b0] d 344 18 L [] A := x_cvb (op := o_cv [(30, 323)] 1 3 false none) rfl rfl x_noh rfl
theorem x_344_18  : exG TB d 344 18 L (.int i1 :: st) A = if ¬ i1 = nI 0 then exG TB d 344 27 L st A else exG TB d 344 21 L st A := x_if (op := o_if (fun x => decide (¬ x = 0)) 27) rfl rfl rfl
theorem x_344_21  : exG TB d 344 21 (some v :: r9) st A = rg v (exG TB d 344 22 (some v :: r9) (v :: st) A) := x_rg (op := o_aload 0 1) rfl rfl
theorem x_344_22  : exG TB d 344 22 L st A = exG TB d 344 23 L (.int (nI 1) :: st) A := x_nx (op := o_push 1 (.int 1)) rfl rfl
theorem x_344_23  : exG TB d 344 23 L [b0, .ref p] A = kw (sel (gc A p) [(30, 291)]) [.ref p, b0] d 344 26 L [] A := x_cvb (op := o_cv [(30, 291)] 1 3 false none) rfl rfl x_noh rfl
theorem x_344_26  : exG TB d 344 26 L [v] A = ck (okv 1 v) (some (.inl (some v), A)) := x_outg (op := o_ret 1) rfl rfl
theorem x_344_27  : exG TB d 344 27 (a0 :: some (.int i1) :: r9) st A = exG TB d 344 28 (a0 :: some (.int i1) :: r9) (.int i1 :: st) A := x_nx (op := o_iload 1 1) rfl rfl
theorem x_344_28  : exG TB d 344 28 (a0 :: a1 :: some (.int i1) :: r9) st A = exG TB d 344 29 (a0 :: a1 :: some (.int i1) :: r9) (.int i1 :: st) A := x_nx (op := o_iload 2 1) rfl rfl
theorem x_344_29  : exG TB d 344 29 L (.int i2 :: .int i1 :: st) A = if i1 = i2 then exG TB d 344 53 L st A else exG TB d 344 32 L st A := x_if (op := o_icmp (fun x y => decide (x = y)) 53) rfl rfl rfl
theorem x_344_32  : exG TB d 344 32 (a0 :: a1 :: a2 :: some (.int i1) :: r9) st A = exG TB d 344 33 (a0 :: a1 :: a2 :: some (.int i1) :: r9) (.int i1 :: st) A := x_nx (op := o_iload 3 1) rfl rfl
theorem x_344_33  : exG TB d 344 33 L st A = exG TB d 344 34 L (.int (nI 0) :: st) A := x_nx (op := o_push 1 (.int 0)) rfl rfl
theorem x_344_34  : exG TB d 344 34 L st A = exG TB d 344 37 L (.int (nI 600) :: st) A := x_nx (op := o_push 3 (.int 600)) rfl rfl
theorem x_344_37  : exG TB d 344 37 L [b2, b1, b0] A = kc (evG TB d 293 [b0, b1, b2] A) d 344 40 L [] := x_cv (op := o_cs 293 3 false none) rfl rfl x_noh rfl
theorem x_344_40  : exG TB d 344 40 L (.int i1 :: st) A = if i1 = nI 0 then exG TB d 344 53 L st A else exG TB d 344 43 L st A := x_if (op := o_if (fun x => decide (x = 0)) 53) rfl rfl rfl
theorem x_344_43  : exG TB d 344 43 (a0 :: a1 :: a2 :: a3 :: some (.int i1) :: r9) st A = exG TB d 344 45 (a0 :: a1 :: a2 :: a3 :: some (.int i1) :: r9) (.int i1 :: st) A := x_nx (op := o_iload 4 2) rfl rfl
theorem x_344_45  : exG TB d 344 45 L st A = exG TB d 344 46 L (.int (nI 0) :: st) A := x_nx (op := o_push 1 (.int 0)) rfl rfl
theorem x_344_46  : exG TB d 344 46 L st A = exG TB d 344 47 L (.int (nI 3) :: st) A := x_nx (op := o_push 1 (.int 3)) rfl rfl
theorem x_344_47  : exG TB d 344 47 L [b2, b1, b0] A = kc (evG TB d 293 [b0, b1, b2] A) d 344 50 L [] := x_cv (op := o_cs 293 3 false none) rfl rfl x_noh rfl
theorem x_344_50  : exG TB d 344 50 L (.int i1 :: st) A = if ¬ i1 = nI 0 then exG TB d 344 59 L st A else exG TB d 344 53 L st A := x_if (op := o_if (fun x => decide (¬ x = 0)) 59) rfl rfl rfl
theorem x_344_53  : exG TB d 344 53 (some v :: r9) st A = rg v (exG TB d 344 54 (some v :: r9) (v :: st) A) := x_rg (op := o_aload 0 1) rfl rfl
theorem x_344_54  : exG TB d 344 54 L st A = exG TB d 344 55 L (.int (nI 2) :: st) A := x_nx (op := o_push 1 (.int 2)) rfl rfl
theorem x_344_55  : exG TB d 344 55 L [b0, .ref p] A = kw (sel (gc A p) [(30, 291)]) [.ref p, b0] d 344 58 L [] A := x_cvb (op := o_cv [(30, 291)] 1 3 false none) rfl rfl x_noh rfl
theorem x_344_58  : exG TB d 344 58 L [v] A = ck (okv 1 v) (some (.inl (some v), A)) := x_outg (op := o_ret 1) rfl rfl
theorem x_344_59  : exG TB d 344 59 (some v :: r9) st A = rg v (exG TB d 344 60 (some v :: r9) (v :: st) A) := x_rg (op := o_aload 0 1) rfl rfl
theorem x_344_60  : exG TB d 344 60 (a0 :: some (.int i1) :: r9) st A = exG TB d 344 61 (a0 :: some (.int i1) :: r9) (.int i1 :: st) A := x_nx (op := o_iload 1 1) rfl rfl
theorem x_344_61  : exG TB d 344 61 (a0 :: a1 :: some (.int i1) :: r9) st A = exG TB d 344 62 (a0 :: a1 :: some (.int i1) :: r9) (.int i1 :: st) A := x_nx (op := o_iload 2 1) rfl rfl
theorem x_344_62  : exG TB d 344 62 (a0 :: a1 :: a2 :: some (.int i1) :: r9) st A = exG TB d 344 63 (a0 :: a1 :: a2 :: some (.int i1) :: r9) (.int i1 :: st) A := x_nx (op := o_iload 3 1) rfl rfl
theorem x_344_63  : exG TB d 344 63 L [b2, b1, b0, .ref p] A = kw0 (sel (gc A p) [(30, 345)]) [.ref p, b0, b1, b2] d 344 66 L [] A := x_c0b (op := o_cv [(30, 345)] 3 3 true none) rfl rfl x_noh rfl
theorem x_344_66  : exG TB d 344 66 (some v :: r9) st A = rg v (exG TB d 344 67 (some v :: r9) (v :: st) A) := x_rg (op := o_aload 0 1) rfl rfl
theorem x_344_67  : exG TB d 344 67 L (.ref p :: st) A = kv (gf A p 172) d 344 70 L st A := x_bd (op := o_get 172) rfl rfl (fun _ => rfl)
theorem x_344_70  : exG TB d 344 70 L st A = exG TB d 344 73 L (.int (nI 1000000000) :: st) A := x_nx (op := o_push 3 (.int 1000000000)) rfl rfl
theorem x_344_73  : exG TB d 344 73 L (.int i2 :: .int i1 :: st) A = if ¬ i1 = i2 then exG TB d 344 78 L st A else exG TB d 344 76 L st A := x_if (op := o_icmp (fun x y => decide (¬ x = y)) 78) rfl rfl rfl
theorem x_344_76  : exG TB d 344 76 L st A = exG TB d 344 77 L (.int nN :: st) A := x_nx (op := o_push 1 (.int (-1))) rfl rfl
theorem x_344_77  : exG TB d 344 77 L [v] A = ck (okv 1 v) (some (.inl (some v), A)) := x_outg (op := o_ret 1) rfl rfl
theorem x_344_78  : exG TB d 344 78 (a0 :: a1 :: a2 :: a3 :: some (.int i1) :: r9) st A = exG TB d 344 80 (a0 :: a1 :: a2 :: a3 :: some (.int i1) :: r9) (.int i1 :: st) A := x_nx (op := o_iload 4 2) rfl rfl
theorem x_344_80  : exG TB d 344 80 L (.int i1 :: st) A = if ¬ i1 = nI 0 then exG TB d 344 90 L st A else exG TB d 344 83 L st A := x_if (op := o_if (fun x => decide (¬ x = 0)) 90) rfl rfl rfl
theorem x_344_83  : exG TB d 344 83 (some v :: r9) st A = rg v (exG TB d 344 84 (some v :: r9) (v :: st) A) := x_rg (op := o_aload 0 1) rfl rfl
theorem x_344_84  : exG TB d 344 84 L (.ref p :: st) A = kv (gf A p 172) d 344 87 L st A := x_bd (op := o_get 172) rfl rfl (fun _ => rfl)
theorem x_344_87  : exG TB d 344 87 L st A = exG TB d 344 120 L st A := x_nx (op := o_goto 120) rfl rfl
theorem x_344_90  : exG TB d 344 90 (a0 :: a1 :: a2 :: a3 :: some (.int i1) :: r9) st A = exG TB d 344 92 (a0 :: a1 :: a2 :: a3 :: some (.int i1) :: r9) (.int i1 :: st) A := x_nx (op := o_iload 4 2) rfl rfl
theorem x_344_92  : exG TB d 344 92 L st A = exG TB d 344 93 L (.int (nI 1) :: st) A := x_nx (op := o_push 1 (.int 1)) rfl rfl
theorem x_344_93  : exG TB d 344 93 L (.int i2 :: .int i1 :: st) A = if ¬ i1 = i2 then exG TB d 344 103 L st A else exG TB d 344 96 L st A := x_if (op := o_icmp (fun x y => decide (¬ x = y)) 103) rfl rfl rfl
theorem x_344_96  : exG TB d 344 96 (some v :: r9) st A = rg v (exG TB d 344 97 (some v :: r9) (v :: st) A) := x_rg (op := o_aload 0 1) rfl rfl
theorem x_344_97  : exG TB d 344 97 L (.ref p :: st) A = kv (gf A p 173) d 344 100 L st A := x_bd (op := o_get 173) rfl rfl (fun _ => rfl)
theorem x_344_100  : exG TB d 344 100 L st A = exG TB d 344 120 L st A := x_nx (op := o_goto 120) rfl rfl
theorem x_344_103  : exG TB d 344 103 (a0 :: a1 :: a2 :: a3 :: some (.int i1) :: r9) st A = exG TB d 344 105 (a0 :: a1 :: a2 :: a3 :: some (.int i1) :: r9) (.int i1 :: st) A := x_nx (op := o_iload 4 2) rfl rfl
theorem x_344_105  : exG TB d 344 105 L st A = exG TB d 344 106 L (.int (nI 2) :: st) A := x_nx (op := o_push 1 (.int 2)) rfl rfl
theorem x_344_106  : exG TB d 344 106 L (.int i2 :: .int i1 :: st) A = if ¬ i1 = i2 then exG TB d 344 116 L st A else exG TB d 344 109 L st A := x_if (op := o_icmp (fun x y => decide (¬ x = y)) 116) rfl rfl rfl
theorem x_344_109  : exG TB d 344 109 (some v :: r9) st A = rg v (exG TB d 344 110 (some v :: r9) (v :: st) A) := x_rg (op := o_aload 0 1) rfl rfl
theorem x_344_110  : exG TB d 344 110 L (.ref p :: st) A = kv (gf A p 174) d 344 113 L st A := x_bd (op := o_get 174) rfl rfl (fun _ => rfl)
theorem x_344_113  : exG TB d 344 113 L st A = exG TB d 344 120 L st A := x_nx (op := o_goto 120) rfl rfl
theorem x_344_116  : exG TB d 344 116 (some v :: r9) st A = rg v (exG TB d 344 117 (some v :: r9) (v :: st) A) := x_rg (op := o_aload 0 1) rfl rfl
theorem x_344_117  : exG TB d 344 117 L (.ref p :: st) A = kv (gf A p 175) d 344 120 L st A := x_bd (op := o_get 175) rfl rfl (fun _ => rfl)
theorem x_344_120  : exG TB d 344 120 L [v] A = ck (okv 1 v) (some (.inl (some v), A)) := x_outg (op := o_ret 1) rfl rfl
theorem e_345 {j1 : Int32} {j2 : Int32} {j3 : Int32} : evG TB (d + 1) 345 [.ref p, .int j1, .int j2, .int j3] A = exG TB d 345 0 [some (.ref p), some (.int j1), some (.int j2), some (.int j3), none, none, none] [] A := evG_eq TB d 345 _ A
theorem x_345_0  : exG TB d 345 0 (some v :: r9) st A = rg v (exG TB d 345 1 (some v :: r9) (v :: st) A) := x_rg (op := o_aload 0 1) rfl rfl
theorem x_345_1  : exG TB d 345 1 L st A = exG TB d 345 4 L (.int (nI 1000000000) :: st) A := x_nx (op := o_push 3 (.int 1000000000)) rfl rfl
theorem x_345_4  : exG TB d 345 4 L (v :: .ref p :: st) A = ck ((gf A p 172).isSome && okv 1 v) (exG TB d 345 7 L st (setf A p 172 v)) := x_gd (op := o_put 172 1) rfl rfl
theorem x_345_7  : exG TB d 345 7 (some v :: r9) st A = rg v (exG TB d 345 8 (some v :: r9) (v :: st) A) := x_rg (op := o_aload 0 1) rfl rfl
theorem x_345_8  : exG TB d 345 8 L st A = exG TB d 345 11 L (.int (nI 1000000000) :: st) A := x_nx (op := o_push 3 (.int 1000000000)) rfl rfl
theorem x_345_11  : exG TB d 345 11 L (v :: .ref p :: st) A = ck ((gf A p 173).isSome && okv 1 v) (exG TB d 345 14 L st (setf A p 173 v)) := x_gd (op := o_put 173 1) rfl rfl
theorem x_345_14  : exG TB d 345 14 (some v :: r9) st A = rg v (exG TB d 345 15 (some v :: r9) (v :: st) A) := x_rg (op := o_aload 0 1) rfl rfl
theorem x_345_15  : exG TB d 345 15 L st A = exG TB d 345 18 L (.int (nI 1000000000) :: st) A := x_nx (op := o_push 3 (.int 1000000000)) rfl rfl
theorem x_345_18  : exG TB d 345 18 L (v :: .ref p :: st) A = ck ((gf A p 176).isSome && okv 1 v) (exG TB d 345 21 L st (setf A p 176 v)) := x_gd (op := o_put 176 1) rfl rfl
theorem x_345_21  : exG TB d 345 21 (some v :: r9) st A = rg v (exG TB d 345 22 (some v :: r9) (v :: st) A) := x_rg (op := o_aload 0 1) rfl rfl
theorem x_345_22  : exG TB d 345 22 L (.ref p :: st) A = kv (gf A p 166) d 345 25 L st A := x_bd (op := o_get 166) rfl rfl (fun _ => rfl)
theorem x_345_25  : exG TB d 345 25 L st A = exG TB d 345 26 L (.int (nI 0) :: st) A := x_nx (op := o_push 1 (.int 0)) rfl rfl
theorem x_345_26  : exG TB d 345 26 (a0 :: some (.int i1) :: r9) st A = exG TB d 345 27 (a0 :: some (.int i1) :: r9) (.int i1 :: st) A := x_nx (op := o_iload 1 1) rfl rfl
theorem x_345_27  : exG TB d 345 27 L (.int i2 :: .int i1 :: .ref p :: st) A = ka (wrI 0 (ga A p) i1 i2) p d 345 28 L st A := x_bd (op := o_wrI 0) rfl rfl (fun _ => rfl)
theorem x_345_28  : exG TB d 345 28 (some v :: r9) st A = rg v (exG TB d 345 29 (some v :: r9) (v :: st) A) := x_rg (op := o_aload 0 1) rfl rfl
theorem x_345_29  : exG TB d 345 29 L (.ref p :: st) A = kv (gf A p 167) d 345 32 L st A := x_bd (op := o_get 167) rfl rfl (fun _ => rfl)
theorem x_345_32  : exG TB d 345 32 L st A = exG TB d 345 33 L (.int (nI 0) :: st) A := x_nx (op := o_push 1 (.int 0)) rfl rfl
theorem x_345_33  : exG TB d 345 33 L st A = exG TB d 345 34 L (.int nN :: st) A := x_nx (op := o_push 1 (.int (-1))) rfl rfl
theorem x_345_34  : exG TB d 345 34 L (.int i2 :: .int i1 :: .ref p :: st) A = ka (wrI 0 (ga A p) i1 i2) p d 345 35 L st A := x_bd (op := o_wrI 0) rfl rfl (fun _ => rfl)
theorem x_345_35  : exG TB d 345 35 (some v :: r9) st A = rg v (exG TB d 345 36 (some v :: r9) (v :: st) A) := x_rg (op := o_aload 0 1) rfl rfl
theorem x_345_36  : exG TB d 345 36 L (.ref p :: st) A = kv (gf A p 168) d 345 39 L st A := x_bd (op := o_get 168) rfl rfl (fun _ => rfl)
theorem x_345_39  : exG TB d 345 39 L st A = exG TB d 345 40 L (.int (nI 0) :: st) A := x_nx (op := o_push 1 (.int 0)) rfl rfl
theorem x_345_40  : exG TB d 345 40 L st A = exG TB d 345 41 L (.int (nI 0) :: st) A := x_nx (op := o_push 1 (.int 0)) rfl rfl
theorem x_345_41  : exG TB d 345 41 L (.int i2 :: .int i1 :: .ref p :: st) A = ka (wrI 0 (ga A p) i1 i2) p d 345 42 L st A := x_bd (op := o_wrI 0) rfl rfl (fun _ => rfl)
theorem x_345_42  : exG TB d 345 42 (some v :: r9) st A = rg v (exG TB d 345 43 (some v :: r9) (v :: st) A) := x_rg (op := o_aload 0 1) rfl rfl
theorem x_345_43  : exG TB d 345 43 L (.ref p :: st) A = kv (gf A p 169) d 345 46 L st A := x_bd (op := o_get 169) rfl rfl (fun _ => rfl)
theorem x_345_46  : exG TB d 345 46 L st A = exG TB d 345 47 L (.int (nI 0) :: st) A := x_nx (op := o_push 1 (.int 0)) rfl rfl
theorem x_345_47  : exG TB d 345 47 L st A = exG TB d 345 48 L (.int (nI 0) :: st) A := x_nx (op := o_push 1 (.int 0)) rfl rfl
theorem x_345_48  : exG TB d 345 48 L (.int i2 :: .int i1 :: .ref p :: st) A = ka (wrI 0 (ga A p) i1 i2) p d 345 49 L st A := x_bd (op := o_wrI 0) rfl rfl (fun _ => rfl)
theorem x_345_49  : exG TB d 345 49 (some v :: r9) st A = rg v (exG TB d 345 50 (some v :: r9) (v :: st) A) := x_rg (op := o_aload 0 1) rfl rfl
theorem x_345_50  : exG TB d 345 50 L (.ref p :: st) A = kv (gf A p 170) d 345 53 L st A := x_bd (op := o_get 170) rfl rfl (fun _ => rfl)
theorem x_345_53  : exG TB d 345 53 L st A = exG TB d 345 54 L (.int (nI 0) :: st) A := x_nx (op := o_push 1 (.int 0)) rfl rfl
theorem x_345_54  : exG TB d 345 54 L st A = exG TB d 345 55 L (.int (nI 0) :: st) A := x_nx (op := o_push 1 (.int 0)) rfl rfl
theorem x_345_55  : exG TB d 345 55 L (.int i2 :: .int i1 :: .ref p :: st) A = ka (wrI 0 (ga A p) i1 i2) p d 345 56 L st A := x_bd (op := o_wrI 0) rfl rfl (fun _ => rfl)
theorem x_345_56  : exG TB d 345 56 L st A = exG TB d 345 57 L (.int (nI 0) :: st) A := x_nx (op := o_push 1 (.int 0)) rfl rfl
theorem x_345_57  : exG TB d 345 57 (a0 :: a1 :: a2 :: a3 :: a4 :: r9) (.int i1 :: st) A = exG TB d 345 59 (a0 :: a1 :: a2 :: a3 :: some (.int i1) :: r9) st A := x_nx (op := o_istore 4 2) rfl rfl
theorem x_345_59  : exG TB d 345 59 (a0 :: a1 :: a2 :: a3 :: some (.int i1) :: r9) st A = exG TB d 345 61 (a0 :: a1 :: a2 :: a3 :: some (.int i1) :: r9) (.int i1 :: st) A := x_nx (op := o_iload 4 2) rfl rfl
theorem x_345_61  : exG TB d 345 61 L (.int i1 :: st) A = if i1 < nI 0 then exG TB d 345 282 L st A else exG TB d 345 64 L st A := x_if (op := o_if (fun x => decide (x < 0)) 282) rfl rfl rfl
theorem x_345_64  : exG TB d 345 64 (some v :: r9) st A = rg v (exG TB d 345 65 (some v :: r9) (v :: st) A) := x_rg (op := o_aload 0 1) rfl rfl
theorem x_345_65  : exG TB d 345 65 L (.ref p :: st) A = kv (gf A p 167) d 345 68 L st A := x_bd (op := o_get 167) rfl rfl (fun _ => rfl)
theorem x_345_68  : exG TB d 345 68 (a0 :: a1 :: a2 :: a3 :: some (.int i1) :: r9) st A = exG TB d 345 70 (a0 :: a1 :: a2 :: a3 :: some (.int i1) :: r9) (.int i1 :: st) A := x_nx (op := o_iload 4 2) rfl rfl
theorem x_345_70  : exG TB d 345 70 L (v :: v2 :: st) A = ck (c1 v && c1 v2) (exG TB d 345 71 L (v :: v2 :: v :: v2 :: st) A) := x_gd (op := o_dup2) rfl rfl
theorem x_345_71  : exG TB d 345 71 L (.int i1 :: .ref p :: st) A = ki (rdI 0 (ga A p) i1) d 345 72 L st A := x_bd (op := o_rdI 0) rfl rfl (fun _ => rfl)
theorem x_345_72  : exG TB d 345 72 L st A = exG TB d 345 73 L (.int (nI 1) :: st) A := x_nx (op := o_push 1 (.int 1)) rfl rfl
theorem x_345_73  : exG TB d 345 73 L (.int i2 :: .int i1 :: st) A = exG TB d 345 74 L (.int (i1 + i2) :: st) A := x_nx (op := o_iop (fun x y => x + y)) rfl rfl
theorem x_345_74  : exG TB d 345 74 L (.int i2 :: .int i1 :: .ref p :: st) A = ka (wrI 0 (ga A p) i1 i2) p d 345 75 L st A := x_bd (op := o_wrI 0) rfl rfl (fun _ => rfl)
theorem x_345_75  : exG TB d 345 75 (some v :: r9) st A = rg v (exG TB d 345 76 (some v :: r9) (v :: st) A) := x_rg (op := o_aload 0 1) rfl rfl
theorem x_345_76  : exG TB d 345 76 L (.ref p :: st) A = kv (gf A p 167) d 345 79 L st A := x_bd (op := o_get 167) rfl rfl (fun _ => rfl)
theorem x_345_79  : exG TB d 345 79 (a0 :: a1 :: a2 :: a3 :: some (.int i1) :: r9) st A = exG TB d 345 81 (a0 :: a1 :: a2 :: a3 :: some (.int i1) :: r9) (.int i1 :: st) A := x_nx (op := o_iload 4 2) rfl rfl
theorem x_345_81  : exG TB d 345 81 L (.int i1 :: .ref p :: st) A = ki (rdI 0 (ga A p) i1) d 345 82 L st A := x_bd (op := o_rdI 0) rfl rfl (fun _ => rfl)
theorem x_345_82  : exG TB d 345 82 (a0 :: a1 :: a2 :: a3 :: a4 :: a5 :: r9) (.int i1 :: st) A = exG TB d 345 84 (a0 :: a1 :: a2 :: a3 :: a4 :: some (.int i1) :: r9) st A := x_nx (op := o_istore 5 2) rfl rfl
theorem x_345_84  : exG TB d 345 84 (a0 :: a1 :: a2 :: a3 :: a4 :: some (.int i1) :: r9) st A = exG TB d 345 86 (a0 :: a1 :: a2 :: a3 :: a4 :: some (.int i1) :: r9) (.int i1 :: st) A := x_nx (op := o_iload 5 2) rfl rfl
theorem x_345_86  : exG TB d 345 86 (some v :: r9) st A = rg v (exG TB d 345 87 (some v :: r9) (v :: st) A) := x_rg (op := o_aload 0 1) rfl rfl
theorem x_345_87  : exG TB d 345 87 L (.ref p :: st) A = kv (gf A p 148) d 345 90 L st A := x_bd (op := o_get 148) rfl rfl (fun _ => rfl)
theorem x_345_90  : exG TB d 345 90 L st A = exG TB d 345 92 L (.int (nI 8) :: st) A := x_nx (op := o_push 2 (.int 8)) rfl rfl
theorem x_345_92  : exG TB d 345 92 L (.int i1 :: .ref p :: st) A = ki (rdI 0 (ga A p) i1) d 345 93 L st A := x_bd (op := o_rdI 0) rfl rfl (fun _ => rfl)
theorem x_345_93  : exG TB d 345 93 L (.int i2 :: .int i1 :: st) A = if ¬ i1 = i2 then exG TB d 345 102 L st A else exG TB d 345 96 L st A := x_if (op := o_icmp (fun x y => decide (¬ x = y)) 102) rfl rfl rfl
theorem x_345_96  : exG TB d 345 96 (a0 :: a1 :: a2 :: a3 :: some (.int i1) :: r9) st A = exG TB d 345 99 (a0 :: a1 :: a2 :: a3 :: some (.int (i1 + nN)) :: r9) st A := x_nx (op := o_iinc 4 (-1)) rfl rfl
theorem x_345_99  : exG TB d 345 99 L st A = exG TB d 345 59 L st A := x_nx (op := o_goto 59) rfl rfl
theorem x_345_102  : exG TB d 345 102 (some v :: r9) st A = rg v (exG TB d 345 103 (some v :: r9) (v :: st) A) := x_rg (op := o_aload 0 1) rfl rfl
theorem x_345_103  : exG TB d 345 103 (a0 :: a1 :: a2 :: a3 :: a4 :: some (.int i1) :: r9) st A = exG TB d 345 105 (a0 :: a1 :: a2 :: a3 :: a4 :: some (.int i1) :: r9) (.int i1 :: st) A := x_nx (op := o_iload 5 2) rfl rfl
theorem x_345_105  : exG TB d 345 105 (a0 :: a1 :: a2 :: a3 :: some (.int i1) :: r9) st A = exG TB d 345 107 (a0 :: a1 :: a2 :: a3 :: some (.int i1) :: r9) (.int i1 :: st) A := x_nx (op := o_iload 4 2) rfl rfl
theorem x_345_107  : exG TB d 345 107 L [b1, b0, .ref p] A = kw (sel (gc A p) [(30, 346)]) [.ref p, b0, b1] d 345 110 L [] A := x_cvb (op := o_cv [(30, 346)] 2 3 false none) rfl rfl x_noh rfl
theorem x_345_110  : exG TB d 345 110 L (.int i1 :: st) A = if i1 = nI 0 then exG TB d 345 117 L st A else exG TB d 345 113 L st A := x_if (op := o_if (fun x => decide (x = 0)) 117) rfl rfl rfl
theorem x_345_113  : exG TB d 345 113 L st A = exG TB d 345 114 L (.int nN :: st) A := x_nx (op := o_push 1 (.int (-1))) rfl rfl
theorem x_345_114  : exG TB d 345 114 L st A = exG TB d 345 130 L st A := x_nx (op := o_goto 130) rfl rfl
theorem x_345_117  : exG TB d 345 117 (some v :: r9) st A = rg v (exG TB d 345 118 (some v :: r9) (v :: st) A) := x_rg (op := o_aload 0 1) rfl rfl
theorem x_345_118  : exG TB d 345 118 (some v :: r9) st A = rg v (exG TB d 345 119 (some v :: r9) (v :: st) A) := x_rg (op := o_aload 0 1) rfl rfl
theorem x_345_119  : exG TB d 345 119 L (.ref p :: st) A = kv (gf A p 166) d 345 122 L st A := x_bd (op := o_get 166) rfl rfl (fun _ => rfl)
theorem x_345_122  : exG TB d 345 122 (a0 :: a1 :: a2 :: a3 :: some (.int i1) :: r9) st A = exG TB d 345 124 (a0 :: a1 :: a2 :: a3 :: some (.int i1) :: r9) (.int i1 :: st) A := x_nx (op := o_iload 4 2) rfl rfl
theorem x_345_124  : exG TB d 345 124 L (.int i1 :: .ref p :: st) A = ki (rdI 0 (ga A p) i1) d 345 125 L st A := x_bd (op := o_rdI 0) rfl rfl (fun _ => rfl)
theorem x_345_125  : exG TB d 345 125 (a0 :: a1 :: a2 :: a3 :: a4 :: some (.int i1) :: r9) st A = exG TB d 345 127 (a0 :: a1 :: a2 :: a3 :: a4 :: some (.int i1) :: r9) (.int i1 :: st) A := x_nx (op := o_iload 5 2) rfl rfl
theorem x_345_127  : exG TB d 345 127 L [b1, b0, .ref p] A = kw (sel (gc A p) [(30, 310)]) [.ref p, b0, b1] d 345 130 L [] A := x_cvb (op := o_cv [(30, 310)] 2 3 false none) rfl rfl x_noh rfl
theorem x_345_130  : exG TB d 345 130 (a0 :: a1 :: a2 :: a3 :: a4 :: a5 :: a6 :: r9) (.int i1 :: st) A = exG TB d 345 132 (a0 :: a1 :: a2 :: a3 :: a4 :: a5 :: some (.int i1) :: r9) st A := x_nx (op := o_istore 6 2) rfl rfl
theorem x_345_132  : exG TB d 345 132 (a0 :: a1 :: a2 :: a3 :: a4 :: a5 :: some (.int i1) :: r9) st A = exG TB d 345 134 (a0 :: a1 :: a2 :: a3 :: a4 :: a5 :: some (.int i1) :: r9) (.int i1 :: st) A := x_nx (op := o_iload 6 2) rfl rfl
theorem x_345_134  : exG TB d 345 134 L st A = exG TB d 345 135 L (.int nN :: st) A := x_nx (op := o_push 1 (.int (-1))) rfl rfl
theorem x_345_135  : exG TB d 345 135 L (.int i2 :: .int i1 :: st) A = if ¬ i1 = i2 then exG TB d 345 141 L st A else exG TB d 345 138 L st A := x_if (op := o_icmp (fun x y => decide (¬ x = y)) 141) rfl rfl rfl
theorem x_345_138  : exG TB d 345 138 L st A = exG TB d 345 59 L st A := x_nx (op := o_goto 59) rfl rfl
theorem x_345_141  : exG TB d 345 141 (some v :: r9) st A = rg v (exG TB d 345 142 (some v :: r9) (v :: st) A) := x_rg (op := o_aload 0 1) rfl rfl
theorem x_345_142  : exG TB d 345 142 L (.ref p :: st) A = kv (gf A p 166) d 345 145 L st A := x_bd (op := o_get 166) rfl rfl (fun _ => rfl)
theorem x_345_145  : exG TB d 345 145 (a0 :: a1 :: a2 :: a3 :: some (.int i1) :: r9) st A = exG TB d 345 147 (a0 :: a1 :: a2 :: a3 :: some (.int i1) :: r9) (.int i1 :: st) A := x_nx (op := o_iload 4 2) rfl rfl
theorem x_345_147  : exG TB d 345 147 L st A = exG TB d 345 148 L (.int (nI 1) :: st) A := x_nx (op := o_push 1 (.int 1)) rfl rfl
theorem x_345_148  : exG TB d 345 148 L (.int i2 :: .int i1 :: st) A = exG TB d 345 149 L (.int (i1 + i2) :: st) A := x_nx (op := o_iop (fun x y => x + y)) rfl rfl
theorem x_345_149  : exG TB d 345 149 (a0 :: a1 :: a2 :: a3 :: a4 :: some (.int i1) :: r9) st A = exG TB d 345 151 (a0 :: a1 :: a2 :: a3 :: a4 :: some (.int i1) :: r9) (.int i1 :: st) A := x_nx (op := o_iload 5 2) rfl rfl
theorem x_345_151  : exG TB d 345 151 L (.int i2 :: .int i1 :: .ref p :: st) A = ka (wrI 0 (ga A p) i1 i2) p d 345 152 L st A := x_bd (op := o_wrI 0) rfl rfl (fun _ => rfl)
theorem x_345_152  : exG TB d 345 152 (some v :: r9) st A = rg v (exG TB d 345 153 (some v :: r9) (v :: st) A) := x_rg (op := o_aload 0 1) rfl rfl
theorem x_345_153  : exG TB d 345 153 L (.ref p :: st) A = kv (gf A p 168) d 345 156 L st A := x_bd (op := o_get 168) rfl rfl (fun _ => rfl)
theorem x_345_156  : exG TB d 345 156 (a0 :: a1 :: a2 :: a3 :: some (.int i1) :: r9) st A = exG TB d 345 158 (a0 :: a1 :: a2 :: a3 :: some (.int i1) :: r9) (.int i1 :: st) A := x_nx (op := o_iload 4 2) rfl rfl
theorem x_345_158  : exG TB d 345 158 L st A = exG TB d 345 159 L (.int (nI 1) :: st) A := x_nx (op := o_push 1 (.int 1)) rfl rfl
theorem x_345_159  : exG TB d 345 159 L (.int i2 :: .int i1 :: st) A = exG TB d 345 160 L (.int (i1 + i2) :: st) A := x_nx (op := o_iop (fun x y => x + y)) rfl rfl
theorem x_345_160  : exG TB d 345 160 (some v :: r9) st A = rg v (exG TB d 345 161 (some v :: r9) (v :: st) A) := x_rg (op := o_aload 0 1) rfl rfl
theorem x_345_161  : exG TB d 345 161 L (.ref p :: st) A = kv (gf A p 168) d 345 164 L st A := x_bd (op := o_get 168) rfl rfl (fun _ => rfl)
theorem x_345_164  : exG TB d 345 164 (a0 :: a1 :: a2 :: a3 :: some (.int i1) :: r9) st A = exG TB d 345 166 (a0 :: a1 :: a2 :: a3 :: some (.int i1) :: r9) (.int i1 :: st) A := x_nx (op := o_iload 4 2) rfl rfl
theorem x_345_166  : exG TB d 345 166 L (.int i1 :: .ref p :: st) A = ki (rdI 0 (ga A p) i1) d 345 167 L st A := x_bd (op := o_rdI 0) rfl rfl (fun _ => rfl)
theorem x_345_167  : exG TB d 345 167 (some v :: r9) st A = rg v (exG TB d 345 168 (some v :: r9) (v :: st) A) := x_rg (op := o_aload 0 1) rfl rfl
theorem x_345_168  : exG TB d 345 168 L (.ref p :: st) A = kv (gf A p 148) d 345 171 L st A := x_bd (op := o_get 148) rfl rfl (fun _ => rfl)
theorem x_345_171  : exG TB d 345 171 L st A = exG TB d 345 173 L (.int (nI 27) :: st) A := x_nx (op := o_push 2 (.int 27)) rfl rfl
theorem x_345_173  : exG TB d 345 173 L st A = exG TB d 345 174 L (.int (nI 4) :: st) A := x_nx (op := o_push 1 (.int 4)) rfl rfl
theorem x_345_174  : exG TB d 345 174 (a0 :: a1 :: a2 :: a3 :: a4 :: a5 :: some (.int i1) :: r9) st A = exG TB d 345 176 (a0 :: a1 :: a2 :: a3 :: a4 :: a5 :: some (.int i1) :: r9) (.int i1 :: st) A := x_nx (op := o_iload 6 2) rfl rfl
theorem x_345_176  : exG TB d 345 176 L (.int i2 :: .int i1 :: st) A = exG TB d 345 177 L (.int (i1 * i2) :: st) A := x_nx (op := o_iop (fun x y => x * y)) rfl rfl
theorem x_345_177  : exG TB d 345 177 L (.int i2 :: .int i1 :: st) A = exG TB d 345 178 L (.int (i1 + i2) :: st) A := x_nx (op := o_iop (fun x y => x + y)) rfl rfl
theorem x_345_178  : exG TB d 345 178 L st A = exG TB d 345 179 L (.int (nI 2) :: st) A := x_nx (op := o_push 1 (.int 2)) rfl rfl
theorem x_345_179  : exG TB d 345 179 L (.int i2 :: .int i1 :: st) A = exG TB d 345 180 L (.int (i1 + i2) :: st) A := x_nx (op := o_iop (fun x y => x + y)) rfl rfl
theorem x_345_180  : exG TB d 345 180 L (.int i1 :: .ref p :: st) A = ki (rdI 0 (ga A p) i1) d 345 181 L st A := x_bd (op := o_rdI 0) rfl rfl (fun _ => rfl)
theorem x_345_181  : exG TB d 345 181 L (.int i2 :: .int i1 :: st) A = exG TB d 345 182 L (.int (i1 + i2) :: st) A := x_nx (op := o_iop (fun x y => x + y)) rfl rfl
theorem x_345_182  : exG TB d 345 182 L (.int i2 :: .int i1 :: .ref p :: st) A = ka (wrI 0 (ga A p) i1 i2) p d 345 183 L st A := x_bd (op := o_wrI 0) rfl rfl (fun _ => rfl)
theorem x_345_183  : exG TB d 345 183 (some v :: r9) st A = rg v (exG TB d 345 184 (some v :: r9) (v :: st) A) := x_rg (op := o_aload 0 1) rfl rfl
theorem x_345_184  : exG TB d 345 184 L (.ref p :: st) A = kv (gf A p 169) d 345 187 L st A := x_bd (op := o_get 169) rfl rfl (fun _ => rfl)
theorem x_345_187  : exG TB d 345 187 (a0 :: a1 :: a2 :: a3 :: some (.int i1) :: r9) st A = exG TB d 345 189 (a0 :: a1 :: a2 :: a3 :: some (.int i1) :: r9) (.int i1 :: st) A := x_nx (op := o_iload 4 2) rfl rfl
theorem x_345_189  : exG TB d 345 189 L st A = exG TB d 345 190 L (.int (nI 1) :: st) A := x_nx (op := o_push 1 (.int 1)) rfl rfl
theorem x_345_190  : exG TB d 345 190 L (.int i2 :: .int i1 :: st) A = exG TB d 345 191 L (.int (i1 + i2) :: st) A := x_nx (op := o_iop (fun x y => x + y)) rfl rfl
theorem x_345_191  : exG TB d 345 191 (some v :: r9) st A = rg v (exG TB d 345 192 (some v :: r9) (v :: st) A) := x_rg (op := o_aload 0 1) rfl rfl
theorem x_345_192  : exG TB d 345 192 L (.ref p :: st) A = kv (gf A p 169) d 345 195 L st A := x_bd (op := o_get 169) rfl rfl (fun _ => rfl)
theorem x_345_195  : exG TB d 345 195 (a0 :: a1 :: a2 :: a3 :: some (.int i1) :: r9) st A = exG TB d 345 197 (a0 :: a1 :: a2 :: a3 :: some (.int i1) :: r9) (.int i1 :: st) A := x_nx (op := o_iload 4 2) rfl rfl
theorem x_345_197  : exG TB d 345 197 L (.int i1 :: .ref p :: st) A = ki (rdI 0 (ga A p) i1) d 345 198 L st A := x_bd (op := o_rdI 0) rfl rfl (fun _ => rfl)
theorem x_345_198  : exG TB d 345 198 (some v :: r9) st A = rg v (exG TB d 345 199 (some v :: r9) (v :: st) A) := x_rg (op := o_aload 0 1) rfl rfl
theorem x_345_199  : exG TB d 345 199 L (.ref p :: st) A = kv (gf A p 148) d 345 202 L st A := x_bd (op := o_get 148) rfl rfl (fun _ => rfl)
theorem x_345_202  : exG TB d 345 202 L st A = exG TB d 345 204 L (.int (nI 27) :: st) A := x_nx (op := o_push 2 (.int 27)) rfl rfl
theorem x_345_204  : exG TB d 345 204 L st A = exG TB d 345 205 L (.int (nI 4) :: st) A := x_nx (op := o_push 1 (.int 4)) rfl rfl
theorem x_345_205  : exG TB d 345 205 (a0 :: a1 :: a2 :: a3 :: a4 :: a5 :: some (.int i1) :: r9) st A = exG TB d 345 207 (a0 :: a1 :: a2 :: a3 :: a4 :: a5 :: some (.int i1) :: r9) (.int i1 :: st) A := x_nx (op := o_iload 6 2) rfl rfl
theorem x_345_207  : exG TB d 345 207 L (.int i2 :: .int i1 :: st) A = exG TB d 345 208 L (.int (i1 * i2) :: st) A := x_nx (op := o_iop (fun x y => x * y)) rfl rfl
theorem x_345_208  : exG TB d 345 208 L (.int i2 :: .int i1 :: st) A = exG TB d 345 209 L (.int (i1 + i2) :: st) A := x_nx (op := o_iop (fun x y => x + y)) rfl rfl
theorem x_345_209  : exG TB d 345 209 L st A = exG TB d 345 210 L (.int (nI 3) :: st) A := x_nx (op := o_push 1 (.int 3)) rfl rfl
theorem x_345_210  : exG TB d 345 210 L (.int i2 :: .int i1 :: st) A = exG TB d 345 211 L (.int (i1 + i2) :: st) A := x_nx (op := o_iop (fun x y => x + y)) rfl rfl
theorem x_345_211  : exG TB d 345 211 L (.int i1 :: .ref p :: st) A = ki (rdI 0 (ga A p) i1) d 345 212 L st A := x_bd (op := o_rdI 0) rfl rfl (fun _ => rfl)
theorem x_345_212  : exG TB d 345 212 L (.int i2 :: .int i1 :: st) A = exG TB d 345 213 L (.int (i1 + i2) :: st) A := x_nx (op := o_iop (fun x y => x + y)) rfl rfl
theorem x_345_213  : exG TB d 345 213 L (.int i2 :: .int i1 :: .ref p :: st) A = ka (wrI 0 (ga A p) i1 i2) p d 345 214 L st A := x_bd (op := o_wrI 0) rfl rfl (fun _ => rfl)
theorem x_345_214  : exG TB d 345 214 (some v :: r9) st A = rg v (exG TB d 345 215 (some v :: r9) (v :: st) A) := x_rg (op := o_aload 0 1) rfl rfl
theorem x_345_215  : exG TB d 345 215 L (.ref p :: st) A = kv (gf A p 170) d 345 218 L st A := x_bd (op := o_get 170) rfl rfl (fun _ => rfl)
theorem x_345_218  : exG TB d 345 218 (a0 :: a1 :: a2 :: a3 :: some (.int i1) :: r9) st A = exG TB d 345 220 (a0 :: a1 :: a2 :: a3 :: some (.int i1) :: r9) (.int i1 :: st) A := x_nx (op := o_iload 4 2) rfl rfl
theorem x_345_220  : exG TB d 345 220 L st A = exG TB d 345 221 L (.int (nI 1) :: st) A := x_nx (op := o_push 1 (.int 1)) rfl rfl
theorem x_345_221  : exG TB d 345 221 L (.int i2 :: .int i1 :: st) A = exG TB d 345 222 L (.int (i1 + i2) :: st) A := x_nx (op := o_iop (fun x y => x + y)) rfl rfl
theorem x_345_222  : exG TB d 345 222 (some v :: r9) st A = rg v (exG TB d 345 223 (some v :: r9) (v :: st) A) := x_rg (op := o_aload 0 1) rfl rfl
theorem x_345_223  : exG TB d 345 223 L (.ref p :: st) A = kv (gf A p 170) d 345 226 L st A := x_bd (op := o_get 170) rfl rfl (fun _ => rfl)
theorem x_345_226  : exG TB d 345 226 (a0 :: a1 :: a2 :: a3 :: some (.int i1) :: r9) st A = exG TB d 345 228 (a0 :: a1 :: a2 :: a3 :: some (.int i1) :: r9) (.int i1 :: st) A := x_nx (op := o_iload 4 2) rfl rfl
theorem x_345_228  : exG TB d 345 228 L (.int i1 :: .ref p :: st) A = ki (rdI 0 (ga A p) i1) d 345 229 L st A := x_bd (op := o_rdI 0) rfl rfl (fun _ => rfl)
theorem x_345_229  : exG TB d 345 229 (some v :: r9) st A = rg v (exG TB d 345 230 (some v :: r9) (v :: st) A) := x_rg (op := o_aload 0 1) rfl rfl
theorem x_345_230  : exG TB d 345 230 L (.ref p :: st) A = kv (gf A p 148) d 345 233 L st A := x_bd (op := o_get 148) rfl rfl (fun _ => rfl)
theorem x_345_233  : exG TB d 345 233 L st A = exG TB d 345 235 L (.int (nI 15) :: st) A := x_nx (op := o_push 2 (.int 15)) rfl rfl
theorem x_345_235  : exG TB d 345 235 (a0 :: a1 :: a2 :: a3 :: a4 :: some (.int i1) :: r9) st A = exG TB d 345 237 (a0 :: a1 :: a2 :: a3 :: a4 :: some (.int i1) :: r9) (.int i1 :: st) A := x_nx (op := o_iload 5 2) rfl rfl
theorem x_345_237  : exG TB d 345 237 L (.int i2 :: .int i1 :: st) A = exG TB d 345 238 L (.int (i1 + i2) :: st) A := x_nx (op := o_iop (fun x y => x + y)) rfl rfl
theorem x_345_238  : exG TB d 345 238 L (.int i1 :: .ref p :: st) A = ki (rdI 0 (ga A p) i1) d 345 239 L st A := x_bd (op := o_rdI 0) rfl rfl (fun _ => rfl)
theorem x_345_239  : exG TB d 345 239 L (.int i2 :: .int i1 :: st) A = exG TB d 345 240 L (.int (i1 + i2) :: st) A := x_nx (op := o_iop (fun x y => x + y)) rfl rfl
theorem x_345_240  : exG TB d 345 240 L (.int i2 :: .int i1 :: .ref p :: st) A = ka (wrI 0 (ga A p) i1 i2) p d 345 241 L st A := x_bd (op := o_wrI 0) rfl rfl (fun _ => rfl)
theorem x_345_241  : exG TB d 345 241 (a0 :: a1 :: a2 :: a3 :: a4 :: some (.int i1) :: r9) st A = exG TB d 345 243 (a0 :: a1 :: a2 :: a3 :: a4 :: some (.int i1) :: r9) (.int i1 :: st) A := x_nx (op := o_iload 5 2) rfl rfl
theorem x_345_243  : exG TB d 345 243 (a0 :: a1 :: some (.int i1) :: r9) st A = exG TB d 345 244 (a0 :: a1 :: some (.int i1) :: r9) (.int i1 :: st) A := x_nx (op := o_iload 2 1) rfl rfl
theorem x_345_244  : exG TB d 345 244 L (.int i2 :: .int i1 :: st) A = if ¬ i1 = i2 then exG TB d 345 259 L st A else exG TB d 345 247 L st A := x_if (op := o_icmp (fun x y => decide (¬ x = y)) 259) rfl rfl rfl
theorem x_345_247  : exG TB d 345 247 (some v :: r9) st A = rg v (exG TB d 345 248 (some v :: r9) (v :: st) A) := x_rg (op := o_aload 0 1) rfl rfl
theorem x_345_248  : exG TB d 345 248 (a0 :: a1 :: a2 :: a3 :: some (.int i1) :: r9) st A = exG TB d 345 250 (a0 :: a1 :: a2 :: a3 :: some (.int i1) :: r9) (.int i1 :: st) A := x_nx (op := o_iload 4 2) rfl rfl
theorem x_345_250  : exG TB d 345 250 L st A = exG TB d 345 251 L (.int (nI 1) :: st) A := x_nx (op := o_push 1 (.int 1)) rfl rfl
theorem x_345_251  : exG TB d 345 251 L (.int i2 :: .int i1 :: st) A = exG TB d 345 252 L (.int (i1 + i2) :: st) A := x_nx (op := o_iop (fun x y => x + y)) rfl rfl
theorem x_345_252  : exG TB d 345 252 (a0 :: a1 :: a2 :: some (.int i1) :: r9) st A = exG TB d 345 253 (a0 :: a1 :: a2 :: some (.int i1) :: r9) (.int i1 :: st) A := x_nx (op := o_iload 3 1) rfl rfl
theorem x_345_253  : exG TB d 345 253 L [b1, b0, .ref p] A = kw0 (sel (gc A p) [(30, 347)]) [.ref p, b0, b1] d 345 256 L [] A := x_c0b (op := o_cv [(30, 347)] 2 3 true none) rfl rfl x_noh rfl
theorem x_345_256  : exG TB d 345 256 L st A = exG TB d 345 279 L st A := x_nx (op := o_goto 279) rfl rfl
theorem x_345_259  : exG TB d 345 259 (a0 :: a1 :: a2 :: a3 :: some (.int i1) :: r9) st A = exG TB d 345 261 (a0 :: a1 :: a2 :: a3 :: some (.int i1) :: r9) (.int i1 :: st) A := x_nx (op := o_iload 4 2) rfl rfl
theorem x_345_261  : exG TB d 345 261 L st A = exG TB d 345 262 L (.int (nI 1) :: st) A := x_nx (op := o_push 1 (.int 1)) rfl rfl
theorem x_345_262  : exG TB d 345 262 L (.int i2 :: .int i1 :: st) A = exG TB d 345 263 L (.int (i1 + i2) :: st) A := x_nx (op := o_iop (fun x y => x + y)) rfl rfl
theorem x_345_263  : exG TB d 345 263 L st A = exG TB d 345 265 L (.int (nI 6) :: st) A := x_nx (op := o_push 2 (.int 6)) rfl rfl
theorem x_345_265  : exG TB d 345 265 L (.int i2 :: .int i1 :: st) A = if i2 ≤ i1 then exG TB d 345 279 L st A else exG TB d 345 268 L st A := x_if (op := o_icmp (fun x y => decide (y ≤ x)) 279) rfl rfl rfl
theorem x_345_268  : exG TB d 345 268 (a0 :: a1 :: a2 :: a3 :: some (.int i1) :: r9) st A = exG TB d 345 271 (a0 :: a1 :: a2 :: a3 :: some (.int (i1 + (nI 1))) :: r9) st A := x_nx (op := o_iinc 4 1) rfl rfl
theorem x_345_271  : exG TB d 345 271 (some v :: r9) st A = rg v (exG TB d 345 272 (some v :: r9) (v :: st) A) := x_rg (op := o_aload 0 1) rfl rfl
theorem x_345_272  : exG TB d 345 272 L (.ref p :: st) A = kv (gf A p 167) d 345 275 L st A := x_bd (op := o_get 167) rfl rfl (fun _ => rfl)
theorem x_345_275  : exG TB d 345 275 (a0 :: a1 :: a2 :: a3 :: some (.int i1) :: r9) st A = exG TB d 345 277 (a0 :: a1 :: a2 :: a3 :: some (.int i1) :: r9) (.int i1 :: st) A := x_nx (op := o_iload 4 2) rfl rfl
theorem x_345_277  : exG TB d 345 277 L st A = exG TB d 345 278 L (.int nN :: st) A := x_nx (op := o_push 1 (.int (-1))) rfl rfl
theorem x_345_278  : exG TB d 345 278 L (.int i2 :: .int i1 :: .ref p :: st) A = ka (wrI 0 (ga A p) i1 i2) p d 345 279 L st A := x_bd (op := o_wrI 0) rfl rfl (fun _ => rfl)
theorem x_345_279  : exG TB d 345 279 L st A = exG TB d 345 59 L st A := x_nx (op := o_goto 59) rfl rfl
theorem x_345_282  : exG TB d 345 282 L [] A = some (.inl none, A) := x_out (op := o_vret) rfl rfl
theorem e_346 {j1 : Int32} {j2 : Int32} : evG TB (d + 1) 346 [.ref p, .int j1, .int j2] A = exG TB d 346 0 [some (.ref p), some (.int j1), some (.int j2), none] [] A := evG_eq TB d 346 _ A
theorem x_346_0  : exG TB d 346 0 L st A = exG TB d 346 1 L (.int (nI 0) :: st) A := x_nx (op := o_push 1 (.int 0)) rfl rfl
theorem x_346_1  : exG TB d 346 1 (a0 :: a1 :: a2 :: a3 :: r9) (.int i1 :: st) A = exG TB d 346 2 (a0 :: a1 :: a2 :: some (.int i1) :: r9) st A := x_nx (op := o_istore 3 1) rfl rfl
theorem x_346_2  : exG TB d 346 2 (a0 :: a1 :: a2 :: some (.int i1) :: r9) st A = exG TB d 346 3 (a0 :: a1 :: a2 :: some (.int i1) :: r9) (.int i1 :: st) A := x_nx (op := o_iload 3 1) rfl rfl
theorem x_346_3  : exG TB d 346 3 (a0 :: a1 :: some (.int i1) :: r9) st A = exG TB d 346 4 (a0 :: a1 :: some (.int i1) :: r9) (.int i1 :: st) A := x_nx (op := o_iload 2 1) rfl rfl
theorem x_346_4  : exG TB d 346 4 L (.int i2 :: .int i1 :: st) A = if i2 < i1 then exG TB d 346 25 L st A else exG TB d 346 7 L st A := x_if (op := o_icmp (fun x y => decide (y < x)) 25) rfl rfl rfl
theorem x_346_7  : exG TB d 346 7 (some v :: r9) st A = rg v (exG TB d 346 8 (some v :: r9) (v :: st) A) := x_rg (op := o_aload 0 1) rfl rfl
theorem x_346_8  : exG TB d 346 8 L (.ref p :: st) A = kv (gf A p 166) d 346 11 L st A := x_bd (op := o_get 166) rfl rfl (fun _ => rfl)
theorem x_346_11  : exG TB d 346 11 (a0 :: a1 :: a2 :: some (.int i1) :: r9) st A = exG TB d 346 12 (a0 :: a1 :: a2 :: some (.int i1) :: r9) (.int i1 :: st) A := x_nx (op := o_iload 3 1) rfl rfl
theorem x_346_12  : exG TB d 346 12 L (.int i1 :: .ref p :: st) A = ki (rdI 0 (ga A p) i1) d 346 13 L st A := x_bd (op := o_rdI 0) rfl rfl (fun _ => rfl)
theorem x_346_13  : exG TB d 346 13 (a0 :: some (.int i1) :: r9) st A = exG TB d 346 14 (a0 :: some (.int i1) :: r9) (.int i1 :: st) A := x_nx (op := o_iload 1 1) rfl rfl
theorem x_346_14  : exG TB d 346 14 L (.int i2 :: .int i1 :: st) A = if ¬ i1 = i2 then exG TB d 346 19 L st A else exG TB d 346 17 L st A := x_if (op := o_icmp (fun x y => decide (¬ x = y)) 19) rfl rfl rfl
theorem x_346_17  : exG TB d 346 17 L st A = exG TB d 346 18 L (.int (nI 1) :: st) A := x_nx (op := o_push 1 (.int 1)) rfl rfl
theorem x_346_18  : exG TB d 346 18 L [v] A = ck (okv 5 v) (some (.inl (some v), A)) := x_outg (op := o_ret 5) rfl rfl
theorem x_346_19  : exG TB d 346 19 (a0 :: a1 :: a2 :: some (.int i1) :: r9) st A = exG TB d 346 22 (a0 :: a1 :: a2 :: some (.int (i1 + (nI 1))) :: r9) st A := x_nx (op := o_iinc 3 1) rfl rfl
theorem x_346_22  : exG TB d 346 22 L st A = exG TB d 346 2 L st A := x_nx (op := o_goto 2) rfl rfl
theorem x_346_25  : exG TB d 346 25 L st A = exG TB d 346 26 L (.int (nI 0) :: st) A := x_nx (op := o_push 1 (.int 0)) rfl rfl
theorem x_346_26  : exG TB d 346 26 L [v] A = ck (okv 5 v) (some (.inl (some v), A)) := x_outg (op := o_ret 5) rfl rfl
theorem e_347 {j1 : Int32} {j2 : Int32} : evG TB (d + 1) 347 [.ref p, .int j1, .int j2] A = exG TB d 347 0 [some (.ref p), some (.int j1), some (.int j2), none, none, none] [] A := evG_eq TB d 347 _ A
theorem x_347_0  : exG TB d 347 0 (some v :: r9) st A = rg v (exG TB d 347 1 (some v :: r9) (v :: st) A) := x_rg (op := o_aload 0 1) rfl rfl
theorem x_347_1  : exG TB d 347 1 (some v :: r9) st A = rg v (exG TB d 347 2 (some v :: r9) (v :: st) A) := x_rg (op := o_aload 0 1) rfl rfl
theorem x_347_2  : exG TB d 347 2 L (.ref p :: st) A = kv (gf A p 176) d 347 5 L st A := x_bd (op := o_get 176) rfl rfl (fun _ => rfl)
theorem x_347_5  : exG TB d 347 5 (some v :: r9) st A = rg v (exG TB d 347 6 (some v :: r9) (v :: st) A) := x_rg (op := o_aload 0 1) rfl rfl
theorem x_347_6  : exG TB d 347 6 L (.ref p :: st) A = kv (gf A p 169) d 347 9 L st A := x_bd (op := o_get 169) rfl rfl (fun _ => rfl)
theorem x_347_9  : exG TB d 347 9 (a0 :: some (.int i1) :: r9) st A = exG TB d 347 10 (a0 :: some (.int i1) :: r9) (.int i1 :: st) A := x_nx (op := o_iload 1 1) rfl rfl
theorem x_347_10  : exG TB d 347 10 L (.int i1 :: .ref p :: st) A = ki (rdI 0 (ga A p) i1) d 347 11 L st A := x_bd (op := o_rdI 0) rfl rfl (fun _ => rfl)
theorem x_347_11  : exG TB d 347 11 L [b1, b0, w0] A = kc (evG TB d 7 [b0, b1] A) d 347 14 L [w0] := x_cv (op := o_cs 7 2 false none) rfl rfl x_noh rfl
theorem x_347_14  : exG TB d 347 14 L (v :: .ref p :: st) A = ck ((gf A p 176).isSome && okv 1 v) (exG TB d 347 17 L st (setf A p 176 v)) := x_gd (op := o_put 176 1) rfl rfl
theorem x_347_17  : exG TB d 347 17 (some v :: r9) st A = rg v (exG TB d 347 18 (some v :: r9) (v :: st) A) := x_rg (op := o_aload 0 1) rfl rfl
theorem x_347_18  : exG TB d 347 18 L (.ref p :: st) A = kv (gf A p 168) d 347 21 L st A := x_bd (op := o_get 168) rfl rfl (fun _ => rfl)
theorem x_347_21  : exG TB d 347 21 (a0 :: some (.int i1) :: r9) st A = exG TB d 347 22 (a0 :: some (.int i1) :: r9) (.int i1 :: st) A := x_nx (op := o_iload 1 1) rfl rfl
theorem x_347_22  : exG TB d 347 22 L (.int i1 :: .ref p :: st) A = ki (rdI 0 (ga A p) i1) d 347 23 L st A := x_bd (op := o_rdI 0) rfl rfl (fun _ => rfl)
theorem x_347_23  : exG TB d 347 23 (a0 :: a1 :: a2 :: a3 :: r9) (.int i1 :: st) A = exG TB d 347 24 (a0 :: a1 :: a2 :: some (.int i1) :: r9) st A := x_nx (op := o_istore 3 1) rfl rfl
theorem x_347_24  : exG TB d 347 24 (a0 :: a1 :: a2 :: some (.int i1) :: r9) st A = exG TB d 347 25 (a0 :: a1 :: a2 :: some (.int i1) :: r9) (.int i1 :: st) A := x_nx (op := o_iload 3 1) rfl rfl
theorem x_347_25  : exG TB d 347 25 (some v :: r9) st A = rg v (exG TB d 347 26 (some v :: r9) (v :: st) A) := x_rg (op := o_aload 0 1) rfl rfl
theorem x_347_26  : exG TB d 347 26 L st A = exG TB d 347 27 L (.int (nI 3) :: st) A := x_nx (op := o_push 1 (.int 3)) rfl rfl
theorem x_347_27  : exG TB d 347 27 L [b0, .ref p, w0] A = kw (sel (gc A p) [(30, 328)]) [.ref p, b0] d 347 30 L [w0] A := x_cvb (op := o_cv [(30, 328)] 1 3 false none) rfl rfl x_noh rfl
theorem x_347_30  : exG TB d 347 30 L (.int i2 :: .int i1 :: st) A = exG TB d 347 31 L (.int (i1 * i2) :: st) A := x_nx (op := o_iop (fun x y => x * y)) rfl rfl
theorem x_347_31  : exG TB d 347 31 (a0 :: a1 :: some (.int i1) :: r9) st A = exG TB d 347 32 (a0 :: a1 :: some (.int i1) :: r9) (.int i1 :: st) A := x_nx (op := o_iload 2 1) rfl rfl
theorem x_347_32  : exG TB d 347 32 L st A = exG TB d 347 34 L (.int (nI 100) :: st) A := x_nx (op := o_push 2 (.int 100)) rfl rfl
theorem x_347_34  : exG TB d 347 34 L (.int i2 :: .int i1 :: st) A = exG TB d 347 35 L (.int (i1 * i2) :: st) A := x_nx (op := o_iop (fun x y => x * y)) rfl rfl
theorem x_347_35  : exG TB d 347 35 L (.int i2 :: .int i1 :: st) A = if i1 ≤ i2 then exG TB d 347 39 L st A else exG TB d 347 38 L st A := x_if (op := o_icmp (fun x y => decide (x ≤ y)) 39) rfl rfl rfl
theorem x_347_38  : exG TB d 347 38 L [] A = some (.inl none, A) := x_out (op := o_vret) rfl rfl
theorem x_347_39  : exG TB d 347 39 (some v :: r9) st A = rg v (exG TB d 347 40 (some v :: r9) (v :: st) A) := x_rg (op := o_aload 0 1) rfl rfl
theorem x_347_40  : exG TB d 347 40 L (.ref p :: st) A = kv (gf A p 170) d 347 43 L st A := x_bd (op := o_get 170) rfl rfl (fun _ => rfl)
theorem x_347_43  : exG TB d 347 43 (a0 :: some (.int i1) :: r9) st A = exG TB d 347 44 (a0 :: some (.int i1) :: r9) (.int i1 :: st) A := x_nx (op := o_iload 1 1) rfl rfl
theorem x_347_44  : exG TB d 347 44 L st A = exG TB d 347 45 L (.int (nI 1) :: st) A := x_nx (op := o_push 1 (.int 1)) rfl rfl
theorem x_347_45  : exG TB d 347 45 L (.int i2 :: .int i1 :: st) A = exG TB d 347 46 L (.int (i1 - i2) :: st) A := x_nx (op := o_iop (fun x y => x - y)) rfl rfl
theorem x_347_46  : exG TB d 347 46 L (.int i1 :: .ref p :: st) A = ki (rdI 0 (ga A p) i1) d 347 47 L st A := x_bd (op := o_rdI 0) rfl rfl (fun _ => rfl)
theorem x_347_47  : exG TB d 347 47 (some v :: r9) st A = rg v (exG TB d 347 48 (some v :: r9) (v :: st) A) := x_rg (op := o_aload 0 1) rfl rfl
theorem x_347_48  : exG TB d 347 48 L st A = exG TB d 347 49 L (.int (nI 2) :: st) A := x_nx (op := o_push 1 (.int 2)) rfl rfl
theorem x_347_49  : exG TB d 347 49 L [b0, .ref p, w0] A = kw (sel (gc A p) [(30, 328)]) [.ref p, b0] d 347 52 L [w0] A := x_cvb (op := o_cv [(30, 328)] 1 3 false none) rfl rfl x_noh rfl
theorem x_347_52  : exG TB d 347 52 (a0 :: a1 :: some (.int i1) :: r9) st A = exG TB d 347 53 (a0 :: a1 :: some (.int i1) :: r9) (.int i1 :: st) A := x_nx (op := o_iload 2 1) rfl rfl
theorem x_347_53  : exG TB d 347 53 (a0 :: a1 :: a2 :: some (.int i1) :: r9) st A = exG TB d 347 54 (a0 :: a1 :: a2 :: some (.int i1) :: r9) (.int i1 :: st) A := x_nx (op := o_iload 3 1) rfl rfl
theorem x_347_54  : exG TB d 347 54 L (.int i2 :: .int i1 :: st) A = exG TB d 347 55 L (.int (i1 - i2) :: st) A := x_nx (op := o_iop (fun x y => x - y)) rfl rfl
theorem x_347_55  : exG TB d 347 55 L [b0, w0, w1] A = kc (evG TB d 8 [b0] A) d 347 58 L [w0, w1] := x_cv (op := o_cs 8 1 false none) rfl rfl x_noh rfl
theorem x_347_58  : exG TB d 347 58 L (.int i2 :: .int i1 :: st) A = exG TB d 347 59 L (.int (i1 * i2) :: st) A := x_nx (op := o_iop (fun x y => x * y)) rfl rfl
theorem x_347_59  : exG TB d 347 59 L (.int i2 :: .int i1 :: st) A = exG TB d 347 60 L (.int (i1 + i2) :: st) A := x_nx (op := o_iop (fun x y => x + y)) rfl rfl
theorem x_347_60  : exG TB d 347 60 (a0 :: a1 :: a2 :: a3 :: a4 :: r9) (.int i1 :: st) A = exG TB d 347 62 (a0 :: a1 :: a2 :: a3 :: some (.int i1) :: r9) st A := x_nx (op := o_istore 4 2) rfl rfl
theorem x_347_62  : exG TB d 347 62 (a0 :: a1 :: a2 :: a3 :: some (.int i1) :: r9) st A = exG TB d 347 64 (a0 :: a1 :: a2 :: a3 :: some (.int i1) :: r9) (.int i1 :: st) A := x_nx (op := o_iload 4 2) rfl rfl
theorem x_347_64  : exG TB d 347 64 (some v :: r9) st A = rg v (exG TB d 347 65 (some v :: r9) (v :: st) A) := x_rg (op := o_aload 0 1) rfl rfl
theorem x_347_65  : exG TB d 347 65 L (.ref p :: st) A = kv (gf A p 172) d 347 68 L st A := x_bd (op := o_get 172) rfl rfl (fun _ => rfl)
theorem x_347_68  : exG TB d 347 68 L (.int i2 :: .int i1 :: st) A = if i2 < i1 then exG TB d 347 88 L st A else exG TB d 347 71 L st A := x_if (op := o_icmp (fun x y => decide (y < x)) 88) rfl rfl rfl
theorem x_347_71  : exG TB d 347 71 (a0 :: a1 :: a2 :: a3 :: some (.int i1) :: r9) st A = exG TB d 347 73 (a0 :: a1 :: a2 :: a3 :: some (.int i1) :: r9) (.int i1 :: st) A := x_nx (op := o_iload 4 2) rfl rfl
theorem x_347_73  : exG TB d 347 73 (some v :: r9) st A = rg v (exG TB d 347 74 (some v :: r9) (v :: st) A) := x_rg (op := o_aload 0 1) rfl rfl
theorem x_347_74  : exG TB d 347 74 L (.ref p :: st) A = kv (gf A p 172) d 347 77 L st A := x_bd (op := o_get 172) rfl rfl (fun _ => rfl)
theorem x_347_77  : exG TB d 347 77 L (.int i2 :: .int i1 :: st) A = if ¬ i1 = i2 then exG TB d 347 89 L st A else exG TB d 347 80 L st A := x_if (op := o_icmp (fun x y => decide (¬ x = y)) 89) rfl rfl rfl
theorem x_347_80  : exG TB d 347 80 (a0 :: some (.int i1) :: r9) st A = exG TB d 347 81 (a0 :: some (.int i1) :: r9) (.int i1 :: st) A := x_nx (op := o_iload 1 1) rfl rfl
theorem x_347_81  : exG TB d 347 81 (some v :: r9) st A = rg v (exG TB d 347 82 (some v :: r9) (v :: st) A) := x_rg (op := o_aload 0 1) rfl rfl
theorem x_347_82  : exG TB d 347 82 L (.ref p :: st) A = kv (gf A p 173) d 347 85 L st A := x_bd (op := o_get 173) rfl rfl (fun _ => rfl)
theorem x_347_85  : exG TB d 347 85 L (.int i2 :: .int i1 :: st) A = if i1 < i2 then exG TB d 347 89 L st A else exG TB d 347 88 L st A := x_if (op := o_icmp (fun x y => decide (x < y)) 89) rfl rfl rfl
theorem x_347_88  : exG TB d 347 88 L [] A = some (.inl none, A) := x_out (op := o_vret) rfl rfl
theorem x_347_89  : exG TB d 347 89 (some v :: r9) st A = rg v (exG TB d 347 90 (some v :: r9) (v :: st) A) := x_rg (op := o_aload 0 1) rfl rfl
theorem x_347_90  : exG TB d 347 90 (a0 :: a1 :: a2 :: a3 :: some (.int i1) :: r9) st A = exG TB d 347 92 (a0 :: a1 :: a2 :: a3 :: some (.int i1) :: r9) (.int i1 :: st) A := x_nx (op := o_iload 4 2) rfl rfl
theorem x_347_92  : exG TB d 347 92 L (v :: .ref p :: st) A = ck ((gf A p 172).isSome && okv 1 v) (exG TB d 347 95 L st (setf A p 172 v)) := x_gd (op := o_put 172 1) rfl rfl
theorem x_347_95  : exG TB d 347 95 (some v :: r9) st A = rg v (exG TB d 347 96 (some v :: r9) (v :: st) A) := x_rg (op := o_aload 0 1) rfl rfl
theorem x_347_96  : exG TB d 347 96 (a0 :: some (.int i1) :: r9) st A = exG TB d 347 97 (a0 :: some (.int i1) :: r9) (.int i1 :: st) A := x_nx (op := o_iload 1 1) rfl rfl
theorem x_347_97  : exG TB d 347 97 L (v :: .ref p :: st) A = ck ((gf A p 173).isSome && okv 1 v) (exG TB d 347 100 L st (setf A p 173 v)) := x_gd (op := o_put 173 1) rfl rfl
theorem x_347_100  : exG TB d 347 100 (some v :: r9) st A = rg v (exG TB d 347 101 (some v :: r9) (v :: st) A) := x_rg (op := o_aload 0 1) rfl rfl
theorem x_347_101  : exG TB d 347 101 (some v :: r9) st A = rg v (exG TB d 347 102 (some v :: r9) (v :: st) A) := x_rg (op := o_aload 0 1) rfl rfl
theorem x_347_102  : exG TB d 347 102 L (.ref p :: st) A = kv (gf A p 169) d 347 105 L st A := x_bd (op := o_get 169) rfl rfl (fun _ => rfl)
theorem x_347_105  : exG TB d 347 105 (a0 :: some (.int i1) :: r9) st A = exG TB d 347 106 (a0 :: some (.int i1) :: r9) (.int i1 :: st) A := x_nx (op := o_iload 1 1) rfl rfl
theorem x_347_106  : exG TB d 347 106 L (.int i1 :: .ref p :: st) A = ki (rdI 0 (ga A p) i1) d 347 107 L st A := x_bd (op := o_rdI 0) rfl rfl (fun _ => rfl)
theorem x_347_107  : exG TB d 347 107 L (v :: .ref p :: st) A = ck ((gf A p 174).isSome && okv 1 v) (exG TB d 347 110 L st (setf A p 174 v)) := x_gd (op := o_put 174 1) rfl rfl
theorem x_347_110  : exG TB d 347 110 (some v :: r9) st A = rg v (exG TB d 347 111 (some v :: r9) (v :: st) A) := x_rg (op := o_aload 0 1) rfl rfl
theorem x_347_111  : exG TB d 347 111 (a0 :: a1 :: a2 :: some (.int i1) :: r9) st A = exG TB d 347 112 (a0 :: a1 :: a2 :: some (.int i1) :: r9) (.int i1 :: st) A := x_nx (op := o_iload 3 1) rfl rfl
theorem x_347_112  : exG TB d 347 112 L (v :: .ref p :: st) A = ck ((gf A p 175).isSome && okv 1 v) (exG TB d 347 115 L st (setf A p 175 v)) := x_gd (op := o_put 175 1) rfl rfl
theorem x_347_115  : exG TB d 347 115 L st A = exG TB d 347 116 L (.int (nI 0) :: st) A := x_nx (op := o_push 1 (.int 0)) rfl rfl
theorem x_347_116  : exG TB d 347 116 (a0 :: a1 :: a2 :: a3 :: a4 :: a5 :: r9) (.int i1 :: st) A = exG TB d 347 118 (a0 :: a1 :: a2 :: a3 :: a4 :: some (.int i1) :: r9) st A := x_nx (op := o_istore 5 2) rfl rfl
theorem x_347_118  : exG TB d 347 118 (a0 :: a1 :: a2 :: a3 :: a4 :: some (.int i1) :: r9) st A = exG TB d 347 120 (a0 :: a1 :: a2 :: a3 :: a4 :: some (.int i1) :: r9) (.int i1 :: st) A := x_nx (op := o_iload 5 2) rfl rfl
theorem x_347_120  : exG TB d 347 120 (a0 :: some (.int i1) :: r9) st A = exG TB d 347 121 (a0 :: some (.int i1) :: r9) (.int i1 :: st) A := x_nx (op := o_iload 1 1) rfl rfl
theorem x_347_121  : exG TB d 347 121 L (.int i2 :: .int i1 :: st) A = if i2 < i1 then exG TB d 347 144 L st A else exG TB d 347 124 L st A := x_if (op := o_icmp (fun x y => decide (y < x)) 144) rfl rfl rfl
theorem x_347_124  : exG TB d 347 124 (some v :: r9) st A = rg v (exG TB d 347 125 (some v :: r9) (v :: st) A) := x_rg (op := o_aload 0 1) rfl rfl
theorem x_347_125  : exG TB d 347 125 L (.ref p :: st) A = kv (gf A p 171) d 347 128 L st A := x_bd (op := o_get 171) rfl rfl (fun _ => rfl)
theorem x_347_128  : exG TB d 347 128 (a0 :: a1 :: a2 :: a3 :: a4 :: some (.int i1) :: r9) st A = exG TB d 347 130 (a0 :: a1 :: a2 :: a3 :: a4 :: some (.int i1) :: r9) (.int i1 :: st) A := x_nx (op := o_iload 5 2) rfl rfl
theorem x_347_130  : exG TB d 347 130 (some v :: r9) st A = rg v (exG TB d 347 131 (some v :: r9) (v :: st) A) := x_rg (op := o_aload 0 1) rfl rfl
theorem x_347_131  : exG TB d 347 131 L (.ref p :: st) A = kv (gf A p 166) d 347 134 L st A := x_bd (op := o_get 166) rfl rfl (fun _ => rfl)
theorem x_347_134  : exG TB d 347 134 (a0 :: a1 :: a2 :: a3 :: a4 :: some (.int i1) :: r9) st A = exG TB d 347 136 (a0 :: a1 :: a2 :: a3 :: a4 :: some (.int i1) :: r9) (.int i1 :: st) A := x_nx (op := o_iload 5 2) rfl rfl
theorem x_347_136  : exG TB d 347 136 L (.int i1 :: .ref p :: st) A = ki (rdI 0 (ga A p) i1) d 347 137 L st A := x_bd (op := o_rdI 0) rfl rfl (fun _ => rfl)
theorem x_347_137  : exG TB d 347 137 L (.int i2 :: .int i1 :: .ref p :: st) A = ka (wrI 0 (ga A p) i1 i2) p d 347 138 L st A := x_bd (op := o_wrI 0) rfl rfl (fun _ => rfl)
theorem x_347_138  : exG TB d 347 138 (a0 :: a1 :: a2 :: a3 :: a4 :: some (.int i1) :: r9) st A = exG TB d 347 141 (a0 :: a1 :: a2 :: a3 :: a4 :: some (.int (i1 + (nI 1))) :: r9) st A := x_nx (op := o_iinc 5 1) rfl rfl
theorem x_347_141  : exG TB d 347 141 L st A = exG TB d 347 118 L st A := x_nx (op := o_goto 118) rfl rfl
theorem x_347_144  : exG TB d 347 144 L [] A = some (.inl none, A) := x_out (op := o_vret) rfl rfl
theorem e_348 {j1 : Int32} {j2 : Int32} {j3 : Int32} {j4 : Int32} : evG TB (d + 1) 348 [.ref p, .int j1, .int j2, .int j3, .int j4] A = exG TB d 348 0 [some (.ref p), some (.int j1), some (.int j2), some (.int j3), some (.int j4)] [] A := evG_eq TB d 348 _ A
theorem x_348_0  : exG TB d 348 0 (some v :: r9) st A = rg v (exG TB d 348 1 (some v :: r9) (v :: st) A) := x_rg (op := o_aload 0 1) rfl rfl
theorem x_348_1  : exG TB d 348 1 L st A = exG TB d 348 2 L (.int (nI 0) :: st) A := x_nx (op := o_push 1 (.int 0)) rfl rfl
theorem x_348_2  : exG TB d 348 2 L (v :: .ref p :: st) A = ck ((gf A p 155).isSome && okv 1 v) (exG TB d 348 5 L st (setf A p 155 v)) := x_gd (op := o_put 155 1) rfl rfl
theorem x_348_5  : exG TB d 348 5 (some v :: r9) st A = rg v (exG TB d 348 6 (some v :: r9) (v :: st) A) := x_rg (op := o_aload 0 1) rfl rfl
theorem x_348_6  : exG TB d 348 6 (a0 :: some (.int i1) :: r9) st A = exG TB d 348 7 (a0 :: some (.int i1) :: r9) (.int i1 :: st) A := x_nx (op := o_iload 1 1) rfl rfl
theorem x_348_7  : exG TB d 348 7 L [b0, .ref p] A = kw (sel (gc A p) [(30, 323)]) [.ref p, b0] d 348 10 L [] A := x_cvb (op := o_cv [(30, 323)] 1 3 false none) rfl rfl x_noh rfl
theorem x_348_10  : exG TB d 348 10 L (.int i1 :: st) A = if i1 = nI 0 then exG TB d 348 21 L st A else exG TB d 348 13 L st A := x_if (op := o_if (fun x => decide (x = 0)) 21) rfl rfl rfl
theorem x_348_13  : exG TB d 348 13 (some v :: r9) st A = rg v (exG TB d 348 14 (some v :: r9) (v :: st) A) := x_rg (op := o_aload 0 1) rfl rfl
theorem x_348_14  : exG TB d 348 14 (a0 :: a1 :: some (.int i1) :: r9) st A = exG TB d 348 15 (a0 :: a1 :: some (.int i1) :: r9) (.int i1 :: st) A := x_nx (op := o_iload 2 1) rfl rfl
theorem x_348_15  : exG TB d 348 15 L [b0, .ref p] A = kw (sel (gc A p) [(30, 323)]) [.ref p, b0] d 348 18 L [] A := x_cvb (op := o_cv [(30, 323)] 1 3 false none) rfl rfl x_noh rfl
theorem x_348_18  : exG TB d 348 18 L (.int i1 :: st) A = if ¬ i1 = nI 0 then exG TB d 348 27 L st A else exG TB d 348 21 L st A := x_if (op := o_if (fun x => decide (¬ x = 0)) 27) rfl rfl rfl
theorem x_348_21  : exG TB d 348 21 (some v :: r9) st A = rg v (exG TB d 348 22 (some v :: r9) (v :: st) A) := x_rg (op := o_aload 0 1) rfl rfl
theorem x_348_22  : exG TB d 348 22 L st A = exG TB d 348 23 L (.int (nI 1) :: st) A := x_nx (op := o_push 1 (.int 1)) rfl rfl
theorem x_348_23  : exG TB d 348 23 L [b0, .ref p] A = kw (sel (gc A p) [(30, 291)]) [.ref p, b0] d 348 26 L [] A := x_cvb (op := o_cv [(30, 291)] 1 3 false none) rfl rfl x_noh rfl
theorem x_348_26  : exG TB d 348 26 L [v] A = ck (okv 1 v) (some (.inl (some v), A)) := x_outg (op := o_ret 1) rfl rfl
theorem x_348_27  : exG TB d 348 27 (a0 :: some (.int i1) :: r9) st A = exG TB d 348 28 (a0 :: some (.int i1) :: r9) (.int i1 :: st) A := x_nx (op := o_iload 1 1) rfl rfl
theorem x_348_28  : exG TB d 348 28 (a0 :: a1 :: some (.int i1) :: r9) st A = exG TB d 348 29 (a0 :: a1 :: some (.int i1) :: r9) (.int i1 :: st) A := x_nx (op := o_iload 2 1) rfl rfl
theorem x_348_29  : exG TB d 348 29 L (.int i2 :: .int i1 :: st) A = if i1 = i2 then exG TB d 348 48 L st A else exG TB d 348 32 L st A := x_if (op := o_icmp (fun x y => decide (x = y)) 48) rfl rfl rfl
theorem x_348_32  : exG TB d 348 32 (a0 :: a1 :: a2 :: some (.int i1) :: r9) st A = exG TB d 348 33 (a0 :: a1 :: a2 :: some (.int i1) :: r9) (.int i1 :: st) A := x_nx (op := o_iload 3 1) rfl rfl
theorem x_348_33  : exG TB d 348 33 L st A = exG TB d 348 34 L (.int (nI 0) :: st) A := x_nx (op := o_push 1 (.int 0)) rfl rfl
theorem x_348_34  : exG TB d 348 34 L st A = exG TB d 348 37 L (.int (nI 600) :: st) A := x_nx (op := o_push 3 (.int 600)) rfl rfl
theorem x_348_37  : exG TB d 348 37 L [b2, b1, b0] A = kc (evG TB d 293 [b0, b1, b2] A) d 348 40 L [] := x_cv (op := o_cs 293 3 false none) rfl rfl x_noh rfl
theorem x_348_40  : exG TB d 348 40 L (.int i1 :: st) A = if i1 = nI 0 then exG TB d 348 48 L st A else exG TB d 348 43 L st A := x_if (op := o_if (fun x => decide (x = 0)) 48) rfl rfl rfl
theorem x_348_43  : exG TB d 348 43 (a0 :: a1 :: a2 :: a3 :: some (.int i1) :: r9) st A = exG TB d 348 45 (a0 :: a1 :: a2 :: a3 :: some (.int i1) :: r9) (.int i1 :: st) A := x_nx (op := o_iload 4 2) rfl rfl
theorem x_348_45  : exG TB d 348 45 L (.int i1 :: st) A = if nI 0 ≤ i1 then exG TB d 348 54 L st A else exG TB d 348 48 L st A := x_if (op := o_if (fun x => decide (0 ≤ x)) 54) rfl rfl rfl
theorem x_348_48  : exG TB d 348 48 (some v :: r9) st A = rg v (exG TB d 348 49 (some v :: r9) (v :: st) A) := x_rg (op := o_aload 0 1) rfl rfl
theorem x_348_49  : exG TB d 348 49 L st A = exG TB d 348 50 L (.int (nI 2) :: st) A := x_nx (op := o_push 1 (.int 2)) rfl rfl
theorem x_348_50  : exG TB d 348 50 L [b0, .ref p] A = kw (sel (gc A p) [(30, 291)]) [.ref p, b0] d 348 53 L [] A := x_cvb (op := o_cv [(30, 291)] 1 3 false none) rfl rfl x_noh rfl
theorem x_348_53  : exG TB d 348 53 L [v] A = ck (okv 1 v) (some (.inl (some v), A)) := x_outg (op := o_ret 1) rfl rfl
theorem x_348_54  : exG TB d 348 54 (some v :: r9) st A = rg v (exG TB d 348 55 (some v :: r9) (v :: st) A) := x_rg (op := o_aload 0 1) rfl rfl
theorem x_348_55  : exG TB d 348 55 (a0 :: some (.int i1) :: r9) st A = exG TB d 348 56 (a0 :: some (.int i1) :: r9) (.int i1 :: st) A := x_nx (op := o_iload 1 1) rfl rfl
theorem x_348_56  : exG TB d 348 56 (a0 :: a1 :: some (.int i1) :: r9) st A = exG TB d 348 57 (a0 :: a1 :: some (.int i1) :: r9) (.int i1 :: st) A := x_nx (op := o_iload 2 1) rfl rfl
theorem x_348_57  : exG TB d 348 57 (a0 :: a1 :: a2 :: some (.int i1) :: r9) st A = exG TB d 348 58 (a0 :: a1 :: a2 :: some (.int i1) :: r9) (.int i1 :: st) A := x_nx (op := o_iload 3 1) rfl rfl
theorem x_348_58  : exG TB d 348 58 L [b2, b1, b0, .ref p] A = kw0 (sel (gc A p) [(30, 345)]) [.ref p, b0, b1, b2] d 348 61 L [] A := x_c0b (op := o_cv [(30, 345)] 3 3 true none) rfl rfl x_noh rfl
theorem x_348_61  : exG TB d 348 61 (some v :: r9) st A = rg v (exG TB d 348 62 (some v :: r9) (v :: st) A) := x_rg (op := o_aload 0 1) rfl rfl
theorem x_348_62  : exG TB d 348 62 L (.ref p :: st) A = kv (gf A p 172) d 348 65 L st A := x_bd (op := o_get 172) rfl rfl (fun _ => rfl)
theorem x_348_65  : exG TB d 348 65 L st A = exG TB d 348 68 L (.int (nI 1000000000) :: st) A := x_nx (op := o_push 3 (.int 1000000000)) rfl rfl
theorem x_348_68  : exG TB d 348 68 L (.int i2 :: .int i1 :: st) A = if i1 = i2 then exG TB d 348 80 L st A else exG TB d 348 71 L st A := x_if (op := o_icmp (fun x y => decide (x = y)) 80) rfl rfl rfl
theorem x_348_71  : exG TB d 348 71 (a0 :: a1 :: a2 :: a3 :: some (.int i1) :: r9) st A = exG TB d 348 73 (a0 :: a1 :: a2 :: a3 :: some (.int i1) :: r9) (.int i1 :: st) A := x_nx (op := o_iload 4 2) rfl rfl
theorem x_348_73  : exG TB d 348 73 (some v :: r9) st A = rg v (exG TB d 348 74 (some v :: r9) (v :: st) A) := x_rg (op := o_aload 0 1) rfl rfl
theorem x_348_74  : exG TB d 348 74 L (.ref p :: st) A = kv (gf A p 173) d 348 77 L st A := x_bd (op := o_get 173) rfl rfl (fun _ => rfl)
theorem x_348_77  : exG TB d 348 77 L (.int i2 :: .int i1 :: st) A = if i1 ≤ i2 then exG TB d 348 84 L st A else exG TB d 348 80 L st A := x_if (op := o_icmp (fun x y => decide (x ≤ y)) 84) rfl rfl rfl
theorem x_348_80  : exG TB d 348 80 L st A = exG TB d 348 81 L (.int nN :: st) A := x_nx (op := o_push 1 (.int (-1))) rfl rfl
theorem x_348_81  : exG TB d 348 81 L st A = exG TB d 348 91 L st A := x_nx (op := o_goto 91) rfl rfl
theorem x_348_84  : exG TB d 348 84 (some v :: r9) st A = rg v (exG TB d 348 85 (some v :: r9) (v :: st) A) := x_rg (op := o_aload 0 1) rfl rfl
theorem x_348_85  : exG TB d 348 85 L (.ref p :: st) A = kv (gf A p 171) d 348 88 L st A := x_bd (op := o_get 171) rfl rfl (fun _ => rfl)
theorem x_348_88  : exG TB d 348 88 (a0 :: a1 :: a2 :: a3 :: some (.int i1) :: r9) st A = exG TB d 348 90 (a0 :: a1 :: a2 :: a3 :: some (.int i1) :: r9) (.int i1 :: st) A := x_nx (op := o_iload 4 2) rfl rfl
theorem x_348_90  : exG TB d 348 90 L (.int i1 :: .ref p :: st) A = ki (rdI 0 (ga A p) i1) d 348 91 L st A := x_bd (op := o_rdI 0) rfl rfl (fun _ => rfl)
theorem x_348_91  : exG TB d 348 91 L [v] A = ck (okv 1 v) (some (.inl (some v), A)) := x_outg (op := o_ret 1) rfl rfl
end
