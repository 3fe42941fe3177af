set_option maxRecDepth 100000
/-! what each instruction does, as an equation -/
section
variable {d p q n9 : Nat} {L r9 : Lc} {st : List Value} {A : Hp} {g9 : Nat → Int32} {v v2 v3 w0 w1 w2 w3 w4 w5 w6 w7 w8 w9 w10 w11 b0 b1 b2 b3 b4 b5 b6 b7 b8 b9 b10 b11 : Value} {i1 i2 i3 i4 : Int32} {l1 l2 : Int64} {f1 f2 : UInt32} {d1 d2 : UInt64} {a0 a1 a2 a3 a4 a5 a6 a7 a8 a9 a10 a11 a12 a13 a14 a15 a16 a17 a18 a19 a20 a21 a22 a23 a24 a25 a26 a27 a28 a29 a30 a31 a32 a33 a34 a35 a36 a37 a38 a39 a40 a41 a42 a43 : Option Value}
theorem e_349 {j1 : Int32} {j2 : Int32} : evG TB (d + 1) 349 [.ref p, .int j1, .int j2] A = exG TB d 349 0 [some (.ref p), some (.int j1), some (.int j2)] [] A := evG_eq TB d 349 _ A
theorem x_349_0  : exG TB d 349 0 (some v :: r9) st A = rg v (exG TB d 349 1 (some v :: r9) (v :: st) A) := x_rg (op := o_aload 0 1) rfl rfl
theorem x_349_1  : exG TB d 349 1 L st A = exG TB d 349 2 L (.int (nI 0) :: st) A := x_nx (op := o_push 1 (.int 0)) rfl rfl
theorem x_349_2  : exG TB d 349 2 L (v :: .ref p :: st) A = ck ((gf A p 155).isSome && okv 1 v) (exG TB d 349 5 L st (setf A p 155 v)) := x_gd (op := o_put 155 1) rfl rfl
theorem x_349_5  : exG TB d 349 5 (some v :: r9) st A = rg v (exG TB d 349 6 (some v :: r9) (v :: st) A) := x_rg (op := o_aload 0 1) rfl rfl
theorem x_349_6  : exG TB d 349 6 (a0 :: some (.int i1) :: r9) st A = exG TB d 349 7 (a0 :: some (.int i1) :: r9) (.int i1 :: st) A := x_nx (op := o_iload 1 1) rfl rfl
theorem x_349_7  : exG TB d 349 7 L [b0, .ref p] A = kw (sel (gc A p) [(30, 323)]) [.ref p, b0] d 349 10 L [] A := x_cvb (op := o_cv [(30, 323)] 1 3 false none) rfl rfl x_noh rfl
theorem x_349_10  : exG TB d 349 10 L (.int i1 :: st) A = if i1 = nI 0 then exG TB d 349 30 L st A else exG TB d 349 13 L st A := x_if (op := o_if (fun x => decide (x = 0)) 30) rfl rfl rfl
theorem x_349_13  : exG TB d 349 13 (some v :: r9) st A = rg v (exG TB d 349 14 (some v :: r9) (v :: st) A) := x_rg (op := o_aload 0 1) rfl rfl
theorem x_349_14  : exG TB d 349 14 (a0 :: a1 :: some (.int i1) :: r9) st A = exG TB d 349 15 (a0 :: a1 :: some (.int i1) :: r9) (.int i1 :: st) A := x_nx (op := o_iload 2 1) rfl rfl
theorem x_349_15  : exG TB d 349 15 L [b0, .ref p] A = kw (sel (gc A p) [(30, 323)]) [.ref p, b0] d 349 18 L [] A := x_cvb (op := o_cv [(30, 323)] 1 3 false none) rfl rfl x_noh rfl
theorem x_349_18  : exG TB d 349 18 L (.int i1 :: st) A = if i1 = nI 0 then exG TB d 349 30 L st A else exG TB d 349 21 L st A := x_if (op := o_if (fun x => decide (x = 0)) 30) rfl rfl rfl
theorem x_349_21  : exG TB d 349 21 (some v :: r9) st A = rg v (exG TB d 349 22 (some v :: r9) (v :: st) A) := x_rg (op := o_aload 0 1) rfl rfl
theorem x_349_22  : exG TB d 349 22 (a0 :: some (.int i1) :: r9) st A = exG TB d 349 23 (a0 :: some (.int i1) :: r9) (.int i1 :: st) A := x_nx (op := o_iload 1 1) rfl rfl
theorem x_349_23  : exG TB d 349 23 (a0 :: a1 :: some (.int i1) :: r9) st A = exG TB d 349 24 (a0 :: a1 :: some (.int i1) :: r9) (.int i1 :: st) A := x_nx (op := o_iload 2 1) rfl rfl
theorem x_349_24  : exG TB d 349 24 L [b1, b0, .ref p] A = kw (sel (gc A p) [(30, 350)]) [.ref p, b0, b1] d 349 27 L [] A := x_cvb (op := o_cv [(30, 350)] 2 3 false none) rfl rfl x_noh rfl
theorem x_349_27  : exG TB d 349 27 L st A = exG TB d 349 35 L st A := x_nx (op := o_goto 35) rfl rfl
theorem x_349_30  : exG TB d 349 30 (some v :: r9) st A = rg v (exG TB d 349 31 (some v :: r9) (v :: st) A) := x_rg (op := o_aload 0 1) rfl rfl
theorem x_349_31  : exG TB d 349 31 L st A = exG TB d 349 32 L (.int (nI 1) :: st) A := x_nx (op := o_push 1 (.int 1)) rfl rfl
theorem x_349_32  : exG TB d 349 32 L [b0, .ref p] A = kw (sel (gc A p) [(30, 291)]) [.ref p, b0] d 349 35 L [] A := x_cvb (op := o_cv [(30, 291)] 1 3 false none) rfl rfl x_noh rfl
theorem x_349_35  : exG TB d 349 35 L [v] A = ck (okv 1 v) (some (.inl (some v), A)) := x_outg (op := o_ret 1) rfl rfl
theorem e_350 {j1 : Int32} {j2 : Int32} : evG TB (d + 1) 350 [.ref p, .int j1, .int j2] A = exG TB d 350 0 [some (.ref p), some (.int j1), some (.int j2)] [] A := evG_eq TB d 350 _ A
theorem x_350_0  : exG TB d 350 0 (a0 :: some (.int i1) :: r9) st A = exG TB d 350 1 (a0 :: some (.int i1) :: r9) (.int i1 :: st) A := x_nx (op := o_iload 1 1) rfl rfl
theorem x_350_1  : exG TB d 350 1 (a0 :: a1 :: some (.int i1) :: r9) st A = exG TB d 350 2 (a0 :: a1 :: some (.int i1) :: r9) (.int i1 :: st) A := x_nx (op := o_iload 2 1) rfl rfl
theorem x_350_2  : exG TB d 350 2 L (.int i2 :: .int i1 :: st) A = if ¬ i1 = i2 then exG TB d 350 7 L st A else exG TB d 350 5 L st A := x_if (op := o_icmp (fun x y => decide (¬ x = y)) 7) rfl rfl rfl
theorem x_350_5  : exG TB d 350 5 L st A = exG TB d 350 6 L (.int (nI 0) :: st) A := x_nx (op := o_push 1 (.int 0)) rfl rfl
theorem x_350_6  : exG TB d 350 6 L [v] A = ck (okv 1 v) (some (.inl (some v), A)) := x_outg (op := o_ret 1) rfl rfl
theorem x_350_7  : exG TB d 350 7 (some v :: r9) st A = rg v (exG TB d 350 8 (some v :: r9) (v :: st) A) := x_rg (op := o_aload 0 1) rfl rfl
theorem x_350_8  : exG TB d 350 8 (a0 :: some (.int i1) :: r9) st A = exG TB d 350 9 (a0 :: some (.int i1) :: r9) (.int i1 :: st) A := x_nx (op := o_iload 1 1) rfl rfl
theorem x_350_9  : exG TB d 350 9 (a0 :: a1 :: some (.int i1) :: r9) st A = exG TB d 350 10 (a0 :: a1 :: some (.int i1) :: r9) (.int i1 :: st) A := x_nx (op := o_iload 2 1) rfl rfl
theorem x_350_10  : exG TB d 350 10 L st A = exG TB d 350 11 L (.int (nI 0) :: st) A := x_nx (op := o_push 1 (.int 0)) rfl rfl
theorem x_350_11  : exG TB d 350 11 L [b2, b1, b0, .ref p] A = kw0 (sel (gc A p) [(30, 345)]) [.ref p, b0, b1, b2] d 350 14 L [] A := x_c0b (op := o_cv [(30, 345)] 3 3 true none) rfl rfl x_noh rfl
theorem x_350_14  : exG TB d 350 14 (some v :: r9) st A = rg v (exG TB d 350 15 (some v :: r9) (v :: st) A) := x_rg (op := o_aload 0 1) rfl rfl
theorem x_350_15  : exG TB d 350 15 L (.ref p :: st) A = kv (gf A p 176) d 350 18 L st A := x_bd (op := o_get 176) rfl rfl (fun _ => rfl)
theorem x_350_18  : exG TB d 350 18 L st A = exG TB d 350 21 L (.int (nI 1000000000) :: st) A := x_nx (op := o_push 3 (.int 1000000000)) rfl rfl
theorem x_350_21  : exG TB d 350 21 L (.int i2 :: .int i1 :: st) A = if ¬ i1 = i2 then exG TB d 350 28 L st A else exG TB d 350 24 L st A := x_if (op := o_icmp (fun x y => decide (¬ x = y)) 28) rfl rfl rfl
theorem x_350_24  : exG TB d 350 24 L st A = exG TB d 350 25 L (.int nN :: st) A := x_nx (op := o_push 1 (.int (-1))) rfl rfl
theorem x_350_25  : exG TB d 350 25 L st A = exG TB d 350 32 L st A := x_nx (op := o_goto 32) rfl rfl
theorem x_350_28  : exG TB d 350 28 (some v :: r9) st A = rg v (exG TB d 350 29 (some v :: r9) (v :: st) A) := x_rg (op := o_aload 0 1) rfl rfl
theorem x_350_29  : exG TB d 350 29 L (.ref p :: st) A = kv (gf A p 176) d 350 32 L st A := x_bd (op := o_get 176) rfl rfl (fun _ => rfl)
theorem x_350_32  : exG TB d 350 32 L [v] A = ck (okv 1 v) (some (.inl (some v), A)) := x_outg (op := o_ret 1) rfl rfl
theorem e_351 {j1 : Int32} {j2 : Int32} {j3 : Int32} : evG TB (d + 1) 351 [.ref p, .int j1, .int j2, .int j3] A = exG TB d 351 0 [some (.ref p), some (.int j1), some (.int j2), some (.int j3)] [] A := evG_eq TB d 351 _ A
theorem x_351_0  : exG TB d 351 0 (some v :: r9) st A = rg v (exG TB d 351 1 (some v :: r9) (v :: st) A) := x_rg (op := o_aload 0 1) rfl rfl
theorem x_351_1  : exG TB d 351 1 L st A = exG TB d 351 2 L (.int (nI 0) :: st) A := x_nx (op := o_push 1 (.int 0)) rfl rfl
theorem x_351_2  : exG TB d 351 2 L (v :: .ref p :: st) A = ck ((gf A p 155).isSome && okv 1 v) (exG TB d 351 5 L st (setf A p 155 v)) := x_gd (op := o_put 155 1) rfl rfl
theorem x_351_5  : exG TB d 351 5 (some v :: r9) st A = rg v (exG TB d 351 6 (some v :: r9) (v :: st) A) := x_rg (op := o_aload 0 1) rfl rfl
theorem x_351_6  : exG TB d 351 6 (a0 :: some (.int i1) :: r9) st A = exG TB d 351 7 (a0 :: some (.int i1) :: r9) (.int i1 :: st) A := x_nx (op := o_iload 1 1) rfl rfl
theorem x_351_7  : exG TB d 351 7 L [b0, .ref p] A = kw (sel (gc A p) [(30, 338)]) [.ref p, b0] d 351 10 L [] A := x_cvb (op := o_cv [(30, 338)] 1 3 false none) rfl rfl x_noh rfl
theorem x_351_10  : exG TB d 351 10 L (.int i1 :: st) A = if i1 = nI 0 then exG TB d 351 21 L st A else exG TB d 351 13 L st A := x_if (op := o_if (fun x => decide (x = 0)) 21) rfl rfl rfl
theorem x_351_13  : exG TB d 351 13 (some v :: r9) st A = rg v (exG TB d 351 14 (some v :: r9) (v :: st) A) := x_rg (op := o_aload 0 1) rfl rfl
theorem x_351_14  : exG TB d 351 14 (a0 :: a1 :: some (.int i1) :: r9) st A = exG TB d 351 15 (a0 :: a1 :: some (.int i1) :: r9) (.int i1 :: st) A := x_nx (op := o_iload 2 1) rfl rfl
theorem x_351_15  : exG TB d 351 15 L [b0, .ref p] A = kw (sel (gc A p) [(30, 323)]) [.ref p, b0] d 351 18 L [] A := x_cvb (op := o_cv [(30, 323)] 1 3 false none) rfl rfl x_noh rfl
theorem x_351_18  : exG TB d 351 18 L (.int i1 :: st) A = if ¬ i1 = nI 0 then exG TB d 351 27 L st A else exG TB d 351 21 L st A := x_if (op := o_if (fun x => decide (¬ x = 0)) 27) rfl rfl rfl
theorem x_351_21  : exG TB d 351 21 (some v :: r9) st A = rg v (exG TB d 351 22 (some v :: r9) (v :: st) A) := x_rg (op := o_aload 0 1) rfl rfl
theorem x_351_22  : exG TB d 351 22 L st A = exG TB d 351 23 L (.int (nI 1) :: st) A := x_nx (op := o_push 1 (.int 1)) rfl rfl
theorem x_351_23  : exG TB d 351 23 L [b0, .ref p] A = kw (sel (gc A p) [(30, 291)]) [.ref p, b0] d 351 26 L [] A := x_cvb (op := o_cv [(30, 291)] 1 3 false none) rfl rfl x_noh rfl
theorem x_351_26  : exG TB d 351 26 L [v] A = ck (okv 1 v) (some (.inl (some v), A)) := x_outg (op := o_ret 1) rfl rfl
theorem x_351_27  : exG TB d 351 27 (a0 :: a1 :: a2 :: some (.int i1) :: r9) st A = exG TB d 351 28 (a0 :: a1 :: a2 :: some (.int i1) :: r9) (.int i1 :: st) A := x_nx (op := o_iload 3 1) rfl rfl
theorem x_351_28  : exG TB d 351 28 L st A = exG TB d 351 29 L (.int (nI 0) :: st) A := x_nx (op := o_push 1 (.int 0)) rfl rfl
theorem x_351_29  : exG TB d 351 29 L st A = exG TB d 351 31 L (.int (nI 100000) :: st) A := x_nx (op := o_push 2 (.int 100000)) rfl rfl
theorem x_351_31  : exG TB d 351 31 L [b2, b1, b0] A = kc (evG TB d 293 [b0, b1, b2] A) d 351 34 L [] := x_cv (op := o_cs 293 3 false none) rfl rfl x_noh rfl
theorem x_351_34  : exG TB d 351 34 L (.int i1 :: st) A = if ¬ i1 = nI 0 then exG TB d 351 43 L st A else exG TB d 351 37 L st A := x_if (op := o_if (fun x => decide (¬ x = 0)) 43) rfl rfl rfl
theorem x_351_37  : exG TB d 351 37 (some v :: r9) st A = rg v (exG TB d 351 38 (some v :: r9) (v :: st) A) := x_rg (op := o_aload 0 1) rfl rfl
theorem x_351_38  : exG TB d 351 38 L st A = exG TB d 351 39 L (.int (nI 2) :: st) A := x_nx (op := o_push 1 (.int 2)) rfl rfl
theorem x_351_39  : exG TB d 351 39 L [b0, .ref p] A = kw (sel (gc A p) [(30, 291)]) [.ref p, b0] d 351 42 L [] A := x_cvb (op := o_cv [(30, 291)] 1 3 false none) rfl rfl x_noh rfl
theorem x_351_42  : exG TB d 351 42 L [v] A = ck (okv 1 v) (some (.inl (some v), A)) := x_outg (op := o_ret 1) rfl rfl
theorem x_351_43  : exG TB d 351 43 (some v :: r9) st A = rg v (exG TB d 351 44 (some v :: r9) (v :: st) A) := x_rg (op := o_aload 0 1) rfl rfl
theorem x_351_44  : exG TB d 351 44 L (.ref p :: st) A = kv (gf A p 148) d 351 47 L st A := x_bd (op := o_get 148) rfl rfl (fun _ => rfl)
theorem x_351_47  : exG TB d 351 47 L st A = exG TB d 351 49 L (.int (nI 12) :: st) A := x_nx (op := o_push 2 (.int 12)) rfl rfl
theorem x_351_49  : exG TB d 351 49 L (.int i1 :: .ref p :: st) A = ki (rdI 0 (ga A p) i1) d 351 50 L st A := x_bd (op := o_rdI 0) rfl rfl (fun _ => rfl)
theorem x_351_50  : exG TB d 351 50 L st A = exG TB d 351 52 L (.int (nI 120) :: st) A := x_nx (op := o_push 2 (.int 120)) rfl rfl
theorem x_351_52  : exG TB d 351 52 L (.int i2 :: .int i1 :: st) A = if ¬ i1 = i2 then exG TB d 351 63 L st A else exG TB d 351 55 L st A := x_if (op := o_icmp (fun x y => decide (¬ x = y)) 63) rfl rfl rfl
theorem x_351_55  : exG TB d 351 55 (some v :: r9) st A = rg v (exG TB d 351 56 (some v :: r9) (v :: st) A) := x_rg (op := o_aload 0 1) rfl rfl
theorem x_351_56  : exG TB d 351 56 L st A = exG TB d 351 57 L (.int (nI 3) :: st) A := x_nx (op := o_push 1 (.int 3)) rfl rfl
theorem x_351_57  : exG TB d 351 57 L [b0, .ref p] A = kw (sel (gc A p) [(30, 291)]) [.ref p, b0] d 351 60 L [] A := x_cvb (op := o_cv [(30, 291)] 1 3 false none) rfl rfl x_noh rfl
theorem x_351_60  : exG TB d 351 60 L st A = exG TB d 351 73 L st A := x_nx (op := o_goto 73) rfl rfl
theorem x_351_63  : exG TB d 351 63 (some v :: r9) st A = rg v (exG TB d 351 64 (some v :: r9) (v :: st) A) := x_rg (op := o_aload 0 1) rfl rfl
theorem x_351_64  : exG TB d 351 64 (a0 :: some (.int i1) :: r9) st A = exG TB d 351 65 (a0 :: some (.int i1) :: r9) (.int i1 :: st) A := x_nx (op := o_iload 1 1) rfl rfl
theorem x_351_65  : exG TB d 351 65 (a0 :: a1 :: some (.int i1) :: r9) st A = exG TB d 351 66 (a0 :: a1 :: some (.int i1) :: r9) (.int i1 :: st) A := x_nx (op := o_iload 2 1) rfl rfl
theorem x_351_66  : exG TB d 351 66 (a0 :: a1 :: a2 :: some (.int i1) :: r9) st A = exG TB d 351 67 (a0 :: a1 :: a2 :: some (.int i1) :: r9) (.int i1 :: st) A := x_nx (op := o_iload 3 1) rfl rfl
theorem x_351_67  : exG TB d 351 67 L st A = exG TB d 351 68 L (.int (nI 0) :: st) A := x_nx (op := o_push 1 (.int 0)) rfl rfl
theorem x_351_68  : exG TB d 351 68 L st A = exG TB d 351 70 L (.int (nI 100) :: st) A := x_nx (op := o_push 2 (.int 100)) rfl rfl
theorem x_351_70  : exG TB d 351 70 L [b4, b3, b2, b1, b0, .ref p] A = kw (sel (gc A p) [(30, 352)]) [.ref p, b0, b1, b2, b3, b4] d 351 73 L [] A := x_cvb (op := o_cv [(30, 352)] 5 3 false none) rfl rfl x_noh rfl
theorem x_351_73  : exG TB d 351 73 L [v] A = ck (okv 1 v) (some (.inl (some v), A)) := x_outg (op := o_ret 1) rfl rfl
theorem e_352 {j1 : Int32} {j2 : Int32} {j3 : Int32} {j4 : Int32} {j5 : Int32} : evG TB (d + 1) 352 [.ref p, .int j1, .int j2, .int j3, .int j4, .int j5] A = exG TB d 352 0 [some (.ref p), some (.int j1), some (.int j2), some (.int j3), some (.int j4), some (.int j5), none] [] A := evG_eq TB d 352 _ A
theorem x_352_0  : exG TB d 352 0 (some v :: r9) st A = rg v (exG TB d 352 1 (some v :: r9) (v :: st) A) := x_rg (op := o_aload 0 1) rfl rfl
theorem x_352_1  : exG TB d 352 1 L (.ref p :: st) A = kv (gf A p 148) d 352 4 L st A := x_bd (op := o_get 148) rfl rfl (fun _ => rfl)
theorem x_352_4  : exG TB d 352 4 L st A = exG TB d 352 6 L (.int (nI 12) :: st) A := x_nx (op := o_push 2 (.int 12)) rfl rfl
theorem x_352_6  : exG TB d 352 6 L (.int i1 :: .ref p :: st) A = ki (rdI 0 (ga A p) i1) d 352 7 L st A := x_bd (op := o_rdI 0) rfl rfl (fun _ => rfl)
theorem x_352_7  : exG TB d 352 7 (a0 :: a1 :: a2 :: a3 :: a4 :: a5 :: a6 :: r9) (.int i1 :: st) A = exG TB d 352 9 (a0 :: a1 :: a2 :: a3 :: a4 :: a5 :: some (.int i1) :: r9) st A := x_nx (op := o_istore 6 2) rfl rfl
theorem x_352_9  : exG TB d 352 9 (some v :: r9) st A = rg v (exG TB d 352 10 (some v :: r9) (v :: st) A) := x_rg (op := o_aload 0 1) rfl rfl
theorem x_352_10  : exG TB d 352 10 (a0 :: a1 :: a2 :: a3 :: a4 :: a5 :: some (.int i1) :: r9) st A = exG TB d 352 12 (a0 :: a1 :: a2 :: a3 :: a4 :: a5 :: some (.int i1) :: r9) (.int i1 :: st) A := x_nx (op := o_iload 6 2) rfl rfl
theorem x_352_12  : exG TB d 352 12 L st A = exG TB d 352 13 L (.int (nI 0) :: st) A := x_nx (op := o_push 1 (.int 0)) rfl rfl
theorem x_352_13  : exG TB d 352 13 (a0 :: some (.int i1) :: r9) st A = exG TB d 352 14 (a0 :: some (.int i1) :: r9) (.int i1 :: st) A := x_nx (op := o_iload 1 1) rfl rfl
theorem x_352_14  : exG TB d 352 14 L [b2, b1, b0, .ref p] A = kw0 (sel (gc A p) [(30, 353)]) [.ref p, b0, b1, b2] d 352 17 L [] A := x_c0b (op := o_cv [(30, 353)] 3 3 true none) rfl rfl x_noh rfl
theorem x_352_17  : exG TB d 352 17 (some v :: r9) st A = rg v (exG TB d 352 18 (some v :: r9) (v :: st) A) := x_rg (op := o_aload 0 1) rfl rfl
theorem x_352_18  : exG TB d 352 18 (a0 :: a1 :: a2 :: a3 :: a4 :: a5 :: some (.int i1) :: r9) st A = exG TB d 352 20 (a0 :: a1 :: a2 :: a3 :: a4 :: a5 :: some (.int i1) :: r9) (.int i1 :: st) A := x_nx (op := o_iload 6 2) rfl rfl
theorem x_352_20  : exG TB d 352 20 L st A = exG TB d 352 21 L (.int (nI 1) :: st) A := x_nx (op := o_push 1 (.int 1)) rfl rfl
theorem x_352_21  : exG TB d 352 21 (a0 :: a1 :: some (.int i1) :: r9) st A = exG TB d 352 22 (a0 :: a1 :: some (.int i1) :: r9) (.int i1 :: st) A := x_nx (op := o_iload 2 1) rfl rfl
theorem x_352_22  : exG TB d 352 22 L [b2, b1, b0, .ref p] A = kw0 (sel (gc A p) [(30, 353)]) [.ref p, b0, b1, b2] d 352 25 L [] A := x_c0b (op := o_cv [(30, 353)] 3 3 true none) rfl rfl x_noh rfl
theorem x_352_25  : exG TB d 352 25 (some v :: r9) st A = rg v (exG TB d 352 26 (some v :: r9) (v :: st) A) := x_rg (op := o_aload 0 1) rfl rfl
theorem x_352_26  : exG TB d 352 26 (a0 :: a1 :: a2 :: a3 :: a4 :: a5 :: some (.int i1) :: r9) st A = exG TB d 352 28 (a0 :: a1 :: a2 :: a3 :: a4 :: a5 :: some (.int i1) :: r9) (.int i1 :: st) A := x_nx (op := o_iload 6 2) rfl rfl
theorem x_352_28  : exG TB d 352 28 L st A = exG TB d 352 29 L (.int (nI 2) :: st) A := x_nx (op := o_push 1 (.int 2)) rfl rfl
theorem x_352_29  : exG TB d 352 29 (a0 :: a1 :: a2 :: some (.int i1) :: r9) st A = exG TB d 352 30 (a0 :: a1 :: a2 :: some (.int i1) :: r9) (.int i1 :: st) A := x_nx (op := o_iload 3 1) rfl rfl
theorem x_352_30  : exG TB d 352 30 L [b2, b1, b0, .ref p] A = kw0 (sel (gc A p) [(30, 353)]) [.ref p, b0, b1, b2] d 352 33 L [] A := x_c0b (op := o_cv [(30, 353)] 3 3 true none) rfl rfl x_noh rfl
theorem x_352_33  : exG TB d 352 33 (some v :: r9) st A = rg v (exG TB d 352 34 (some v :: r9) (v :: st) A) := x_rg (op := o_aload 0 1) rfl rfl
theorem x_352_34  : exG TB d 352 34 (a0 :: a1 :: a2 :: a3 :: a4 :: a5 :: some (.int i1) :: r9) st A = exG TB d 352 36 (a0 :: a1 :: a2 :: a3 :: a4 :: a5 :: some (.int i1) :: r9) (.int i1 :: st) A := x_nx (op := o_iload 6 2) rfl rfl
theorem x_352_36  : exG TB d 352 36 L st A = exG TB d 352 37 L (.int (nI 3) :: st) A := x_nx (op := o_push 1 (.int 3)) rfl rfl
theorem x_352_37  : exG TB d 352 37 (a0 :: a1 :: a2 :: a3 :: some (.int i1) :: r9) st A = exG TB d 352 39 (a0 :: a1 :: a2 :: a3 :: some (.int i1) :: r9) (.int i1 :: st) A := x_nx (op := o_iload 4 2) rfl rfl
theorem x_352_39  : exG TB d 352 39 L [b2, b1, b0, .ref p] A = kw0 (sel (gc A p) [(30, 353)]) [.ref p, b0, b1, b2] d 352 42 L [] A := x_c0b (op := o_cv [(30, 353)] 3 3 true none) rfl rfl x_noh rfl
theorem x_352_42  : exG TB d 352 42 (some v :: r9) st A = rg v (exG TB d 352 43 (some v :: r9) (v :: st) A) := x_rg (op := o_aload 0 1) rfl rfl
theorem x_352_43  : exG TB d 352 43 (a0 :: a1 :: a2 :: a3 :: a4 :: a5 :: some (.int i1) :: r9) st A = exG TB d 352 45 (a0 :: a1 :: a2 :: a3 :: a4 :: a5 :: some (.int i1) :: r9) (.int i1 :: st) A := x_nx (op := o_iload 6 2) rfl rfl
theorem x_352_45  : exG TB d 352 45 L st A = exG TB d 352 46 L (.int (nI 4) :: st) A := x_nx (op := o_push 1 (.int 4)) rfl rfl
theorem x_352_46  : exG TB d 352 46 (a0 :: a1 :: a2 :: a3 :: a4 :: some (.int i1) :: r9) st A = exG TB d 352 48 (a0 :: a1 :: a2 :: a3 :: a4 :: some (.int i1) :: r9) (.int i1 :: st) A := x_nx (op := o_iload 5 2) rfl rfl
theorem x_352_48  : exG TB d 352 48 L [b2, b1, b0, .ref p] A = kw0 (sel (gc A p) [(30, 353)]) [.ref p, b0, b1, b2] d 352 51 L [] A := x_c0b (op := o_cv [(30, 353)] 3 3 true none) rfl rfl x_noh rfl
theorem x_352_51  : exG TB d 352 51 (some v :: r9) st A = rg v (exG TB d 352 52 (some v :: r9) (v :: st) A) := x_rg (op := o_aload 0 1) rfl rfl
theorem x_352_52  : exG TB d 352 52 (a0 :: a1 :: a2 :: a3 :: a4 :: a5 :: some (.int i1) :: r9) st A = exG TB d 352 54 (a0 :: a1 :: a2 :: a3 :: a4 :: a5 :: some (.int i1) :: r9) (.int i1 :: st) A := x_nx (op := o_iload 6 2) rfl rfl
theorem x_352_54  : exG TB d 352 54 L st A = exG TB d 352 55 L (.int (nI 5) :: st) A := x_nx (op := o_push 1 (.int 5)) rfl rfl
theorem x_352_55  : exG TB d 352 55 L st A = exG TB d 352 56 L (.int (nI 0) :: st) A := x_nx (op := o_push 1 (.int 0)) rfl rfl
theorem x_352_56  : exG TB d 352 56 L [b2, b1, b0, .ref p] A = kw0 (sel (gc A p) [(30, 353)]) [.ref p, b0, b1, b2] d 352 59 L [] A := x_c0b (op := o_cv [(30, 353)] 3 3 true none) rfl rfl x_noh rfl
theorem x_352_59  : exG TB d 352 59 (some v :: r9) st A = rg v (exG TB d 352 60 (some v :: r9) (v :: st) A) := x_rg (op := o_aload 0 1) rfl rfl
theorem x_352_60  : exG TB d 352 60 (a0 :: a1 :: a2 :: a3 :: a4 :: a5 :: some (.int i1) :: r9) st A = exG TB d 352 62 (a0 :: a1 :: a2 :: a3 :: a4 :: a5 :: some (.int i1) :: r9) (.int i1 :: st) A := x_nx (op := o_iload 6 2) rfl rfl
theorem x_352_62  : exG TB d 352 62 L st A = exG TB d 352 64 L (.int (nI 6) :: st) A := x_nx (op := o_push 2 (.int 6)) rfl rfl
theorem x_352_64  : exG TB d 352 64 L st A = exG TB d 352 65 L (.int nN :: st) A := x_nx (op := o_push 1 (.int (-1))) rfl rfl
theorem x_352_65  : exG TB d 352 65 L [b2, b1, b0, .ref p] A = kw0 (sel (gc A p) [(30, 353)]) [.ref p, b0, b1, b2] d 352 68 L [] A := x_c0b (op := o_cv [(30, 353)] 3 3 true none) rfl rfl x_noh rfl
theorem x_352_68  : exG TB d 352 68 (some v :: r9) st A = rg v (exG TB d 352 69 (some v :: r9) (v :: st) A) := x_rg (op := o_aload 0 1) rfl rfl
theorem x_352_69  : exG TB d 352 69 L (.ref p :: st) A = kv (gf A p 148) d 352 72 L st A := x_bd (op := o_get 148) rfl rfl (fun _ => rfl)
theorem x_352_72  : exG TB d 352 72 L st A = exG TB d 352 74 L (.int (nI 12) :: st) A := x_nx (op := o_push 2 (.int 12)) rfl rfl
theorem x_352_74  : exG TB d 352 74 L (v :: v2 :: st) A = ck (c1 v && c1 v2) (exG TB d 352 75 L (v :: v2 :: v :: v2 :: st) A) := x_gd (op := o_dup2) rfl rfl
theorem x_352_75  : exG TB d 352 75 L (.int i1 :: .ref p :: st) A = ki (rdI 0 (ga A p) i1) d 352 76 L st A := x_bd (op := o_rdI 0) rfl rfl (fun _ => rfl)
theorem x_352_76  : exG TB d 352 76 L st A = exG TB d 352 77 L (.int (nI 1) :: st) A := x_nx (op := o_push 1 (.int 1)) rfl rfl
theorem x_352_77  : exG TB d 352 77 L (.int i2 :: .int i1 :: st) A = exG TB d 352 78 L (.int (i1 + i2) :: st) A := x_nx (op := o_iop (fun x y => x + y)) rfl rfl
theorem x_352_78  : exG TB d 352 78 L (.int i2 :: .int i1 :: .ref p :: st) A = ka (wrI 0 (ga A p) i1 i2) p d 352 79 L st A := x_bd (op := o_wrI 0) rfl rfl (fun _ => rfl)
theorem x_352_79  : exG TB d 352 79 (a0 :: a1 :: a2 :: a3 :: some (.int i1) :: r9) st A = exG TB d 352 81 (a0 :: a1 :: a2 :: a3 :: some (.int i1) :: r9) (.int i1 :: st) A := x_nx (op := o_iload 4 2) rfl rfl
theorem x_352_81  : exG TB d 352 81 L (.int i1 :: st) A = if i1 = nI 0 then exG TB d 352 94 L st A else exG TB d 352 84 L st A := x_if (op := o_if (fun x => decide (x = 0)) 94) rfl rfl rfl
theorem x_352_84  : exG TB d 352 84 (a0 :: a1 :: a2 :: a3 :: a4 :: some (.int i1) :: r9) st A = exG TB d 352 86 (a0 :: a1 :: a2 :: a3 :: a4 :: some (.int i1) :: r9) (.int i1 :: st) A := x_nx (op := o_iload 5 2) rfl rfl
theorem x_352_86  : exG TB d 352 86 (some v :: r9) st A = rg v (exG TB d 352 87 (some v :: r9) (v :: st) A) := x_rg (op := o_aload 0 1) rfl rfl
theorem x_352_87  : exG TB d 352 87 L st A = exG TB d 352 88 L (.int (nI 4) :: st) A := x_nx (op := o_push 1 (.int 4)) rfl rfl
theorem x_352_88  : exG TB d 352 88 L [b0, .ref p, w0] A = kw (sel (gc A p) [(30, 328)]) [.ref p, b0] d 352 91 L [w0] A := x_cvb (op := o_cv [(30, 328)] 1 3 false none) rfl rfl x_noh rfl
theorem x_352_91  : exG TB d 352 91 L (.int i2 :: .int i1 :: st) A = if i1 < i2 then exG TB d 352 100 L st A else exG TB d 352 94 L st A := x_if (op := o_icmp (fun x y => decide (x < y)) 100) rfl rfl rfl
theorem x_352_94  : exG TB d 352 94 (some v :: r9) st A = rg v (exG TB d 352 95 (some v :: r9) (v :: st) A) := x_rg (op := o_aload 0 1) rfl rfl
theorem x_352_95  : exG TB d 352 95 (a0 :: a1 :: a2 :: a3 :: a4 :: a5 :: some (.int i1) :: r9) st A = exG TB d 352 97 (a0 :: a1 :: a2 :: a3 :: a4 :: a5 :: some (.int i1) :: r9) (.int i1 :: st) A := x_nx (op := o_iload 6 2) rfl rfl
theorem x_352_97  : exG TB d 352 97 L [b0, .ref p] A = kw0 (sel (gc A p) [(30, 354)]) [.ref p, b0] d 352 100 L [] A := x_c0b (op := o_cv [(30, 354)] 1 3 true none) rfl rfl x_noh rfl
theorem x_352_100  : exG TB d 352 100 (a0 :: a1 :: a2 :: a3 :: a4 :: a5 :: some (.int i1) :: r9) st A = exG TB d 352 102 (a0 :: a1 :: a2 :: a3 :: a4 :: a5 :: some (.int i1) :: r9) (.int i1 :: st) A := x_nx (op := o_iload 6 2) rfl rfl
theorem x_352_102  : exG TB d 352 102 L [v] A = ck (okv 1 v) (some (.inl (some v), A)) := x_outg (op := o_ret 1) rfl rfl
theorem e_353 {j1 : Int32} {j2 : Int32} {j3 : Int32} : evG TB (d + 1) 353 [.ref p, .int j1, .int j2, .int j3] A = exG TB d 353 0 [some (.ref p), some (.int j1), some (.int j2), some (.int j3)] [] A := evG_eq TB d 353 _ A
theorem x_353_0  : exG TB d 353 0 (some v :: r9) st A = rg v (exG TB d 353 1 (some v :: r9) (v :: st) A) := x_rg (op := o_aload 0 1) rfl rfl
theorem x_353_1  : exG TB d 353 1 L (.ref p :: st) A = kv (gf A p 148) d 353 4 L st A := x_bd (op := o_get 148) rfl rfl (fun _ => rfl)
theorem x_353_4  : exG TB d 353 4 L st A = exG TB d 353 7 L (.int (nI 280) :: st) A := x_nx (op := o_push 3 (.int 280)) rfl rfl
theorem x_353_7  : exG TB d 353 7 L st A = exG TB d 353 9 L (.int (nI 7) :: st) A := x_nx (op := o_push 2 (.int 7)) rfl rfl
theorem x_353_9  : exG TB d 353 9 (a0 :: some (.int i1) :: r9) st A = exG TB d 353 10 (a0 :: some (.int i1) :: r9) (.int i1 :: st) A := x_nx (op := o_iload 1 1) rfl rfl
theorem x_353_10  : exG TB d 353 10 L (.int i2 :: .int i1 :: st) A = exG TB d 353 11 L (.int (i1 * i2) :: st) A := x_nx (op := o_iop (fun x y => x * y)) rfl rfl
theorem x_353_11  : exG TB d 353 11 L (.int i2 :: .int i1 :: st) A = exG TB d 353 12 L (.int (i1 + i2) :: st) A := x_nx (op := o_iop (fun x y => x + y)) rfl rfl
theorem x_353_12  : exG TB d 353 12 (a0 :: a1 :: some (.int i1) :: r9) st A = exG TB d 353 13 (a0 :: a1 :: some (.int i1) :: r9) (.int i1 :: st) A := x_nx (op := o_iload 2 1) rfl rfl
theorem x_353_13  : exG TB d 353 13 L (.int i2 :: .int i1 :: st) A = exG TB d 353 14 L (.int (i1 + i2) :: st) A := x_nx (op := o_iop (fun x y => x + y)) rfl rfl
theorem x_353_14  : exG TB d 353 14 (a0 :: a1 :: a2 :: some (.int i1) :: r9) st A = exG TB d 353 15 (a0 :: a1 :: a2 :: some (.int i1) :: r9) (.int i1 :: st) A := x_nx (op := o_iload 3 1) rfl rfl
theorem x_353_15  : exG TB d 353 15 L (.int i2 :: .int i1 :: .ref p :: st) A = ka (wrI 0 (ga A p) i1 i2) p d 353 16 L st A := x_bd (op := o_wrI 0) rfl rfl (fun _ => rfl)
theorem x_353_16  : exG TB d 353 16 L [] A = some (.inl none, A) := x_out (op := o_vret) rfl rfl
theorem e_354 {j1 : Int32} : evG TB (d + 1) 354 [.ref p, .int j1] A = exG TB d 354 0 [some (.ref p), some (.int j1), none] [] A := evG_eq TB d 354 _ A
theorem x_354_0  : exG TB d 354 0 (some v :: r9) st A = rg v (exG TB d 354 1 (some v :: r9) (v :: st) A) := x_rg (op := o_aload 0 1) rfl rfl
theorem x_354_1  : exG TB d 354 1 (some v :: r9) st A = rg v (exG TB d 354 2 (some v :: r9) (v :: st) A) := x_rg (op := o_aload 0 1) rfl rfl
theorem x_354_2  : exG TB d 354 2 (a0 :: some (.int i1) :: r9) st A = exG TB d 354 3 (a0 :: some (.int i1) :: r9) (.int i1 :: st) A := x_nx (op := o_iload 1 1) rfl rfl
theorem x_354_3  : exG TB d 354 3 L st A = exG TB d 354 4 L (.int (nI 0) :: st) A := x_nx (op := o_push 1 (.int 0)) rfl rfl
theorem x_354_4  : exG TB d 354 4 L [b1, b0, .ref p, w0] A = kw (sel (gc A p) [(30, 331)]) [.ref p, b0, b1] d 354 7 L [w0] A := x_cvb (op := o_cv [(30, 331)] 2 3 false none) rfl rfl x_noh rfl
theorem x_354_7  : exG TB d 354 7 L [b0, .ref p] A = kw (sel (gc A p) [(30, 341)]) [.ref p, b0] d 354 10 L [] A := x_cvb (op := o_cv [(30, 341)] 1 3 false none) rfl rfl x_noh rfl
theorem x_354_10  : exG TB d 354 10 (some v :: r9) st A = rg v (exG TB d 354 11 (some v :: r9) (v :: st) A) := x_rg (op := o_aload 0 1) rfl rfl
theorem x_354_11  : exG TB d 354 11 (a0 :: some (.int i1) :: r9) st A = exG TB d 354 12 (a0 :: some (.int i1) :: r9) (.int i1 :: st) A := x_nx (op := o_iload 1 1) rfl rfl
theorem x_354_12  : exG TB d 354 12 L st A = exG TB d 354 13 L (.int (nI 2) :: st) A := x_nx (op := o_push 1 (.int 2)) rfl rfl
theorem x_354_13  : exG TB d 354 13 L [b1, b0, .ref p, w0] A = kw (sel (gc A p) [(30, 331)]) [.ref p, b0, b1] d 354 16 L [w0] A := x_cvb (op := o_cv [(30, 331)] 2 3 false none) rfl rfl x_noh rfl
theorem x_354_16  : exG TB d 354 16 L (.int i2 :: .int i1 :: st) A = if i1 < i2 then exG TB d 354 23 L st A else exG TB d 354 19 L st A := x_if (op := o_icmp (fun x y => decide (x < y)) 23) rfl rfl rfl
theorem x_354_19  : exG TB d 354 19 L st A = exG TB d 354 20 L (.int (nI 1) :: st) A := x_nx (op := o_push 1 (.int 1)) rfl rfl
theorem x_354_20  : exG TB d 354 20 L st A = exG TB d 354 24 L st A := x_nx (op := o_goto 24) rfl rfl
theorem x_354_23  : exG TB d 354 23 L st A = exG TB d 354 24 L (.int (nI 0) :: st) A := x_nx (op := o_push 1 (.int 0)) rfl rfl
theorem x_354_24  : exG TB d 354 24 (a0 :: a1 :: a2 :: r9) (.int i1 :: st) A = exG TB d 354 25 (a0 :: a1 :: some (.int i1) :: r9) st A := x_nx (op := o_istore 2 1) rfl rfl
theorem x_354_25  : exG TB d 354 25 (some v :: r9) st A = rg v (exG TB d 354 26 (some v :: r9) (v :: st) A) := x_rg (op := o_aload 0 1) rfl rfl
theorem x_354_26  : exG TB d 354 26 (a0 :: some (.int i1) :: r9) st A = exG TB d 354 27 (a0 :: some (.int i1) :: r9) (.int i1 :: st) A := x_nx (op := o_iload 1 1) rfl rfl
theorem x_354_27  : exG TB d 354 27 L st A = exG TB d 354 28 L (.int (nI 5) :: st) A := x_nx (op := o_push 1 (.int 5)) rfl rfl
theorem x_354_28  : exG TB d 354 28 (a0 :: a1 :: some (.int i1) :: r9) st A = exG TB d 354 29 (a0 :: a1 :: some (.int i1) :: r9) (.int i1 :: st) A := x_nx (op := o_iload 2 1) rfl rfl
theorem x_354_29  : exG TB d 354 29 L (.int i1 :: st) A = if i1 = nI 0 then exG TB d 354 36 L st A else exG TB d 354 32 L st A := x_if (op := o_if (fun x => decide (x = 0)) 36) rfl rfl rfl
theorem x_354_32  : exG TB d 354 32 L st A = exG TB d 354 33 L (.int (nI 4) :: st) A := x_nx (op := o_push 1 (.int 4)) rfl rfl
theorem x_354_33  : exG TB d 354 33 L st A = exG TB d 354 37 L st A := x_nx (op := o_goto 37) rfl rfl
theorem x_354_36  : exG TB d 354 36 L st A = exG TB d 354 37 L (.int (nI 1) :: st) A := x_nx (op := o_push 1 (.int 1)) rfl rfl
theorem x_354_37  : exG TB d 354 37 L [b2, b1, b0, .ref p] A = kw0 (sel (gc A p) [(30, 353)]) [.ref p, b0, b1, b2] d 354 40 L [] A := x_c0b (op := o_cv [(30, 353)] 3 3 true none) rfl rfl x_noh rfl
theorem x_354_40  : exG TB d 354 40 L [] A = some (.inl none, A) := x_out (op := o_vret) rfl rfl
theorem e_355 {j1 : Int32} {j2 : Int32} {j3 : Int32} {j4 : Int32} : evG TB (d + 1) 355 [.ref p, .int j1, .int j2, .int j3, .int j4] A = exG TB d 355 0 [some (.ref p), some (.int j1), some (.int j2), some (.int j3), some (.int j4)] [] A := evG_eq TB d 355 _ A
theorem x_355_0  : exG TB d 355 0 (some v :: r9) st A = rg v (exG TB d 355 1 (some v :: r9) (v :: st) A) := x_rg (op := o_aload 0 1) rfl rfl
theorem x_355_1  : exG TB d 355 1 L st A = exG TB d 355 2 L (.int (nI 0) :: st) A := x_nx (op := o_push 1 (.int 0)) rfl rfl
theorem x_355_2  : exG TB d 355 2 L (v :: .ref p :: st) A = ck ((gf A p 155).isSome && okv 1 v) (exG TB d 355 5 L st (setf A p 155 v)) := x_gd (op := o_put 155 1) rfl rfl
theorem x_355_5  : exG TB d 355 5 (some v :: r9) st A = rg v (exG TB d 355 6 (some v :: r9) (v :: st) A) := x_rg (op := o_aload 0 1) rfl rfl
theorem x_355_6  : exG TB d 355 6 (a0 :: some (.int i1) :: r9) st A = exG TB d 355 7 (a0 :: some (.int i1) :: r9) (.int i1 :: st) A := x_nx (op := o_iload 1 1) rfl rfl
theorem x_355_7  : exG TB d 355 7 L [b0, .ref p] A = kw (sel (gc A p) [(30, 338)]) [.ref p, b0] d 355 10 L [] A := x_cvb (op := o_cv [(30, 338)] 1 3 false none) rfl rfl x_noh rfl
theorem x_355_10  : exG TB d 355 10 L (.int i1 :: st) A = if i1 = nI 0 then exG TB d 355 21 L st A else exG TB d 355 13 L st A := x_if (op := o_if (fun x => decide (x = 0)) 21) rfl rfl rfl
theorem x_355_13  : exG TB d 355 13 (some v :: r9) st A = rg v (exG TB d 355 14 (some v :: r9) (v :: st) A) := x_rg (op := o_aload 0 1) rfl rfl
theorem x_355_14  : exG TB d 355 14 (a0 :: a1 :: some (.int i1) :: r9) st A = exG TB d 355 15 (a0 :: a1 :: some (.int i1) :: r9) (.int i1 :: st) A := x_nx (op := o_iload 2 1) rfl rfl
theorem x_355_15  : exG TB d 355 15 L [b0, .ref p] A = kw (sel (gc A p) [(30, 323)]) [.ref p, b0] d 355 18 L [] A := x_cvb (op := o_cv [(30, 323)] 1 3 false none) rfl rfl x_noh rfl
theorem x_355_18  : exG TB d 355 18 L (.int i1 :: st) A = if ¬ i1 = nI 0 then exG TB d 355 27 L st A else exG TB d 355 21 L st A := x_if (op := o_if (fun x => decide (¬ x = 0)) 27) rfl rfl rfl
theorem x_355_21  : exG TB d 355 21 (some v :: r9) st A = rg v (exG TB d 355 22 (some v :: r9) (v :: st) A) := x_rg (op := o_aload 0 1) rfl rfl
theorem x_355_22  : exG TB d 355 22 L st A = exG TB d 355 23 L (.int (nI 1) :: st) A := x_nx (op := o_push 1 (.int 1)) rfl rfl
theorem x_355_23  : exG TB d 355 23 L [b0, .ref p] A = kw (sel (gc A p) [(30, 291)]) [.ref p, b0] d 355 26 L [] A := x_cvb (op := o_cv [(30, 291)] 1 3 false none) rfl rfl x_noh rfl
theorem x_355_26  : exG TB d 355 26 L [v] A = ck (okv 1 v) (some (.inl (some v), A)) := x_outg (op := o_ret 1) rfl rfl
theorem x_355_27  : exG TB d 355 27 (a0 :: a1 :: a2 :: some (.int i1) :: r9) st A = exG TB d 355 28 (a0 :: a1 :: a2 :: some (.int i1) :: r9) (.int i1 :: st) A := x_nx (op := o_iload 3 1) rfl rfl
theorem x_355_28  : exG TB d 355 28 L st A = exG TB d 355 29 L (.int (nI 0) :: st) A := x_nx (op := o_push 1 (.int 0)) rfl rfl
theorem x_355_29  : exG TB d 355 29 L st A = exG TB d 355 31 L (.int (nI 100000) :: st) A := x_nx (op := o_push 2 (.int 100000)) rfl rfl
theorem x_355_31  : exG TB d 355 31 L [b2, b1, b0] A = kc (evG TB d 293 [b0, b1, b2] A) d 355 34 L [] := x_cv (op := o_cs 293 3 false none) rfl rfl x_noh rfl
theorem x_355_34  : exG TB d 355 34 L (.int i1 :: st) A = if i1 = nI 0 then exG TB d 355 48 L st A else exG TB d 355 37 L st A := x_if (op := o_if (fun x => decide (x = 0)) 48) rfl rfl rfl
theorem x_355_37  : exG TB d 355 37 (a0 :: a1 :: a2 :: a3 :: some (.int i1) :: r9) st A = exG TB d 355 39 (a0 :: a1 :: a2 :: a3 :: some (.int i1) :: r9) (.int i1 :: st) A := x_nx (op := o_iload 4 2) rfl rfl
theorem x_355_39  : exG TB d 355 39 L st A = exG TB d 355 40 L (.int (nI 0) :: st) A := x_nx (op := o_push 1 (.int 0)) rfl rfl
theorem x_355_40  : exG TB d 355 40 L st A = exG TB d 355 42 L (.int (nI 100) :: st) A := x_nx (op := o_push 2 (.int 100)) rfl rfl
theorem x_355_42  : exG TB d 355 42 L [b2, b1, b0] A = kc (evG TB d 293 [b0, b1, b2] A) d 355 45 L [] := x_cv (op := o_cs 293 3 false none) rfl rfl x_noh rfl
theorem x_355_45  : exG TB d 355 45 L (.int i1 :: st) A = if ¬ i1 = nI 0 then exG TB d 355 54 L st A else exG TB d 355 48 L st A := x_if (op := o_if (fun x => decide (¬ x = 0)) 54) rfl rfl rfl
theorem x_355_48  : exG TB d 355 48 (some v :: r9) st A = rg v (exG TB d 355 49 (some v :: r9) (v :: st) A) := x_rg (op := o_aload 0 1) rfl rfl
theorem x_355_49  : exG TB d 355 49 L st A = exG TB d 355 50 L (.int (nI 2) :: st) A := x_nx (op := o_push 1 (.int 2)) rfl rfl
theorem x_355_50  : exG TB d 355 50 L [b0, .ref p] A = kw (sel (gc A p) [(30, 291)]) [.ref p, b0] d 355 53 L [] A := x_cvb (op := o_cv [(30, 291)] 1 3 false none) rfl rfl x_noh rfl
theorem x_355_53  : exG TB d 355 53 L [v] A = ck (okv 1 v) (some (.inl (some v), A)) := x_outg (op := o_ret 1) rfl rfl
theorem x_355_54  : exG TB d 355 54 (some v :: r9) st A = rg v (exG TB d 355 55 (some v :: r9) (v :: st) A) := x_rg (op := o_aload 0 1) rfl rfl
theorem x_355_55  : exG TB d 355 55 L (.ref p :: st) A = kv (gf A p 148) d 355 58 L st A := x_bd (op := o_get 148) rfl rfl (fun _ => rfl)
theorem x_355_58  : exG TB d 355 58 L st A = exG TB d 355 60 L (.int (nI 12) :: st) A := x_nx (op := o_push 2 (.int 12)) rfl rfl
theorem x_355_60  : exG TB d 355 60 L (.int i1 :: .ref p :: st) A = ki (rdI 0 (ga A p) i1) d 355 61 L st A := x_bd (op := o_rdI 0) rfl rfl (fun _ => rfl)
theorem x_355_61  : exG TB d 355 61 L st A = exG TB d 355 63 L (.int (nI 120) :: st) A := x_nx (op := o_push 2 (.int 120)) rfl rfl
theorem x_355_63  : exG TB d 355 63 L (.int i2 :: .int i1 :: st) A = if ¬ i1 = i2 then exG TB d 355 74 L st A else exG TB d 355 66 L st A := x_if (op := o_icmp (fun x y => decide (¬ x = y)) 74) rfl rfl rfl
theorem x_355_66  : exG TB d 355 66 (some v :: r9) st A = rg v (exG TB d 355 67 (some v :: r9) (v :: st) A) := x_rg (op := o_aload 0 1) rfl rfl
theorem x_355_67  : exG TB d 355 67 L st A = exG TB d 355 68 L (.int (nI 3) :: st) A := x_nx (op := o_push 1 (.int 3)) rfl rfl
theorem x_355_68  : exG TB d 355 68 L [b0, .ref p] A = kw (sel (gc A p) [(30, 291)]) [.ref p, b0] d 355 71 L [] A := x_cvb (op := o_cv [(30, 291)] 1 3 false none) rfl rfl x_noh rfl
theorem x_355_71  : exG TB d 355 71 L st A = exG TB d 355 84 L st A := x_nx (op := o_goto 84) rfl rfl
theorem x_355_74  : exG TB d 355 74 (some v :: r9) st A = rg v (exG TB d 355 75 (some v :: r9) (v :: st) A) := x_rg (op := o_aload 0 1) rfl rfl
theorem x_355_75  : exG TB d 355 75 (a0 :: some (.int i1) :: r9) st A = exG TB d 355 76 (a0 :: some (.int i1) :: r9) (.int i1 :: st) A := x_nx (op := o_iload 1 1) rfl rfl
theorem x_355_76  : exG TB d 355 76 (a0 :: a1 :: some (.int i1) :: r9) st A = exG TB d 355 77 (a0 :: a1 :: some (.int i1) :: r9) (.int i1 :: st) A := x_nx (op := o_iload 2 1) rfl rfl
theorem x_355_77  : exG TB d 355 77 (a0 :: a1 :: a2 :: some (.int i1) :: r9) st A = exG TB d 355 78 (a0 :: a1 :: a2 :: some (.int i1) :: r9) (.int i1 :: st) A := x_nx (op := o_iload 3 1) rfl rfl
theorem x_355_78  : exG TB d 355 78 L st A = exG TB d 355 79 L (.int (nI 1) :: st) A := x_nx (op := o_push 1 (.int 1)) rfl rfl
theorem x_355_79  : exG TB d 355 79 (a0 :: a1 :: a2 :: a3 :: some (.int i1) :: r9) st A = exG TB d 355 81 (a0 :: a1 :: a2 :: a3 :: some (.int i1) :: r9) (.int i1 :: st) A := x_nx (op := o_iload 4 2) rfl rfl
theorem x_355_81  : exG TB d 355 81 L [b4, b3, b2, b1, b0, .ref p] A = kw (sel (gc A p) [(30, 352)]) [.ref p, b0, b1, b2, b3, b4] d 355 84 L [] A := x_cvb (op := o_cv [(30, 352)] 5 3 false none) rfl rfl x_noh rfl
theorem x_355_84  : exG TB d 355 84 L [v] A = ck (okv 1 v) (some (.inl (some v), A)) := x_outg (op := o_ret 1) rfl rfl
theorem e_356 {j1 : Int32} {j2 : Int32} : evG TB (d + 1) 356 [.ref p, .int j1, .int j2] A = exG TB d 356 0 [some (.ref p), some (.int j1), some (.int j2)] [] A := evG_eq TB d 356 _ A
theorem x_356_0  : exG TB d 356 0 (some v :: r9) st A = rg v (exG TB d 356 1 (some v :: r9) (v :: st) A) := x_rg (op := o_aload 0 1) rfl rfl
theorem x_356_1  : exG TB d 356 1 L st A = exG TB d 356 2 L (.int (nI 0) :: st) A := x_nx (op := o_push 1 (.int 0)) rfl rfl
theorem x_356_2  : exG TB d 356 2 L (v :: .ref p :: st) A = ck ((gf A p 155).isSome && okv 1 v) (exG TB d 356 5 L st (setf A p 155 v)) := x_gd (op := o_put 155 1) rfl rfl
theorem x_356_5  : exG TB d 356 5 (some v :: r9) st A = rg v (exG TB d 356 6 (some v :: r9) (v :: st) A) := x_rg (op := o_aload 0 1) rfl rfl
theorem x_356_6  : exG TB d 356 6 (a0 :: some (.int i1) :: r9) st A = exG TB d 356 7 (a0 :: some (.int i1) :: r9) (.int i1 :: st) A := x_nx (op := o_iload 1 1) rfl rfl
theorem x_356_7  : exG TB d 356 7 L [b0, .ref p] A = kw (sel (gc A p) [(30, 357)]) [.ref p, b0] d 356 10 L [] A := x_cvb (op := o_cv [(30, 357)] 1 3 false none) rfl rfl x_noh rfl
theorem x_356_10  : exG TB d 356 10 L (.int i1 :: st) A = if ¬ i1 = nI 0 then exG TB d 356 19 L st A else exG TB d 356 13 L st A := x_if (op := o_if (fun x => decide (¬ x = 0)) 19) rfl rfl rfl
theorem x_356_13  : exG TB d 356 13 (some v :: r9) st A = rg v (exG TB d 356 14 (some v :: r9) (v :: st) A) := x_rg (op := o_aload 0 1) rfl rfl
theorem x_356_14  : exG TB d 356 14 L st A = exG TB d 356 15 L (.int (nI 1) :: st) A := x_nx (op := o_push 1 (.int 1)) rfl rfl
theorem x_356_15  : exG TB d 356 15 L [b0, .ref p] A = kw (sel (gc A p) [(30, 291)]) [.ref p, b0] d 356 18 L [] A := x_cvb (op := o_cv [(30, 291)] 1 3 false none) rfl rfl x_noh rfl
theorem x_356_18  : exG TB d 356 18 L [v] A = ck (okv 1 v) (some (.inl (some v), A)) := x_outg (op := o_ret 1) rfl rfl
theorem x_356_19  : exG TB d 356 19 (a0 :: a1 :: some (.int i1) :: r9) st A = exG TB d 356 20 (a0 :: a1 :: some (.int i1) :: r9) (.int i1 :: st) A := x_nx (op := o_iload 2 1) rfl rfl
theorem x_356_20  : exG TB d 356 20 L st A = exG TB d 356 21 L (.int (nI 0) :: st) A := x_nx (op := o_push 1 (.int 0)) rfl rfl
theorem x_356_21  : exG TB d 356 21 L st A = exG TB d 356 23 L (.int (nI 6) :: st) A := x_nx (op := o_push 2 (.int 6)) rfl rfl
theorem x_356_23  : exG TB d 356 23 L [b2, b1, b0] A = kc (evG TB d 293 [b0, b1, b2] A) d 356 26 L [] := x_cv (op := o_cs 293 3 false none) rfl rfl x_noh rfl
theorem x_356_26  : exG TB d 356 26 L (.int i1 :: st) A = if i1 = nI 0 then exG TB d 356 38 L st A else exG TB d 356 29 L st A := x_if (op := o_if (fun x => decide (x = 0)) 38) rfl rfl rfl
theorem x_356_29  : exG TB d 356 29 (some v :: r9) st A = rg v (exG TB d 356 30 (some v :: r9) (v :: st) A) := x_rg (op := o_aload 0 1) rfl rfl
theorem x_356_30  : exG TB d 356 30 (a0 :: some (.int i1) :: r9) st A = exG TB d 356 31 (a0 :: some (.int i1) :: r9) (.int i1 :: st) A := x_nx (op := o_iload 1 1) rfl rfl
theorem x_356_31  : exG TB d 356 31 (a0 :: a1 :: some (.int i1) :: r9) st A = exG TB d 356 32 (a0 :: a1 :: some (.int i1) :: r9) (.int i1 :: st) A := x_nx (op := o_iload 2 1) rfl rfl
theorem x_356_32  : exG TB d 356 32 L [b1, b0, .ref p] A = kw (sel (gc A p) [(30, 331)]) [.ref p, b0, b1] d 356 35 L [] A := x_cvb (op := o_cv [(30, 331)] 2 3 false none) rfl rfl x_noh rfl
theorem x_356_35  : exG TB d 356 35 L st A = exG TB d 356 43 L st A := x_nx (op := o_goto 43) rfl rfl
theorem x_356_38  : exG TB d 356 38 (some v :: r9) st A = rg v (exG TB d 356 39 (some v :: r9) (v :: st) A) := x_rg (op := o_aload 0 1) rfl rfl
theorem x_356_39  : exG TB d 356 39 L st A = exG TB d 356 40 L (.int (nI 2) :: st) A := x_nx (op := o_push 1 (.int 2)) rfl rfl
theorem x_356_40  : exG TB d 356 40 L [b0, .ref p] A = kw (sel (gc A p) [(30, 291)]) [.ref p, b0] d 356 43 L [] A := x_cvb (op := o_cv [(30, 291)] 1 3 false none) rfl rfl x_noh rfl
theorem x_356_43  : exG TB d 356 43 L [v] A = ck (okv 1 v) (some (.inl (some v), A)) := x_outg (op := o_ret 1) rfl rfl
theorem e_357 {j1 : Int32} : evG TB (d + 1) 357 [.ref p, .int j1] A = exG TB d 357 0 [some (.ref p), some (.int j1)] [] A := evG_eq TB d 357 _ A
theorem x_357_0  : exG TB d 357 0 (a0 :: some (.int i1) :: r9) st A = exG TB d 357 1 (a0 :: some (.int i1) :: r9) (.int i1 :: st) A := x_nx (op := o_iload 1 1) rfl rfl
theorem x_357_1  : exG TB d 357 1 L st A = exG TB d 357 2 L (.int (nI 0) :: st) A := x_nx (op := o_push 1 (.int 0)) rfl rfl
theorem x_357_2  : exG TB d 357 2 (some v :: r9) st A = rg v (exG TB d 357 3 (some v :: r9) (v :: st) A) := x_rg (op := o_aload 0 1) rfl rfl
theorem x_357_3  : exG TB d 357 3 L (.ref p :: st) A = kv (gf A p 148) d 357 6 L st A := x_bd (op := o_get 148) rfl rfl (fun _ => rfl)
theorem x_357_6  : exG TB d 357 6 L st A = exG TB d 357 8 L (.int (nI 12) :: st) A := x_nx (op := o_push 2 (.int 12)) rfl rfl
theorem x_357_8  : exG TB d 357 8 L (.int i1 :: .ref p :: st) A = ki (rdI 0 (ga A p) i1) d 357 9 L st A := x_bd (op := o_rdI 0) rfl rfl (fun _ => rfl)
theorem x_357_9  : exG TB d 357 9 L st A = exG TB d 357 10 L (.int (nI 1) :: st) A := x_nx (op := o_push 1 (.int 1)) rfl rfl
theorem x_357_10  : exG TB d 357 10 L (.int i2 :: .int i1 :: st) A = exG TB d 357 11 L (.int (i1 - i2) :: st) A := x_nx (op := o_iop (fun x y => x - y)) rfl rfl
theorem x_357_11  : exG TB d 357 11 L [b2, b1, b0] A = kc (evG TB d 293 [b0, b1, b2] A) d 357 14 L [] := x_cv (op := o_cs 293 3 false none) rfl rfl x_noh rfl
theorem x_357_14  : exG TB d 357 14 L [v] A = ck (okv 5 v) (some (.inl (some v), A)) := x_outg (op := o_ret 5) rfl rfl
theorem e_358 {j1 : Int32} : evG TB (d + 1) 358 [.ref p, .int j1] A = exG TB d 358 0 [some (.ref p), some (.int j1)] [] A := evG_eq TB d 358 _ A
theorem x_358_0  : exG TB d 358 0 (some v :: r9) st A = rg v (exG TB d 358 1 (some v :: r9) (v :: st) A) := x_rg (op := o_aload 0 1) rfl rfl
theorem x_358_1  : exG TB d 358 1 L st A = exG TB d 358 2 L (.int (nI 0) :: st) A := x_nx (op := o_push 1 (.int 0)) rfl rfl
theorem x_358_2  : exG TB d 358 2 L (v :: .ref p :: st) A = ck ((gf A p 155).isSome && okv 1 v) (exG TB d 358 5 L st (setf A p 155 v)) := x_gd (op := o_put 155 1) rfl rfl
theorem x_358_5  : exG TB d 358 5 (a0 :: some (.int i1) :: r9) st A = exG TB d 358 6 (a0 :: some (.int i1) :: r9) (.int i1 :: st) A := x_nx (op := o_iload 1 1) rfl rfl
theorem x_358_6  : exG TB d 358 6 L (.int i1 :: st) A = if nI 0 ≤ i1 then exG TB d 358 17 L st A else exG TB d 358 9 L st A := x_if (op := o_if (fun x => decide (0 ≤ x)) 17) rfl rfl rfl
theorem x_358_9  : exG TB d 358 9 (some v :: r9) st A = rg v (exG TB d 358 10 (some v :: r9) (v :: st) A) := x_rg (op := o_aload 0 1) rfl rfl
theorem x_358_10  : exG TB d 358 10 L st A = exG TB d 358 11 L (.int (nI 1) :: st) A := x_nx (op := o_push 1 (.int 1)) rfl rfl
theorem x_358_11  : exG TB d 358 11 L [b0, .ref p] A = kw (sel (gc A p) [(30, 291)]) [.ref p, b0] d 358 14 L [] A := x_cvb (op := o_cv [(30, 291)] 1 3 false none) rfl rfl x_noh rfl
theorem x_358_14  : exG TB d 358 14 L st A = exG TB d 358 22 L st A := x_nx (op := o_goto 22) rfl rfl
theorem x_358_17  : exG TB d 358 17 (some v :: r9) st A = rg v (exG TB d 358 18 (some v :: r9) (v :: st) A) := x_rg (op := o_aload 0 1) rfl rfl
theorem x_358_18  : exG TB d 358 18 (a0 :: some (.int i1) :: r9) st A = exG TB d 358 19 (a0 :: some (.int i1) :: r9) (.int i1 :: st) A := x_nx (op := o_iload 1 1) rfl rfl
theorem x_358_19  : exG TB d 358 19 L [b0, .ref p] A = kw (sel (gc A p) [(30, 359)]) [.ref p, b0] d 358 22 L [] A := x_cvb (op := o_cv [(30, 359)] 1 3 false none) rfl rfl x_noh rfl
theorem x_358_22  : exG TB d 358 22 L [v] A = ck (okv 1 v) (some (.inl (some v), A)) := x_outg (op := o_ret 1) rfl rfl
theorem e_359 {j1 : Int32} : evG TB (d + 1) 359 [.ref p, .int j1] A = exG TB d 359 0 [some (.ref p), some (.int j1), none, none, none] [] A := evG_eq TB d 359 _ A
theorem x_359_0  : exG TB d 359 0 L st A = exG TB d 359 1 L (.int (nI 0) :: st) A := x_nx (op := o_push 1 (.int 0)) rfl rfl
theorem x_359_1  : exG TB d 359 1 (a0 :: a1 :: a2 :: r9) (.int i1 :: st) A = exG TB d 359 2 (a0 :: a1 :: some (.int i1) :: r9) st A := x_nx (op := o_istore 2 1) rfl rfl
theorem x_359_2  : exG TB d 359 2 (a0 :: a1 :: some (.int i1) :: r9) st A = exG TB d 359 3 (a0 :: a1 :: some (.int i1) :: r9) (.int i1 :: st) A := x_nx (op := o_iload 2 1) rfl rfl
theorem x_359_3  : exG TB d 359 3 (some v :: r9) st A = rg v (exG TB d 359 4 (some v :: r9) (v :: st) A) := x_rg (op := o_aload 0 1) rfl rfl
theorem x_359_4  : exG TB d 359 4 L (.ref p :: st) A = kv (gf A p 148) d 359 7 L st A := x_bd (op := o_get 148) rfl rfl (fun _ => rfl)
theorem x_359_7  : exG TB d 359 7 L st A = exG TB d 359 9 L (.int (nI 12) :: st) A := x_nx (op := o_push 2 (.int 12)) rfl rfl
theorem x_359_9  : exG TB d 359 9 L (.int i1 :: .ref p :: st) A = ki (rdI 0 (ga A p) i1) d 359 10 L st A := x_bd (op := o_rdI 0) rfl rfl (fun _ => rfl)
theorem x_359_10  : exG TB d 359 10 L (.int i2 :: .int i1 :: st) A = if i2 ≤ i1 then exG TB d 359 95 L st A else exG TB d 359 13 L st A := x_if (op := o_icmp (fun x y => decide (y ≤ x)) 95) rfl rfl rfl
theorem x_359_13  : exG TB d 359 13 (some v :: r9) st A = rg v (exG TB d 359 14 (some v :: r9) (v :: st) A) := x_rg (op := o_aload 0 1) rfl rfl
theorem x_359_14  : exG TB d 359 14 (a0 :: a1 :: some (.int i1) :: r9) st A = exG TB d 359 15 (a0 :: a1 :: some (.int i1) :: r9) (.int i1 :: st) A := x_nx (op := o_iload 2 1) rfl rfl
theorem x_359_15  : exG TB d 359 15 L st A = exG TB d 359 16 L (.int (nI 5) :: st) A := x_nx (op := o_push 1 (.int 5)) rfl rfl
theorem x_359_16  : exG TB d 359 16 L [b1, b0, .ref p] A = kw (sel (gc A p) [(30, 331)]) [.ref p, b0, b1] d 359 19 L [] A := x_cvb (op := o_cv [(30, 331)] 2 3 false none) rfl rfl x_noh rfl
theorem x_359_19  : exG TB d 359 19 L (.int i1 :: st) A = if i1 = nI 0 then exG TB d 359 25 L st A else exG TB d 359 22 L st A := x_if (op := o_if (fun x => decide (x = 0)) 25) rfl rfl rfl
theorem x_359_22  : exG TB d 359 22 L st A = exG TB d 359 89 L st A := x_nx (op := o_goto 89) rfl rfl
theorem x_359_25  : exG TB d 359 25 L st A = exG TB d 359 26 L (.int (nI 0) :: st) A := x_nx (op := o_push 1 (.int 0)) rfl rfl
theorem x_359_26  : exG TB d 359 26 (a0 :: a1 :: a2 :: a3 :: r9) (.int i1 :: st) A = exG TB d 359 27 (a0 :: a1 :: a2 :: some (.int i1) :: r9) st A := x_nx (op := o_istore 3 1) rfl rfl
theorem x_359_27  : exG TB d 359 27 L st A = exG TB d 359 28 L (.int (nI 0) :: st) A := x_nx (op := o_push 1 (.int 0)) rfl rfl
theorem x_359_28  : exG TB d 359 28 (a0 :: a1 :: a2 :: a3 :: a4 :: r9) (.int i1 :: st) A = exG TB d 359 30 (a0 :: a1 :: a2 :: a3 :: some (.int i1) :: r9) st A := x_nx (op := o_istore 4 2) rfl rfl
theorem x_359_30  : exG TB d 359 30 (a0 :: a1 :: a2 :: a3 :: some (.int i1) :: r9) st A = exG TB d 359 32 (a0 :: a1 :: a2 :: a3 :: some (.int i1) :: r9) (.int i1 :: st) A := x_nx (op := o_iload 4 2) rfl rfl
theorem x_359_32  : exG TB d 359 32 (some v :: r9) st A = rg v (exG TB d 359 33 (some v :: r9) (v :: st) A) := x_rg (op := o_aload 0 1) rfl rfl
theorem x_359_33  : exG TB d 359 33 L (.ref p :: st) A = kv (gf A p 148) d 359 36 L st A := x_bd (op := o_get 148) rfl rfl (fun _ => rfl)
theorem x_359_36  : exG TB d 359 36 L st A = exG TB d 359 38 L (.int (nI 12) :: st) A := x_nx (op := o_push 2 (.int 12)) rfl rfl
theorem x_359_38  : exG TB d 359 38 L (.int i1 :: .ref p :: st) A = ki (rdI 0 (ga A p) i1) d 359 39 L st A := x_bd (op := o_rdI 0) rfl rfl (fun _ => rfl)
theorem x_359_39  : exG TB d 359 39 L (.int i2 :: .int i1 :: st) A = if i2 ≤ i1 then exG TB d 359 82 L st A else exG TB d 359 42 L st A := x_if (op := o_icmp (fun x y => decide (y ≤ x)) 82) rfl rfl rfl
theorem x_359_42  : exG TB d 359 42 (a0 :: a1 :: a2 :: some (.int i1) :: r9) st A = exG TB d 359 43 (a0 :: a1 :: a2 :: some (.int i1) :: r9) (.int i1 :: st) A := x_nx (op := o_iload 3 1) rfl rfl
theorem x_359_43  : exG TB d 359 43 (some v :: r9) st A = rg v (exG TB d 359 44 (some v :: r9) (v :: st) A) := x_rg (op := o_aload 0 1) rfl rfl
theorem x_359_44  : exG TB d 359 44 (a0 :: a1 :: a2 :: a3 :: some (.int i1) :: r9) st A = exG TB d 359 46 (a0 :: a1 :: a2 :: a3 :: some (.int i1) :: r9) (.int i1 :: st) A := x_nx (op := o_iload 4 2) rfl rfl
theorem x_359_46  : exG TB d 359 46 L st A = exG TB d 359 47 L (.int (nI 5) :: st) A := x_nx (op := o_push 1 (.int 5)) rfl rfl
theorem x_359_47  : exG TB d 359 47 L [b1, b0, .ref p, w0] A = kw (sel (gc A p) [(30, 331)]) [.ref p, b0, b1] d 359 50 L [w0] A := x_cvb (op := o_cv [(30, 331)] 2 3 false none) rfl rfl x_noh rfl
theorem x_359_50  : exG TB d 359 50 L (.int i1 :: st) A = if ¬ i1 = nI 0 then exG TB d 359 73 L st A else exG TB d 359 53 L st A := x_if (op := o_if (fun x => decide (¬ x = 0)) 73) rfl rfl rfl
theorem x_359_53  : exG TB d 359 53 (a0 :: a1 :: a2 :: a3 :: some (.int i1) :: r9) st A = exG TB d 359 55 (a0 :: a1 :: a2 :: a3 :: some (.int i1) :: r9) (.int i1 :: st) A := x_nx (op := o_iload 4 2) rfl rfl
theorem x_359_55  : exG TB d 359 55 (a0 :: a1 :: some (.int i1) :: r9) st A = exG TB d 359 56 (a0 :: a1 :: some (.int i1) :: r9) (.int i1 :: st) A := x_nx (op := o_iload 2 1) rfl rfl
theorem x_359_56  : exG TB d 359 56 L (.int i2 :: .int i1 :: st) A = if i1 = i2 then exG TB d 359 73 L st A else exG TB d 359 59 L st A := x_if (op := o_icmp (fun x y => decide (x = y)) 73) rfl rfl rfl
theorem x_359_59  : exG TB d 359 59 (some v :: r9) st A = rg v (exG TB d 359 60 (some v :: r9) (v :: st) A) := x_rg (op := o_aload 0 1) rfl rfl
theorem x_359_60  : exG TB d 359 60 (a0 :: a1 :: a2 :: a3 :: some (.int i1) :: r9) st A = exG TB d 359 62 (a0 :: a1 :: a2 :: a3 :: some (.int i1) :: r9) (.int i1 :: st) A := x_nx (op := o_iload 4 2) rfl rfl
theorem x_359_62  : exG TB d 359 62 (a0 :: a1 :: some (.int i1) :: r9) st A = exG TB d 359 63 (a0 :: a1 :: some (.int i1) :: r9) (.int i1 :: st) A := x_nx (op := o_iload 2 1) rfl rfl
theorem x_359_63  : exG TB d 359 63 L [b1, b0, .ref p, w0] A = kw (sel (gc A p) [(30, 360)]) [.ref p, b0, b1] d 359 66 L [w0] A := x_cvb (op := o_cv [(30, 360)] 2 3 false none) rfl rfl x_noh rfl
theorem x_359_66  : exG TB d 359 66 L (.int i1 :: st) A = if i1 = nI 0 then exG TB d 359 73 L st A else exG TB d 359 69 L st A := x_if (op := o_if (fun x => decide (x = 0)) 73) rfl rfl rfl
theorem x_359_69  : exG TB d 359 69 L st A = exG TB d 359 70 L (.int (nI 1) :: st) A := x_nx (op := o_push 1 (.int 1)) rfl rfl
theorem x_359_70  : exG TB d 359 70 L st A = exG TB d 359 74 L st A := x_nx (op := o_goto 74) rfl rfl
theorem x_359_73  : exG TB d 359 73 L st A = exG TB d 359 74 L (.int (nI 0) :: st) A := x_nx (op := o_push 1 (.int 0)) rfl rfl
theorem x_359_74  : exG TB d 359 74 L (.int i2 :: .int i1 :: st) A = exG TB d 359 75 L (.int (i1 + i2) :: st) A := x_nx (op := o_iop (fun x y => x + y)) rfl rfl
theorem x_359_75  : exG TB d 359 75 (a0 :: a1 :: a2 :: a3 :: r9) (.int i1 :: st) A = exG TB d 359 76 (a0 :: a1 :: a2 :: some (.int i1) :: r9) st A := x_nx (op := o_istore 3 1) rfl rfl
theorem x_359_76  : exG TB d 359 76 (a0 :: a1 :: a2 :: a3 :: some (.int i1) :: r9) st A = exG TB d 359 79 (a0 :: a1 :: a2 :: a3 :: some (.int (i1 + (nI 1))) :: r9) st A := x_nx (op := o_iinc 4 1) rfl rfl
theorem x_359_79  : exG TB d 359 79 L st A = exG TB d 359 30 L st A := x_nx (op := o_goto 30) rfl rfl
theorem x_359_82  : exG TB d 359 82 (a0 :: a1 :: a2 :: some (.int i1) :: r9) st A = exG TB d 359 83 (a0 :: a1 :: a2 :: some (.int i1) :: r9) (.int i1 :: st) A := x_nx (op := o_iload 3 1) rfl rfl
theorem x_359_83  : exG TB d 359 83 (a0 :: some (.int i1) :: r9) st A = exG TB d 359 84 (a0 :: some (.int i1) :: r9) (.int i1 :: st) A := x_nx (op := o_iload 1 1) rfl rfl
theorem x_359_84  : exG TB d 359 84 L (.int i2 :: .int i1 :: st) A = if ¬ i1 = i2 then exG TB d 359 89 L st A else exG TB d 359 87 L st A := x_if (op := o_icmp (fun x y => decide (¬ x = y)) 89) rfl rfl rfl
theorem x_359_87  : exG TB d 359 87 (a0 :: a1 :: some (.int i1) :: r9) st A = exG TB d 359 88 (a0 :: a1 :: some (.int i1) :: r9) (.int i1 :: st) A := x_nx (op := o_iload 2 1) rfl rfl
theorem x_359_88  : exG TB d 359 88 L [v] A = ck (okv 1 v) (some (.inl (some v), A)) := x_outg (op := o_ret 1) rfl rfl
theorem x_359_89  : exG TB d 359 89 (a0 :: a1 :: some (.int i1) :: r9) st A = exG TB d 359 92 (a0 :: a1 :: some (.int (i1 + (nI 1))) :: r9) st A := x_nx (op := o_iinc 2 1) rfl rfl
theorem x_359_92  : exG TB d 359 92 L st A = exG TB d 359 2 L st A := x_nx (op := o_goto 2) rfl rfl
theorem x_359_95  : exG TB d 359 95 L st A = exG TB d 359 96 L (.int nN :: st) A := x_nx (op := o_push 1 (.int (-1))) rfl rfl
theorem x_359_96  : exG TB d 359 96 L [v] A = ck (okv 1 v) (some (.inl (some v), A)) := x_outg (op := o_ret 1) rfl rfl
theorem e_360 {j1 : Int32} {j2 : Int32} : evG TB (d + 1) 360 [.ref p, .int j1, .int j2] A = exG TB d 360 0 [some (.ref p), some (.int j1), some (.int j2), none, none, none] [] A := evG_eq TB d 360 _ A
theorem x_360_0  : exG TB d 360 0 (some v :: r9) st A = rg v (exG TB d 360 1 (some v :: r9) (v :: st) A) := x_rg (op := o_aload 0 1) rfl rfl
theorem x_360_1  : exG TB d 360 1 (some v :: r9) st A = rg v (exG TB d 360 2 (some v :: r9) (v :: st) A) := x_rg (op := o_aload 0 1) rfl rfl
theorem x_360_2  : exG TB d 360 2 (a0 :: some (.int i1) :: r9) st A = exG TB d 360 3 (a0 :: some (.int i1) :: r9) (.int i1 :: st) A := x_nx (op := o_iload 1 1) rfl rfl
theorem x_360_3  : exG TB d 360 3 L st A = exG TB d 360 4 L (.int (nI 0) :: st) A := x_nx (op := o_push 1 (.int 0)) rfl rfl
theorem x_360_4  : exG TB d 360 4 L [b1, b0, .ref p, w0] A = kw (sel (gc A p) [(30, 331)]) [.ref p, b0, b1] d 360 7 L [w0] A := x_cvb (op := o_cv [(30, 331)] 2 3 false none) rfl rfl x_noh rfl
theorem x_360_7  : exG TB d 360 7 L st A = exG TB d 360 8 L (.int (nI 0) :: st) A := x_nx (op := o_push 1 (.int 0)) rfl rfl
theorem x_360_8  : exG TB d 360 8 L [b1, b0, .ref p] A = kw (sel (gc A p) [(30, 339)]) [.ref p, b0, b1] d 360 11 L [] A := x_cvb (op := o_cv [(30, 339)] 2 3 false none) rfl rfl x_noh rfl
theorem x_360_11  : exG TB d 360 11 (some v :: r9) st A = rg v (exG TB d 360 12 (some v :: r9) (v :: st) A) := x_rg (op := o_aload 0 1) rfl rfl
theorem x_360_12  : exG TB d 360 12 (some v :: r9) st A = rg v (exG TB d 360 13 (some v :: r9) (v :: st) A) := x_rg (op := o_aload 0 1) rfl rfl
theorem x_360_13  : exG TB d 360 13 (a0 :: a1 :: some (.int i1) :: r9) st A = exG TB d 360 14 (a0 :: a1 :: some (.int i1) :: r9) (.int i1 :: st) A := x_nx (op := o_iload 2 1) rfl rfl
theorem x_360_14  : exG TB d 360 14 L st A = exG TB d 360 15 L (.int (nI 0) :: st) A := x_nx (op := o_push 1 (.int 0)) rfl rfl
theorem x_360_15  : exG TB d 360 15 L [b1, b0, .ref p, w0, w1] A = kw (sel (gc A p) [(30, 331)]) [.ref p, b0, b1] d 360 18 L [w0, w1] A := x_cvb (op := o_cv [(30, 331)] 2 3 false none) rfl rfl x_noh rfl
theorem x_360_18  : exG TB d 360 18 L st A = exG TB d 360 19 L (.int (nI 0) :: st) A := x_nx (op := o_push 1 (.int 0)) rfl rfl
theorem x_360_19  : exG TB d 360 19 L [b1, b0, .ref p, w0] A = kw (sel (gc A p) [(30, 339)]) [.ref p, b0, b1] d 360 22 L [w0] A := x_cvb (op := o_cv [(30, 339)] 2 3 false none) rfl rfl x_noh rfl
theorem x_360_22  : exG TB d 360 22 L (.int i2 :: .int i1 :: st) A = exG TB d 360 23 L (.int (i1 - i2) :: st) A := x_nx (op := o_iop (fun x y => x - y)) rfl rfl
theorem x_360_23  : exG TB d 360 23 (a0 :: a1 :: a2 :: a3 :: r9) (.int i1 :: st) A = exG TB d 360 24 (a0 :: a1 :: a2 :: some (.int i1) :: r9) st A := x_nx (op := o_istore 3 1) rfl rfl
theorem x_360_24  : exG TB d 360 24 (a0 :: a1 :: a2 :: some (.int i1) :: r9) st A = exG TB d 360 25 (a0 :: a1 :: a2 :: some (.int i1) :: r9) (.int i1 :: st) A := x_nx (op := o_iload 3 1) rfl rfl
theorem x_360_25  : exG TB d 360 25 L (.int i1 :: st) A = if i1 = nI 0 then exG TB d 360 38 L st A else exG TB d 360 28 L st A := x_if (op := o_if (fun x => decide (x = 0)) 38) rfl rfl rfl
theorem x_360_28  : exG TB d 360 28 (a0 :: a1 :: a2 :: some (.int i1) :: r9) st A = exG TB d 360 29 (a0 :: a1 :: a2 :: some (.int i1) :: r9) (.int i1 :: st) A := x_nx (op := o_iload 3 1) rfl rfl
theorem x_360_29  : exG TB d 360 29 L (.int i1 :: st) A = if i1 ≤ nI 0 then exG TB d 360 36 L st A else exG TB d 360 32 L st A := x_if (op := o_if (fun x => decide (x ≤ 0)) 36) rfl rfl rfl
theorem x_360_32  : exG TB d 360 32 L st A = exG TB d 360 33 L (.int (nI 1) :: st) A := x_nx (op := o_push 1 (.int 1)) rfl rfl
theorem x_360_33  : exG TB d 360 33 L st A = exG TB d 360 37 L st A := x_nx (op := o_goto 37) rfl rfl
theorem x_360_36  : exG TB d 360 36 L st A = exG TB d 360 37 L (.int (nI 0) :: st) A := x_nx (op := o_push 1 (.int 0)) rfl rfl
theorem x_360_37  : exG TB d 360 37 L [v] A = ck (okv 5 v) (some (.inl (some v), A)) := x_outg (op := o_ret 5) rfl rfl
theorem x_360_38  : exG TB d 360 38 (some v :: r9) st A = rg v (exG TB d 360 39 (some v :: r9) (v :: st) A) := x_rg (op := o_aload 0 1) rfl rfl
theorem x_360_39  : exG TB d 360 39 (a0 :: some (.int i1) :: r9) st A = exG TB d 360 40 (a0 :: some (.int i1) :: r9) (.int i1 :: st) A := x_nx (op := o_iload 1 1) rfl rfl
theorem x_360_40  : exG TB d 360 40 L st A = exG TB d 360 41 L (.int (nI 4) :: st) A := x_nx (op := o_push 1 (.int 4)) rfl rfl
theorem x_360_41  : exG TB d 360 41 L [b1, b0, .ref p] A = kw (sel (gc A p) [(30, 331)]) [.ref p, b0, b1] d 360 44 L [] A := x_cvb (op := o_cv [(30, 331)] 2 3 false none) rfl rfl x_noh rfl
theorem x_360_44  : exG TB d 360 44 (some v :: r9) st A = rg v (exG TB d 360 45 (some v :: r9) (v :: st) A) := x_rg (op := o_aload 0 1) rfl rfl
theorem x_360_45  : exG TB d 360 45 (a0 :: a1 :: some (.int i1) :: r9) st A = exG TB d 360 46 (a0 :: a1 :: some (.int i1) :: r9) (.int i1 :: st) A := x_nx (op := o_iload 2 1) rfl rfl
theorem x_360_46  : exG TB d 360 46 L st A = exG TB d 360 47 L (.int (nI 4) :: st) A := x_nx (op := o_push 1 (.int 4)) rfl rfl
theorem x_360_47  : exG TB d 360 47 L [b1, b0, .ref p, w0] A = kw (sel (gc A p) [(30, 331)]) [.ref p, b0, b1] d 360 50 L [w0] A := x_cvb (op := o_cv [(30, 331)] 2 3 false none) rfl rfl x_noh rfl
theorem x_360_50  : exG TB d 360 50 L (.int i2 :: .int i1 :: st) A = exG TB d 360 51 L (.int (i1 - i2) :: st) A := x_nx (op := o_iop (fun x y => x - y)) rfl rfl
theorem x_360_51  : exG TB d 360 51 (a0 :: a1 :: a2 :: a3 :: a4 :: r9) (.int i1 :: st) A = exG TB d 360 53 (a0 :: a1 :: a2 :: a3 :: some (.int i1) :: r9) st A := x_nx (op := o_istore 4 2) rfl rfl
theorem x_360_53  : exG TB d 360 53 (a0 :: a1 :: a2 :: a3 :: some (.int i1) :: r9) st A = exG TB d 360 55 (a0 :: a1 :: a2 :: a3 :: some (.int i1) :: r9) (.int i1 :: st) A := x_nx (op := o_iload 4 2) rfl rfl
theorem x_360_55  : exG TB d 360 55 L (.int i1 :: st) A = if i1 = nI 0 then exG TB d 360 69 L st A else exG TB d 360 58 L st A := x_if (op := o_if (fun x => decide (x = 0)) 69) rfl rfl rfl
theorem x_360_58  : exG TB d 360 58 (a0 :: a1 :: a2 :: a3 :: some (.int i1) :: r9) st A = exG TB d 360 60 (a0 :: a1 :: a2 :: a3 :: some (.int i1) :: r9) (.int i1 :: st) A := x_nx (op := o_iload 4 2) rfl rfl
theorem x_360_60  : exG TB d 360 60 L (.int i1 :: st) A = if nI 0 ≤ i1 then exG TB d 360 67 L st A else exG TB d 360 63 L st A := x_if (op := o_if (fun x => decide (0 ≤ x)) 67) rfl rfl rfl
theorem x_360_63  : exG TB d 360 63 L st A = exG TB d 360 64 L (.int (nI 1) :: st) A := x_nx (op := o_push 1 (.int 1)) rfl rfl
theorem x_360_64  : exG TB d 360 64 L st A = exG TB d 360 68 L st A := x_nx (op := o_goto 68) rfl rfl
theorem x_360_67  : exG TB d 360 67 L st A = exG TB d 360 68 L (.int (nI 0) :: st) A := x_nx (op := o_push 1 (.int 0)) rfl rfl
theorem x_360_68  : exG TB d 360 68 L [v] A = ck (okv 5 v) (some (.inl (some v), A)) := x_outg (op := o_ret 5) rfl rfl
theorem x_360_69  : exG TB d 360 69 (some v :: r9) st A = rg v (exG TB d 360 70 (some v :: r9) (v :: st) A) := x_rg (op := o_aload 0 1) rfl rfl
theorem x_360_70  : exG TB d 360 70 (a0 :: some (.int i1) :: r9) st A = exG TB d 360 71 (a0 :: some (.int i1) :: r9) (.int i1 :: st) A := x_nx (op := o_iload 1 1) rfl rfl
theorem x_360_71  : exG TB d 360 71 L st A = exG TB d 360 72 L (.int (nI 2) :: st) A := x_nx (op := o_push 1 (.int 2)) rfl rfl
theorem x_360_72  : exG TB d 360 72 L [b1, b0, .ref p] A = kw (sel (gc A p) [(30, 331)]) [.ref p, b0, b1] d 360 75 L [] A := x_cvb (op := o_cv [(30, 331)] 2 3 false none) rfl rfl x_noh rfl
theorem x_360_75  : exG TB d 360 75 (some v :: r9) st A = rg v (exG TB d 360 76 (some v :: r9) (v :: st) A) := x_rg (op := o_aload 0 1) rfl rfl
theorem x_360_76  : exG TB d 360 76 (a0 :: a1 :: some (.int i1) :: r9) st A = exG TB d 360 77 (a0 :: a1 :: some (.int i1) :: r9) (.int i1 :: st) A := x_nx (op := o_iload 2 1) rfl rfl
theorem x_360_77  : exG TB d 360 77 L st A = exG TB d 360 78 L (.int (nI 2) :: st) A := x_nx (op := o_push 1 (.int 2)) rfl rfl
theorem x_360_78  : exG TB d 360 78 L [b1, b0, .ref p, w0] A = kw (sel (gc A p) [(30, 331)]) [.ref p, b0, b1] d 360 81 L [w0] A := x_cvb (op := o_cv [(30, 331)] 2 3 false none) rfl rfl x_noh rfl
theorem x_360_81  : exG TB d 360 81 L (.int i2 :: .int i1 :: st) A = exG TB d 360 82 L (.int (i1 - i2) :: st) A := x_nx (op := o_iop (fun x y => x - y)) rfl rfl
theorem x_360_82  : exG TB d 360 82 (a0 :: a1 :: a2 :: a3 :: a4 :: a5 :: r9) (.int i1 :: st) A = exG TB d 360 84 (a0 :: a1 :: a2 :: a3 :: a4 :: some (.int i1) :: r9) st A := x_nx (op := o_istore 5 2) rfl rfl
theorem x_360_84  : exG TB d 360 84 (a0 :: a1 :: a2 :: a3 :: a4 :: some (.int i1) :: r9) st A = exG TB d 360 86 (a0 :: a1 :: a2 :: a3 :: a4 :: some (.int i1) :: r9) (.int i1 :: st) A := x_nx (op := o_iload 5 2) rfl rfl
theorem x_360_86  : exG TB d 360 86 L (.int i1 :: st) A = if i1 < nI 0 then exG TB d 360 99 L st A else exG TB d 360 89 L st A := x_if (op := o_if (fun x => decide (x < 0)) 99) rfl rfl rfl
theorem x_360_89  : exG TB d 360 89 (a0 :: a1 :: a2 :: a3 :: a4 :: some (.int i1) :: r9) st A = exG TB d 360 91 (a0 :: a1 :: a2 :: a3 :: a4 :: some (.int i1) :: r9) (.int i1 :: st) A := x_nx (op := o_iload 5 2) rfl rfl
theorem x_360_91  : exG TB d 360 91 L (.int i1 :: st) A = if ¬ i1 = nI 0 then exG TB d 360 103 L st A else exG TB d 360 94 L st A := x_if (op := o_if (fun x => decide (¬ x = 0)) 103) rfl rfl rfl
theorem x_360_94  : exG TB d 360 94 (a0 :: some (.int i1) :: r9) st A = exG TB d 360 95 (a0 :: some (.int i1) :: r9) (.int i1 :: st) A := x_nx (op := o_iload 1 1) rfl rfl
theorem x_360_95  : exG TB d 360 95 (a0 :: a1 :: some (.int i1) :: r9) st A = exG TB d 360 96 (a0 :: a1 :: some (.int i1) :: r9) (.int i1 :: st) A := x_nx (op := o_iload 2 1) rfl rfl
theorem x_360_96  : exG TB d 360 96 L (.int i2 :: .int i1 :: st) A = if i2 ≤ i1 then exG TB d 360 103 L st A else exG TB d 360 99 L st A := x_if (op := o_icmp (fun x y => decide (y ≤ x)) 103) rfl rfl rfl
theorem x_360_99  : exG TB d 360 99 L st A = exG TB d 360 100 L (.int (nI 1) :: st) A := x_nx (op := o_push 1 (.int 1)) rfl rfl
theorem x_360_100  : exG TB d 360 100 L st A = exG TB d 360 104 L st A := x_nx (op := o_goto 104) rfl rfl
theorem x_360_103  : exG TB d 360 103 L st A = exG TB d 360 104 L (.int (nI 0) :: st) A := x_nx (op := o_push 1 (.int 0)) rfl rfl
theorem x_360_104  : exG TB d 360 104 L [v] A = ck (okv 5 v) (some (.inl (some v), A)) := x_outg (op := o_ret 5) rfl rfl
theorem e_361 {j1 : Int32} : evG TB (d + 1) 361 [.ref p, .int j1] A = exG TB d 361 0 [some (.ref p), some (.int j1), none] [] A := evG_eq TB d 361 _ A
theorem x_361_0  : exG TB d 361 0 (some v :: r9) st A = rg v (exG TB d 361 1 (some v :: r9) (v :: st) A) := x_rg (op := o_aload 0 1) rfl rfl
theorem x_361_1  : exG TB d 361 1 L st A = exG TB d 361 2 L (.int (nI 0) :: st) A := x_nx (op := o_push 1 (.int 0)) rfl rfl
theorem x_361_2  : exG TB d 361 2 L (v :: .ref p :: st) A = ck ((gf A p 155).isSome && okv 1 v) (exG TB d 361 5 L st (setf A p 155 v)) := x_gd (op := o_put 155 1) rfl rfl
theorem x_361_5  : exG TB d 361 5 (a0 :: some (.int i1) :: r9) st A = exG TB d 361 6 (a0 :: some (.int i1) :: r9) (.int i1 :: st) A := x_nx (op := o_iload 1 1) rfl rfl
theorem x_361_6  : exG TB d 361 6 L st A = exG TB d 361 7 L (.int nN :: st) A := x_nx (op := o_push 1 (.int (-1))) rfl rfl
theorem x_361_7  : exG TB d 361 7 L (.int i2 :: .int i1 :: st) A = if i1 = i2 then exG TB d 361 24 L st A else exG TB d 361 10 L st A := x_if (op := o_icmp (fun x y => decide (x = y)) 24) rfl rfl rfl
theorem x_361_10  : exG TB d 361 10 (some v :: r9) st A = rg v (exG TB d 361 11 (some v :: r9) (v :: st) A) := x_rg (op := o_aload 0 1) rfl rfl
theorem x_361_11  : exG TB d 361 11 (a0 :: some (.int i1) :: r9) st A = exG TB d 361 12 (a0 :: some (.int i1) :: r9) (.int i1 :: st) A := x_nx (op := o_iload 1 1) rfl rfl
theorem x_361_12  : exG TB d 361 12 L [b0, .ref p] A = kw (sel (gc A p) [(30, 338)]) [.ref p, b0] d 361 15 L [] A := x_cvb (op := o_cv [(30, 338)] 1 3 false none) rfl rfl x_noh rfl
theorem x_361_15  : exG TB d 361 15 L (.int i1 :: st) A = if ¬ i1 = nI 0 then exG TB d 361 24 L st A else exG TB d 361 18 L st A := x_if (op := o_if (fun x => decide (¬ x = 0)) 24) rfl rfl rfl
theorem x_361_18  : exG TB d 361 18 (some v :: r9) st A = rg v (exG TB d 361 19 (some v :: r9) (v :: st) A) := x_rg (op := o_aload 0 1) rfl rfl
theorem x_361_19  : exG TB d 361 19 L st A = exG TB d 361 20 L (.int (nI 1) :: st) A := x_nx (op := o_push 1 (.int 1)) rfl rfl
theorem x_361_20  : exG TB d 361 20 L [b0, .ref p] A = kw (sel (gc A p) [(30, 291)]) [.ref p, b0] d 361 23 L [] A := x_cvb (op := o_cv [(30, 291)] 1 3 false none) rfl rfl x_noh rfl
theorem x_361_23  : exG TB d 361 23 L [v] A = ck (okv 1 v) (some (.inl (some v), A)) := x_outg (op := o_ret 1) rfl rfl
theorem x_361_24  : exG TB d 361 24 (some v :: r9) st A = rg v (exG TB d 361 25 (some v :: r9) (v :: st) A) := x_rg (op := o_aload 0 1) rfl rfl
theorem x_361_25  : exG TB d 361 25 L st A = exG TB d 361 26 L (.int (nI 0) :: st) A := x_nx (op := o_push 1 (.int 0)) rfl rfl
theorem x_361_26  : exG TB d 361 26 L [b0, .ref p] A = kw (sel (gc A p) [(30, 359)]) [.ref p, b0] d 361 29 L [] A := x_cvb (op := o_cv [(30, 359)] 1 3 false none) rfl rfl x_noh rfl
theorem x_361_29  : exG TB d 361 29 (a0 :: a1 :: a2 :: r9) (.int i1 :: st) A = exG TB d 361 30 (a0 :: a1 :: some (.int i1) :: r9) st A := x_nx (op := o_istore 2 1) rfl rfl
theorem x_361_30  : exG TB d 361 30 (a0 :: a1 :: some (.int i1) :: r9) st A = exG TB d 361 31 (a0 :: a1 :: some (.int i1) :: r9) (.int i1 :: st) A := x_nx (op := o_iload 2 1) rfl rfl
theorem x_361_31  : exG TB d 361 31 L st A = exG TB d 361 32 L (.int nN :: st) A := x_nx (op := o_push 1 (.int (-1))) rfl rfl
theorem x_361_32  : exG TB d 361 32 L (.int i2 :: .int i1 :: st) A = if ¬ i1 = i2 then exG TB d 361 41 L st A else exG TB d 361 35 L st A := x_if (op := o_icmp (fun x y => decide (¬ x = y)) 41) rfl rfl rfl
theorem x_361_35  : exG TB d 361 35 (some v :: r9) st A = rg v (exG TB d 361 36 (some v :: r9) (v :: st) A) := x_rg (op := o_aload 0 1) rfl rfl
theorem x_361_36  : exG TB d 361 36 L st A = exG TB d 361 37 L (.int (nI 2) :: st) A := x_nx (op := o_push 1 (.int 2)) rfl rfl
theorem x_361_37  : exG TB d 361 37 L [b0, .ref p] A = kw (sel (gc A p) [(30, 291)]) [.ref p, b0] d 361 40 L [] A := x_cvb (op := o_cv [(30, 291)] 1 3 false none) rfl rfl x_noh rfl
theorem x_361_40  : exG TB d 361 40 L [v] A = ck (okv 1 v) (some (.inl (some v), A)) := x_outg (op := o_ret 1) rfl rfl
theorem x_361_41  : exG TB d 361 41 (a0 :: some (.int i1) :: r9) st A = exG TB d 361 42 (a0 :: some (.int i1) :: r9) (.int i1 :: st) A := x_nx (op := o_iload 1 1) rfl rfl
theorem x_361_42  : exG TB d 361 42 L st A = exG TB d 361 43 L (.int nN :: st) A := x_nx (op := o_push 1 (.int (-1))) rfl rfl
theorem x_361_43  : exG TB d 361 43 L (.int i2 :: .int i1 :: st) A = if ¬ i1 = i2 then exG TB d 361 56 L st A else exG TB d 361 46 L st A := x_if (op := o_icmp (fun x y => decide (¬ x = y)) 56) rfl rfl rfl
theorem x_361_46  : exG TB d 361 46 (some v :: r9) st A = rg v (exG TB d 361 47 (some v :: r9) (v :: st) A) := x_rg (op := o_aload 0 1) rfl rfl
theorem x_361_47  : exG TB d 361 47 (a0 :: a1 :: some (.int i1) :: r9) st A = exG TB d 361 48 (a0 :: a1 :: some (.int i1) :: r9) (.int i1 :: st) A := x_nx (op := o_iload 2 1) rfl rfl
theorem x_361_48  : exG TB d 361 48 L st A = exG TB d 361 49 L (.int (nI 5) :: st) A := x_nx (op := o_push 1 (.int 5)) rfl rfl
theorem x_361_49  : exG TB d 361 49 L st A = exG TB d 361 50 L (.int (nI 2) :: st) A := x_nx (op := o_push 1 (.int 2)) rfl rfl
theorem x_361_50  : exG TB d 361 50 L [b2, b1, b0, .ref p] A = kw0 (sel (gc A p) [(30, 353)]) [.ref p, b0, b1, b2] d 361 53 L [] A := x_c0b (op := o_cv [(30, 353)] 3 3 true none) rfl rfl x_noh rfl
theorem x_361_53  : exG TB d 361 53 L st A = exG TB d 361 76 L st A := x_nx (op := o_goto 76) rfl rfl
theorem x_361_56  : exG TB d 361 56 (some v :: r9) st A = rg v (exG TB d 361 57 (some v :: r9) (v :: st) A) := x_rg (op := o_aload 0 1) rfl rfl
theorem x_361_57  : exG TB d 361 57 (a0 :: a1 :: some (.int i1) :: r9) st A = exG TB d 361 58 (a0 :: a1 :: some (.int i1) :: r9) (.int i1 :: st) A := x_nx (op := o_iload 2 1) rfl rfl
theorem x_361_58  : exG TB d 361 58 L st A = exG TB d 361 59 L (.int (nI 0) :: st) A := x_nx (op := o_push 1 (.int 0)) rfl rfl
theorem x_361_59  : exG TB d 361 59 (a0 :: some (.int i1) :: r9) st A = exG TB d 361 60 (a0 :: some (.int i1) :: r9) (.int i1 :: st) A := x_nx (op := o_iload 1 1) rfl rfl
theorem x_361_60  : exG TB d 361 60 L [b2, b1, b0, .ref p] A = kw0 (sel (gc A p) [(30, 353)]) [.ref p, b0, b1, b2] d 361 63 L [] A := x_c0b (op := o_cv [(30, 353)] 3 3 true none) rfl rfl x_noh rfl
theorem x_361_63  : exG TB d 361 63 (some v :: r9) st A = rg v (exG TB d 361 64 (some v :: r9) (v :: st) A) := x_rg (op := o_aload 0 1) rfl rfl
theorem x_361_64  : exG TB d 361 64 (a0 :: a1 :: some (.int i1) :: r9) st A = exG TB d 361 65 (a0 :: a1 :: some (.int i1) :: r9) (.int i1 :: st) A := x_nx (op := o_iload 2 1) rfl rfl
theorem x_361_65  : exG TB d 361 65 L st A = exG TB d 361 66 L (.int (nI 4) :: st) A := x_nx (op := o_push 1 (.int 4)) rfl rfl
theorem x_361_66  : exG TB d 361 66 L st A = exG TB d 361 68 L (.int (nI 100) :: st) A := x_nx (op := o_push 2 (.int 100)) rfl rfl
theorem x_361_68  : exG TB d 361 68 L [b2, b1, b0, .ref p] A = kw0 (sel (gc A p) [(30, 353)]) [.ref p, b0, b1, b2] d 361 71 L [] A := x_c0b (op := o_cv [(30, 353)] 3 3 true none) rfl rfl x_noh rfl
theorem x_361_71  : exG TB d 361 71 (some v :: r9) st A = rg v (exG TB d 361 72 (some v :: r9) (v :: st) A) := x_rg (op := o_aload 0 1) rfl rfl
theorem x_361_72  : exG TB d 361 72 (a0 :: a1 :: some (.int i1) :: r9) st A = exG TB d 361 73 (a0 :: a1 :: some (.int i1) :: r9) (.int i1 :: st) A := x_nx (op := o_iload 2 1) rfl rfl
theorem x_361_73  : exG TB d 361 73 L [b0, .ref p] A = kw0 (sel (gc A p) [(30, 354)]) [.ref p, b0] d 361 76 L [] A := x_c0b (op := o_cv [(30, 354)] 1 3 true none) rfl rfl x_noh rfl
theorem x_361_76  : exG TB d 361 76 (a0 :: a1 :: some (.int i1) :: r9) st A = exG TB d 361 77 (a0 :: a1 :: some (.int i1) :: r9) (.int i1 :: st) A := x_nx (op := o_iload 2 1) rfl rfl
theorem x_361_77  : exG TB d 361 77 L [v] A = ck (okv 1 v) (some (.inl (some v), A)) := x_outg (op := o_ret 1) rfl rfl
theorem e_362 {j1 : Int32} {j2 : Int32} : evG TB (d + 1) 362 [.ref p, .int j1, .int j2] A = exG TB d 362 0 [some (.ref p), some (.int j1), some (.int j2)] [] A := evG_eq TB d 362 _ A
theorem x_362_0  : exG TB d 362 0 (some v :: r9) st A = rg v (exG TB d 362 1 (some v :: r9) (v :: st) A) := x_rg (op := o_aload 0 1) rfl rfl
theorem x_362_1  : exG TB d 362 1 L st A = exG TB d 362 2 L (.int (nI 0) :: st) A := x_nx (op := o_push 1 (.int 0)) rfl rfl
theorem x_362_2  : exG TB d 362 2 L (v :: .ref p :: st) A = ck ((gf A p 155).isSome && okv 1 v) (exG TB d 362 5 L st (setf A p 155 v)) := x_gd (op := o_put 155 1) rfl rfl
theorem x_362_5  : exG TB d 362 5 (some v :: r9) st A = rg v (exG TB d 362 6 (some v :: r9) (v :: st) A) := x_rg (op := o_aload 0 1) rfl rfl
theorem x_362_6  : exG TB d 362 6 (a0 :: some (.int i1) :: r9) st A = exG TB d 362 7 (a0 :: some (.int i1) :: r9) (.int i1 :: st) A := x_nx (op := o_iload 1 1) rfl rfl
theorem x_362_7  : exG TB d 362 7 L [b0, .ref p] A = kw (sel (gc A p) [(30, 357)]) [.ref p, b0] d 362 10 L [] A := x_cvb (op := o_cv [(30, 357)] 1 3 false none) rfl rfl x_noh rfl
theorem x_362_10  : exG TB d 362 10 L (.int i1 :: st) A = if i1 = nI 0 then exG TB d 362 21 L st A else exG TB d 362 13 L st A := x_if (op := o_if (fun x => decide (x = 0)) 21) rfl rfl rfl
theorem x_362_13  : exG TB d 362 13 (some v :: r9) st A = rg v (exG TB d 362 14 (some v :: r9) (v :: st) A) := x_rg (op := o_aload 0 1) rfl rfl
theorem x_362_14  : exG TB d 362 14 (a0 :: a1 :: some (.int i1) :: r9) st A = exG TB d 362 15 (a0 :: a1 :: some (.int i1) :: r9) (.int i1 :: st) A := x_nx (op := o_iload 2 1) rfl rfl
theorem x_362_15  : exG TB d 362 15 L [b0, .ref p] A = kw (sel (gc A p) [(30, 338)]) [.ref p, b0] d 362 18 L [] A := x_cvb (op := o_cv [(30, 338)] 1 3 false none) rfl rfl x_noh rfl
theorem x_362_18  : exG TB d 362 18 L (.int i1 :: st) A = if ¬ i1 = nI 0 then exG TB d 362 27 L st A else exG TB d 362 21 L st A := x_if (op := o_if (fun x => decide (¬ x = 0)) 27) rfl rfl rfl
theorem x_362_21  : exG TB d 362 21 (some v :: r9) st A = rg v (exG TB d 362 22 (some v :: r9) (v :: st) A) := x_rg (op := o_aload 0 1) rfl rfl
theorem x_362_22  : exG TB d 362 22 L st A = exG TB d 362 23 L (.int (nI 1) :: st) A := x_nx (op := o_push 1 (.int 1)) rfl rfl
theorem x_362_23  : exG TB d 362 23 L [b0, .ref p] A = kw (sel (gc A p) [(30, 291)]) [.ref p, b0] d 362 26 L [] A := x_cvb (op := o_cv [(30, 291)] 1 3 false none) rfl rfl x_noh rfl
theorem x_362_26  : exG TB d 362 26 L [v] A = ck (okv 1 v) (some (.inl (some v), A)) := x_outg (op := o_ret 1) rfl rfl
theorem x_362_27  : exG TB d 362 27 (some v :: r9) st A = rg v (exG TB d 362 28 (some v :: r9) (v :: st) A) := x_rg (op := o_aload 0 1) rfl rfl
theorem x_362_28  : exG TB d 362 28 (a0 :: some (.int i1) :: r9) st A = exG TB d 362 29 (a0 :: some (.int i1) :: r9) (.int i1 :: st) A := x_nx (op := o_iload 1 1) rfl rfl
theorem x_362_29  : exG TB d 362 29 L st A = exG TB d 362 30 L (.int (nI 5) :: st) A := x_nx (op := o_push 1 (.int 5)) rfl rfl
theorem x_362_30  : exG TB d 362 30 L [b1, b0, .ref p] A = kw (sel (gc A p) [(30, 331)]) [.ref p, b0, b1] d 362 33 L [] A := x_cvb (op := o_cv [(30, 331)] 2 3 false none) rfl rfl x_noh rfl
theorem x_362_33  : exG TB d 362 33 L st A = exG TB d 362 34 L (.int (nI 1) :: st) A := x_nx (op := o_push 1 (.int 1)) rfl rfl
theorem x_362_34  : exG TB d 362 34 L (.int i2 :: .int i1 :: st) A = if i1 = i2 then exG TB d 362 53 L st A else exG TB d 362 37 L st A := x_if (op := o_icmp (fun x y => decide (x = y)) 53) rfl rfl rfl
theorem x_362_37  : exG TB d 362 37 (some v :: r9) st A = rg v (exG TB d 362 38 (some v :: r9) (v :: st) A) := x_rg (op := o_aload 0 1) rfl rfl
theorem x_362_38  : exG TB d 362 38 (a0 :: some (.int i1) :: r9) st A = exG TB d 362 39 (a0 :: some (.int i1) :: r9) (.int i1 :: st) A := x_nx (op := o_iload 1 1) rfl rfl
theorem x_362_39  : exG TB d 362 39 L st A = exG TB d 362 40 L (.int (nI 5) :: st) A := x_nx (op := o_push 1 (.int 5)) rfl rfl
theorem x_362_40  : exG TB d 362 40 L [b1, b0, .ref p] A = kw (sel (gc A p) [(30, 331)]) [.ref p, b0, b1] d 362 43 L [] A := x_cvb (op := o_cv [(30, 331)] 2 3 false none) rfl rfl x_noh rfl
theorem x_362_43  : exG TB d 362 43 L st A = exG TB d 362 44 L (.int (nI 4) :: st) A := x_nx (op := o_push 1 (.int 4)) rfl rfl
theorem x_362_44  : exG TB d 362 44 L (.int i2 :: .int i1 :: st) A = if i1 = i2 then exG TB d 362 53 L st A else exG TB d 362 47 L st A := x_if (op := o_icmp (fun x y => decide (x = y)) 53) rfl rfl rfl
theorem x_362_47  : exG TB d 362 47 (some v :: r9) st A = rg v (exG TB d 362 48 (some v :: r9) (v :: st) A) := x_rg (op := o_aload 0 1) rfl rfl
theorem x_362_48  : exG TB d 362 48 L st A = exG TB d 362 49 L (.int (nI 2) :: st) A := x_nx (op := o_push 1 (.int 2)) rfl rfl
theorem x_362_49  : exG TB d 362 49 L [b0, .ref p] A = kw (sel (gc A p) [(30, 291)]) [.ref p, b0] d 362 52 L [] A := x_cvb (op := o_cv [(30, 291)] 1 3 false none) rfl rfl x_noh rfl
theorem x_362_52  : exG TB d 362 52 L [v] A = ck (okv 1 v) (some (.inl (some v), A)) := x_outg (op := o_ret 1) rfl rfl
theorem x_362_53  : exG TB d 362 53 (some v :: r9) st A = rg v (exG TB d 362 54 (some v :: r9) (v :: st) A) := x_rg (op := o_aload 0 1) rfl rfl
theorem x_362_54  : exG TB d 362 54 (a0 :: some (.int i1) :: r9) st A = exG TB d 362 55 (a0 :: some (.int i1) :: r9) (.int i1 :: st) A := x_nx (op := o_iload 1 1) rfl rfl
theorem x_362_55  : exG TB d 362 55 L st A = exG TB d 362 56 L (.int (nI 0) :: st) A := x_nx (op := o_push 1 (.int 0)) rfl rfl
theorem x_362_56  : exG TB d 362 56 (a0 :: a1 :: some (.int i1) :: r9) st A = exG TB d 362 57 (a0 :: a1 :: some (.int i1) :: r9) (.int i1 :: st) A := x_nx (op := o_iload 2 1) rfl rfl
theorem x_362_57  : exG TB d 362 57 L [b2, b1, b0, .ref p] A = kw0 (sel (gc A p) [(30, 353)]) [.ref p, b0, b1, b2] d 362 60 L [] A := x_c0b (op := o_cv [(30, 353)] 3 3 true none) rfl rfl x_noh rfl
theorem x_362_60  : exG TB d 362 60 (some v :: r9) st A = rg v (exG TB d 362 61 (some v :: r9) (v :: st) A) := x_rg (op := o_aload 0 1) rfl rfl
theorem x_362_61  : exG TB d 362 61 (a0 :: some (.int i1) :: r9) st A = exG TB d 362 62 (a0 :: some (.int i1) :: r9) (.int i1 :: st) A := x_nx (op := o_iload 1 1) rfl rfl
theorem x_362_62  : exG TB d 362 62 L [b0, .ref p] A = kw0 (sel (gc A p) [(30, 354)]) [.ref p, b0] d 362 65 L [] A := x_c0b (op := o_cv [(30, 354)] 1 3 true none) rfl rfl x_noh rfl
theorem x_362_65  : exG TB d 362 65 (some v :: r9) st A = rg v (exG TB d 362 66 (some v :: r9) (v :: st) A) := x_rg (op := o_aload 0 1) rfl rfl
theorem x_362_66  : exG TB d 362 66 (a0 :: some (.int i1) :: r9) st A = exG TB d 362 67 (a0 :: some (.int i1) :: r9) (.int i1 :: st) A := x_nx (op := o_iload 1 1) rfl rfl
theorem x_362_67  : exG TB d 362 67 L st A = exG TB d 362 68 L (.int (nI 5) :: st) A := x_nx (op := o_push 1 (.int 5)) rfl rfl
theorem x_362_68  : exG TB d 362 68 L [b1, b0, .ref p] A = kw (sel (gc A p) [(30, 331)]) [.ref p, b0, b1] d 362 71 L [] A := x_cvb (op := o_cv [(30, 331)] 2 3 false none) rfl rfl x_noh rfl
theorem x_362_71  : exG TB d 362 71 L [v] A = ck (okv 1 v) (some (.inl (some v), A)) := x_outg (op := o_ret 1) rfl rfl
theorem e_363 {j1 : Int32} : evG TB (d + 1) 363 [.ref p, .int j1] A = exG TB d 363 0 [some (.ref p), some (.int j1)] [] A := evG_eq TB d 363 _ A
theorem x_363_0  : exG TB d 363 0 (some v :: r9) st A = rg v (exG TB d 363 1 (some v :: r9) (v :: st) A) := x_rg (op := o_aload 0 1) rfl rfl
theorem x_363_1  : exG TB d 363 1 L st A = exG TB d 363 2 L (.int (nI 0) :: st) A := x_nx (op := o_push 1 (.int 0)) rfl rfl
theorem x_363_2  : exG TB d 363 2 L (v :: .ref p :: st) A = ck ((gf A p 155).isSome && okv 1 v) (exG TB d 363 5 L st (setf A p 155 v)) := x_gd (op := o_put 155 1) rfl rfl
theorem x_363_5  : exG TB d 363 5 (some v :: r9) st A = rg v (exG TB d 363 6 (some v :: r9) (v :: st) A) := x_rg (op := o_aload 0 1) rfl rfl
theorem x_363_6  : exG TB d 363 6 (a0 :: some (.int i1) :: r9) st A = exG TB d 363 7 (a0 :: some (.int i1) :: r9) (.int i1 :: st) A := x_nx (op := o_iload 1 1) rfl rfl
theorem x_363_7  : exG TB d 363 7 L [b0, .ref p] A = kw (sel (gc A p) [(30, 338)]) [.ref p, b0] d 363 10 L [] A := x_cvb (op := o_cv [(30, 338)] 1 3 false none) rfl rfl x_noh rfl
theorem x_363_10  : exG TB d 363 10 L (.int i1 :: st) A = if ¬ i1 = nI 0 then exG TB d 363 19 L st A else exG TB d 363 13 L st A := x_if (op := o_if (fun x => decide (¬ x = 0)) 19) rfl rfl rfl
theorem x_363_13  : exG TB d 363 13 (some v :: r9) st A = rg v (exG TB d 363 14 (some v :: r9) (v :: st) A) := x_rg (op := o_aload 0 1) rfl rfl
theorem x_363_14  : exG TB d 363 14 L st A = exG TB d 363 15 L (.int (nI 1) :: st) A := x_nx (op := o_push 1 (.int 1)) rfl rfl
theorem x_363_15  : exG TB d 363 15 L [b0, .ref p] A = kw (sel (gc A p) [(30, 291)]) [.ref p, b0] d 363 18 L [] A := x_cvb (op := o_cv [(30, 291)] 1 3 false none) rfl rfl x_noh rfl
theorem x_363_18  : exG TB d 363 18 L [v] A = ck (okv 1 v) (some (.inl (some v), A)) := x_outg (op := o_ret 1) rfl rfl
theorem x_363_19  : exG TB d 363 19 (some v :: r9) st A = rg v (exG TB d 363 20 (some v :: r9) (v :: st) A) := x_rg (op := o_aload 0 1) rfl rfl
theorem x_363_20  : exG TB d 363 20 (a0 :: some (.int i1) :: r9) st A = exG TB d 363 21 (a0 :: some (.int i1) :: r9) (.int i1 :: st) A := x_nx (op := o_iload 1 1) rfl rfl
theorem x_363_21  : exG TB d 363 21 L [b0, .ref p] A = kw0 (sel (gc A p) [(30, 364)]) [.ref p, b0] d 363 24 L [] A := x_c0b (op := o_cv [(30, 364)] 1 3 true none) rfl rfl x_noh rfl
theorem x_363_24  : exG TB d 363 24 (some v :: r9) st A = rg v (exG TB d 363 25 (some v :: r9) (v :: st) A) := x_rg (op := o_aload 0 1) rfl rfl
theorem x_363_25  : exG TB d 363 25 L (.ref p :: st) A = kv (gf A p 185) d 363 28 L st A := x_bd (op := o_get 185) rfl rfl (fun _ => rfl)
theorem x_363_28  : exG TB d 363 28 L [v] A = ck (okv 1 v) (some (.inl (some v), A)) := x_outg (op := o_ret 1) rfl rfl
theorem e_364 {j1 : Int32} : evG TB (d + 1) 364 [.ref p, .int j1] A = exG TB d 364 0 [some (.ref p), some (.int j1), none, none, none, none] [] A := evG_eq TB d 364 _ A
theorem x_364_0  : exG TB d 364 0 (some v :: r9) st A = rg v (exG TB d 364 1 (some v :: r9) (v :: st) A) := x_rg (op := o_aload 0 1) rfl rfl
theorem x_364_1  : exG TB d 364 1 (a0 :: some (.int i1) :: r9) st A = exG TB d 364 2 (a0 :: some (.int i1) :: r9) (.int i1 :: st) A := x_nx (op := o_iload 1 1) rfl rfl
theorem x_364_2  : exG TB d 364 2 L [b0, .ref p] A = kw0 (sel (gc A p) [(30, 365)]) [.ref p, b0] d 364 5 L [] A := x_c0b (op := o_cv [(30, 365)] 1 3 true none) rfl rfl x_noh rfl
theorem x_364_5  : exG TB d 364 5 (some v :: r9) st A = rg v (exG TB d 364 6 (some v :: r9) (v :: st) A) := x_rg (op := o_aload 0 1) rfl rfl
theorem x_364_6  : exG TB d 364 6 L st A = exG TB d 364 7 L (.int (nI 0) :: st) A := x_nx (op := o_push 1 (.int 0)) rfl rfl
theorem x_364_7  : exG TB d 364 7 L (v :: .ref p :: st) A = ck ((gf A p 185).isSome && okv 1 v) (exG TB d 364 10 L st (setf A p 185 v)) := x_gd (op := o_put 185 1) rfl rfl
theorem x_364_10  : exG TB d 364 10 (some v :: r9) st A = rg v (exG TB d 364 11 (some v :: r9) (v :: st) A) := x_rg (op := o_aload 0 1) rfl rfl
theorem x_364_11  : exG TB d 364 11 L st A = exG TB d 364 12 L (.int (nI 0) :: st) A := x_nx (op := o_push 1 (.int 0)) rfl rfl
theorem x_364_12  : exG TB d 364 12 L (v :: .ref p :: st) A = ck ((gf A p 186).isSome && okv 1 v) (exG TB d 364 15 L st (setf A p 186 v)) := x_gd (op := o_put 186 1) rfl rfl
theorem x_364_15  : exG TB d 364 15 L st A = exG TB d 364 16 L (.int nN :: st) A := x_nx (op := o_push 1 (.int (-1))) rfl rfl
theorem x_364_16  : exG TB d 364 16 (a0 :: a1 :: a2 :: r9) (.int i1 :: st) A = exG TB d 364 17 (a0 :: a1 :: some (.int i1) :: r9) st A := x_nx (op := o_istore 2 1) rfl rfl
theorem x_364_17  : exG TB d 364 17 L st A = exG TB d 364 18 L (.int (nI 0) :: st) A := x_nx (op := o_push 1 (.int 0)) rfl rfl
theorem x_364_18  : exG TB d 364 18 (a0 :: a1 :: a2 :: a3 :: r9) (.int i1 :: st) A = exG TB d 364 19 (a0 :: a1 :: a2 :: some (.int i1) :: r9) st A := x_nx (op := o_istore 3 1) rfl rfl
theorem x_364_19  : exG TB d 364 19 (a0 :: a1 :: a2 :: some (.int i1) :: r9) st A = exG TB d 364 20 (a0 :: a1 :: a2 :: some (.int i1) :: r9) (.int i1 :: st) A := x_nx (op := o_iload 3 1) rfl rfl
theorem x_364_20  : exG TB d 364 20 (some v :: r9) st A = rg v (exG TB d 364 21 (some v :: r9) (v :: st) A) := x_rg (op := o_aload 0 1) rfl rfl
theorem x_364_21  : exG TB d 364 21 L (.ref p :: st) A = kv (gf A p 184) d 364 24 L st A := x_bd (op := o_get 184) rfl rfl (fun _ => rfl)
theorem x_364_24  : exG TB d 364 24 L (.int i2 :: .int i1 :: st) A = if i2 ≤ i1 then exG TB d 364 132 L st A else exG TB d 364 27 L st A := x_if (op := o_icmp (fun x y => decide (y ≤ x)) 132) rfl rfl rfl
theorem x_364_27  : exG TB d 364 27 (some v :: r9) st A = rg v (exG TB d 364 28 (some v :: r9) (v :: st) A) := x_rg (op := o_aload 0 1) rfl rfl
theorem x_364_28  : exG TB d 364 28 L (.ref p :: st) A = kv (gf A p 177) d 364 31 L st A := x_bd (op := o_get 177) rfl rfl (fun _ => rfl)
theorem x_364_31  : exG TB d 364 31 (a0 :: a1 :: a2 :: some (.int i1) :: r9) st A = exG TB d 364 32 (a0 :: a1 :: a2 :: some (.int i1) :: r9) (.int i1 :: st) A := x_nx (op := o_iload 3 1) rfl rfl
theorem x_364_32  : exG TB d 364 32 L (.int i1 :: .ref p :: st) A = ki (rdI 0 (ga A p) i1) d 364 33 L st A := x_bd (op := o_rdI 0) rfl rfl (fun _ => rfl)
theorem x_364_33  : exG TB d 364 33 (a0 :: a1 :: a2 :: a3 :: a4 :: r9) (.int i1 :: st) A = exG TB d 364 35 (a0 :: a1 :: a2 :: a3 :: some (.int i1) :: r9) st A := x_nx (op := o_istore 4 2) rfl rfl
theorem x_364_35  : exG TB d 364 35 (a0 :: a1 :: some (.int i1) :: r9) st A = exG TB d 364 36 (a0 :: a1 :: some (.int i1) :: r9) (.int i1 :: st) A := x_nx (op := o_iload 2 1) rfl rfl
theorem x_364_36  : exG TB d 364 36 L st A = exG TB d 364 37 L (.int nN :: st) A := x_nx (op := o_push 1 (.int (-1))) rfl rfl
theorem x_364_37  : exG TB d 364 37 L (.int i2 :: .int i1 :: st) A = if i1 = i2 then exG TB d 364 82 L st A else exG TB d 364 40 L st A := x_if (op := o_icmp (fun x y => decide (x = y)) 82) rfl rfl rfl
theorem x_364_40  : exG TB d 364 40 (some v :: r9) st A = rg v (exG TB d 364 41 (some v :: r9) (v :: st) A) := x_rg (op := o_aload 0 1) rfl rfl
theorem x_364_41  : exG TB d 364 41 (a0 :: a1 :: some (.int i1) :: r9) st A = exG TB d 364 42 (a0 :: a1 :: some (.int i1) :: r9) (.int i1 :: st) A := x_nx (op := o_iload 2 1) rfl rfl
theorem x_364_42  : exG TB d 364 42 L st A = exG TB d 364 43 L (.int (nI 1) :: st) A := x_nx (op := o_push 1 (.int 1)) rfl rfl
theorem x_364_43  : exG TB d 364 43 L [b1, b0, .ref p] A = kw (sel (gc A p) [(30, 331)]) [.ref p, b0, b1] d 364 46 L [] A := x_cvb (op := o_cv [(30, 331)] 2 3 false none) rfl rfl x_noh rfl
theorem x_364_46  : exG TB d 364 46 (some v :: r9) st A = rg v (exG TB d 364 47 (some v :: r9) (v :: st) A) := x_rg (op := o_aload 0 1) rfl rfl
theorem x_364_47  : exG TB d 364 47 (a0 :: a1 :: a2 :: a3 :: some (.int i1) :: r9) st A = exG TB d 364 49 (a0 :: a1 :: a2 :: a3 :: some (.int i1) :: r9) (.int i1 :: st) A := x_nx (op := o_iload 4 2) rfl rfl
theorem x_364_49  : exG TB d 364 49 L st A = exG TB d 364 50 L (.int (nI 1) :: st) A := x_nx (op := o_push 1 (.int 1)) rfl rfl
theorem x_364_50  : exG TB d 364 50 L [b1, b0, .ref p, w0] A = kw (sel (gc A p) [(30, 331)]) [.ref p, b0, b1] d 364 53 L [w0] A := x_cvb (op := o_cv [(30, 331)] 2 3 false none) rfl rfl x_noh rfl
theorem x_364_53  : exG TB d 364 53 L (.int i2 :: .int i1 :: st) A = if ¬ i1 = i2 then exG TB d 364 82 L st A else exG TB d 364 56 L st A := x_if (op := o_icmp (fun x y => decide (¬ x = y)) 82) rfl rfl rfl
theorem x_364_56  : exG TB d 364 56 (some v :: r9) st A = rg v (exG TB d 364 57 (some v :: r9) (v :: st) A) := x_rg (op := o_aload 0 1) rfl rfl
theorem x_364_57  : exG TB d 364 57 (a0 :: a1 :: a2 :: a3 :: some (.int i1) :: r9) st A = exG TB d 364 59 (a0 :: a1 :: a2 :: a3 :: some (.int i1) :: r9) (.int i1 :: st) A := x_nx (op := o_iload 4 2) rfl rfl
theorem x_364_59  : exG TB d 364 59 L st A = exG TB d 364 60 L (.int (nI 2) :: st) A := x_nx (op := o_push 1 (.int 2)) rfl rfl
theorem x_364_60  : exG TB d 364 60 L [b1, b0, .ref p] A = kw (sel (gc A p) [(30, 331)]) [.ref p, b0, b1] d 364 63 L [] A := x_cvb (op := o_cv [(30, 331)] 2 3 false none) rfl rfl x_noh rfl
theorem x_364_63  : exG TB d 364 63 (some v :: r9) st A = rg v (exG TB d 364 64 (some v :: r9) (v :: st) A) := x_rg (op := o_aload 0 1) rfl rfl
theorem x_364_64  : exG TB d 364 64 (a0 :: a1 :: some (.int i1) :: r9) st A = exG TB d 364 65 (a0 :: a1 :: some (.int i1) :: r9) (.int i1 :: st) A := x_nx (op := o_iload 2 1) rfl rfl
theorem x_364_65  : exG TB d 364 65 L st A = exG TB d 364 66 L (.int (nI 2) :: st) A := x_nx (op := o_push 1 (.int 2)) rfl rfl
theorem x_364_66  : exG TB d 364 66 L [b1, b0, .ref p, w0] A = kw (sel (gc A p) [(30, 331)]) [.ref p, b0, b1] d 364 69 L [w0] A := x_cvb (op := o_cv [(30, 331)] 2 3 false none) rfl rfl x_noh rfl
theorem x_364_69  : exG TB d 364 69 L (.int i2 :: .int i1 :: st) A = exG TB d 364 70 L (.int (i1 - i2) :: st) A := x_nx (op := o_iop (fun x y => x - y)) rfl rfl
theorem x_364_70  : exG TB d 364 70 (some v :: r9) st A = rg v (exG TB d 364 71 (some v :: r9) (v :: st) A) := x_rg (op := o_aload 0 1) rfl rfl
theorem x_364_71  : exG TB d 364 71 L st A = exG TB d 364 72 L (.int (nI 1) :: st) A := x_nx (op := o_push 1 (.int 1)) rfl rfl
theorem x_364_72  : exG TB d 364 72 L [b0, .ref p, w0] A = kw (sel (gc A p) [(30, 328)]) [.ref p, b0] d 364 75 L [w0] A := x_cvb (op := o_cv [(30, 328)] 1 3 false none) rfl rfl x_noh rfl
theorem x_364_75  : exG TB d 364 75 L (.int i2 :: .int i1 :: st) A = if i2 < i1 then exG TB d 364 82 L st A else exG TB d 364 78 L st A := x_if (op := o_icmp (fun x y => decide (y < x)) 82) rfl rfl rfl
theorem x_364_78  : exG TB d 364 78 L st A = exG TB d 364 79 L (.int (nI 1) :: st) A := x_nx (op := o_push 1 (.int 1)) rfl rfl
theorem x_364_79  : exG TB d 364 79 L st A = exG TB d 364 83 L st A := x_nx (op := o_goto 83) rfl rfl
theorem x_364_82  : exG TB d 364 82 L st A = exG TB d 364 83 L (.int (nI 0) :: st) A := x_nx (op := o_push 1 (.int 0)) rfl rfl
theorem x_364_83  : exG TB d 364 83 (a0 :: a1 :: a2 :: a3 :: a4 :: a5 :: r9) (.int i1 :: st) A = exG TB d 364 85 (a0 :: a1 :: a2 :: a3 :: a4 :: some (.int i1) :: r9) st A := x_nx (op := o_istore 5 2) rfl rfl
theorem x_364_85  : exG TB d 364 85 (a0 :: a1 :: a2 :: a3 :: a4 :: some (.int i1) :: r9) st A = exG TB d 364 87 (a0 :: a1 :: a2 :: a3 :: a4 :: some (.int i1) :: r9) (.int i1 :: st) A := x_nx (op := o_iload 5 2) rfl rfl
theorem x_364_87  : exG TB d 364 87 L (.int i1 :: st) A = if ¬ i1 = nI 0 then exG TB d 364 114 L st A else exG TB d 364 90 L st A := x_if (op := o_if (fun x => decide (¬ x = 0)) 114) rfl rfl rfl
theorem x_364_90  : exG TB d 364 90 (a0 :: a1 :: some (.int i1) :: r9) st A = exG TB d 364 91 (a0 :: a1 :: some (.int i1) :: r9) (.int i1 :: st) A := x_nx (op := o_iload 2 1) rfl rfl
theorem x_364_91  : exG TB d 364 91 L st A = exG TB d 364 92 L (.int nN :: st) A := x_nx (op := o_push 1 (.int (-1))) rfl rfl
theorem x_364_92  : exG TB d 364 92 L (.int i2 :: .int i1 :: st) A = if i1 = i2 then exG TB d 364 105 L st A else exG TB d 364 95 L st A := x_if (op := o_icmp (fun x y => decide (x = y)) 105) rfl rfl rfl
theorem x_364_95  : exG TB d 364 95 (some v :: r9) st A = rg v (exG TB d 364 96 (some v :: r9) (v :: st) A) := x_rg (op := o_aload 0 1) rfl rfl
theorem x_364_96  : exG TB d 364 96 (a0 :: a1 :: some (.int i1) :: r9) st A = exG TB d 364 97 (a0 :: a1 :: some (.int i1) :: r9) (.int i1 :: st) A := x_nx (op := o_iload 2 1) rfl rfl
theorem x_364_97  : exG TB d 364 97 (a0 :: a1 :: a2 :: a3 :: some (.int i1) :: r9) st A = exG TB d 364 99 (a0 :: a1 :: a2 :: a3 :: some (.int i1) :: r9) (.int i1 :: st) A := x_nx (op := o_iload 4 2) rfl rfl
theorem x_364_99  : exG TB d 364 99 L [b1, b0, .ref p] A = kw (sel (gc A p) [(30, 366)]) [.ref p, b0, b1] d 364 102 L [] A := x_cvb (op := o_cv [(30, 366)] 2 3 false none) rfl rfl x_noh rfl
theorem x_364_102  : exG TB d 364 102 L (.int i1 :: st) A = if ¬ i1 = nI 0 then exG TB d 364 111 L st A else exG TB d 364 105 L st A := x_if (op := o_if (fun x => decide (¬ x = 0)) 111) rfl rfl rfl
theorem x_364_105  : exG TB d 364 105 (some v :: r9) st A = rg v (exG TB d 364 106 (some v :: r9) (v :: st) A) := x_rg (op := o_aload 0 1) rfl rfl
theorem x_364_106  : exG TB d 364 106 (a0 :: a1 :: a2 :: a3 :: some (.int i1) :: r9) st A = exG TB d 364 108 (a0 :: a1 :: a2 :: a3 :: some (.int i1) :: r9) (.int i1 :: st) A := x_nx (op := o_iload 4 2) rfl rfl
theorem x_364_108  : exG TB d 364 108 L [b0, .ref p] A = kw0 (sel (gc A p) [(30, 368)]) [.ref p, b0] d 364 111 L [] A := x_c0b (op := o_cv [(30, 368)] 1 3 true none) rfl rfl x_noh rfl
theorem x_364_111  : exG TB d 364 111 (a0 :: a1 :: a2 :: a3 :: some (.int i1) :: r9) st A = exG TB d 364 113 (a0 :: a1 :: a2 :: a3 :: some (.int i1) :: r9) (.int i1 :: st) A := x_nx (op := o_iload 4 2) rfl rfl
theorem x_364_113  : exG TB d 364 113 (a0 :: a1 :: a2 :: r9) (.int i1 :: st) A = exG TB d 364 114 (a0 :: a1 :: some (.int i1) :: r9) st A := x_nx (op := o_istore 2 1) rfl rfl
theorem x_364_114  : exG TB d 364 114 (some v :: r9) st A = rg v (exG TB d 364 115 (some v :: r9) (v :: st) A) := x_rg (op := o_aload 0 1) rfl rfl
theorem x_364_115  : exG TB d 364 115 L (.ref p :: st) A = kv (gf A p 178) d 364 118 L st A := x_bd (op := o_get 178) rfl rfl (fun _ => rfl)
theorem x_364_118  : exG TB d 364 118 (a0 :: a1 :: a2 :: some (.int i1) :: r9) st A = exG TB d 364 119 (a0 :: a1 :: a2 :: some (.int i1) :: r9) (.int i1 :: st) A := x_nx (op := o_iload 3 1) rfl rfl
theorem x_364_119  : exG TB d 364 119 (some v :: r9) st A = rg v (exG TB d 364 120 (some v :: r9) (v :: st) A) := x_rg (op := o_aload 0 1) rfl rfl
theorem x_364_120  : exG TB d 364 120 L (.ref p :: st) A = kv (gf A p 185) d 364 123 L st A := x_bd (op := o_get 185) rfl rfl (fun _ => rfl)
theorem x_364_123  : exG TB d 364 123 L st A = exG TB d 364 124 L (.int (nI 1) :: st) A := x_nx (op := o_push 1 (.int 1)) rfl rfl
theorem x_364_124  : exG TB d 364 124 L (.int i2 :: .int i1 :: st) A = exG TB d 364 125 L (.int (i1 - i2) :: st) A := x_nx (op := o_iop (fun x y => x - y)) rfl rfl
theorem x_364_125  : exG TB d 364 125 L (.int i2 :: .int i1 :: .ref p :: st) A = ka (wrI 0 (ga A p) i1 i2) p d 364 126 L st A := x_bd (op := o_wrI 0) rfl rfl (fun _ => rfl)
theorem x_364_126  : exG TB d 364 126 (a0 :: a1 :: a2 :: some (.int i1) :: r9) st A = exG TB d 364 129 (a0 :: a1 :: a2 :: some (.int (i1 + (nI 1))) :: r9) st A := x_nx (op := o_iinc 3 1) rfl rfl
theorem x_364_129  : exG TB d 364 129 L st A = exG TB d 364 19 L st A := x_nx (op := o_goto 19) rfl rfl
theorem x_364_132  : exG TB d 364 132 (some v :: r9) st A = rg v (exG TB d 364 133 (some v :: r9) (v :: st) A) := x_rg (op := o_aload 0 1) rfl rfl
theorem x_364_133  : exG TB d 364 133 L (.ref p :: st) A = kv (gf A p 179) d 364 136 L st A := x_bd (op := o_get 179) rfl rfl (fun _ => rfl)
theorem x_364_136  : exG TB d 364 136 (some v :: r9) st A = rg v (exG TB d 364 137 (some v :: r9) (v :: st) A) := x_rg (op := o_aload 0 1) rfl rfl
theorem x_364_137  : exG TB d 364 137 L (.ref p :: st) A = kv (gf A p 185) d 364 140 L st A := x_bd (op := o_get 185) rfl rfl (fun _ => rfl)
theorem x_364_140  : exG TB d 364 140 (some v :: r9) st A = rg v (exG TB d 364 141 (some v :: r9) (v :: st) A) := x_rg (op := o_aload 0 1) rfl rfl
theorem x_364_141  : exG TB d 364 141 L (.ref p :: st) A = kv (gf A p 186) d 364 144 L st A := x_bd (op := o_get 186) rfl rfl (fun _ => rfl)
theorem x_364_144  : exG TB d 364 144 L (.int i2 :: .int i1 :: .ref p :: st) A = ka (wrI 0 (ga A p) i1 i2) p d 364 145 L st A := x_bd (op := o_wrI 0) rfl rfl (fun _ => rfl)
theorem x_364_145  : exG TB d 364 145 L [] A = some (.inl none, A) := x_out (op := o_vret) rfl rfl
theorem e_365 {j1 : Int32} : evG TB (d + 1) 365 [.ref p, .int j1] A = exG TB d 365 0 [some (.ref p), some (.int j1), none, none] [] A := evG_eq TB d 365 _ A
theorem x_365_0  : exG TB d 365 0 (some v :: r9) st A = rg v (exG TB d 365 1 (some v :: r9) (v :: st) A) := x_rg (op := o_aload 0 1) rfl rfl
theorem x_365_1  : exG TB d 365 1 L st A = exG TB d 365 2 L (.int (nI 0) :: st) A := x_nx (op := o_push 1 (.int 0)) rfl rfl
theorem x_365_2  : exG TB d 365 2 L (v :: .ref p :: st) A = ck ((gf A p 184).isSome && okv 1 v) (exG TB d 365 5 L st (setf A p 184 v)) := x_gd (op := o_put 184 1) rfl rfl
theorem x_365_5  : exG TB d 365 5 L st A = exG TB d 365 6 L (.int (nI 0) :: st) A := x_nx (op := o_push 1 (.int 0)) rfl rfl
theorem x_365_6  : exG TB d 365 6 (a0 :: a1 :: a2 :: r9) (.int i1 :: st) A = exG TB d 365 7 (a0 :: a1 :: some (.int i1) :: r9) st A := x_nx (op := o_istore 2 1) rfl rfl
theorem x_365_7  : exG TB d 365 7 (a0 :: a1 :: some (.int i1) :: r9) st A = exG TB d 365 8 (a0 :: a1 :: some (.int i1) :: r9) (.int i1 :: st) A := x_nx (op := o_iload 2 1) rfl rfl
theorem x_365_8  : exG TB d 365 8 (some v :: r9) st A = rg v (exG TB d 365 9 (some v :: r9) (v :: st) A) := x_rg (op := o_aload 0 1) rfl rfl
theorem x_365_9  : exG TB d 365 9 L (.ref p :: st) A = kv (gf A p 148) d 365 12 L st A := x_bd (op := o_get 148) rfl rfl (fun _ => rfl)
theorem x_365_12  : exG TB d 365 12 L st A = exG TB d 365 14 L (.int (nI 12) :: st) A := x_nx (op := o_push 2 (.int 12)) rfl rfl
theorem x_365_14  : exG TB d 365 14 L (.int i1 :: .ref p :: st) A = ki (rdI 0 (ga A p) i1) d 365 15 L st A := x_bd (op := o_rdI 0) rfl rfl (fun _ => rfl)
theorem x_365_15  : exG TB d 365 15 L (.int i2 :: .int i1 :: st) A = if i2 ≤ i1 then exG TB d 365 115 L st A else exG TB d 365 18 L st A := x_if (op := o_icmp (fun x y => decide (y ≤ x)) 115) rfl rfl rfl
theorem x_365_18  : exG TB d 365 18 (some v :: r9) st A = rg v (exG TB d 365 19 (some v :: r9) (v :: st) A) := x_rg (op := o_aload 0 1) rfl rfl
theorem x_365_19  : exG TB d 365 19 (a0 :: a1 :: some (.int i1) :: r9) st A = exG TB d 365 20 (a0 :: a1 :: some (.int i1) :: r9) (.int i1 :: st) A := x_nx (op := o_iload 2 1) rfl rfl
theorem x_365_20  : exG TB d 365 20 L st A = exG TB d 365 21 L (.int (nI 0) :: st) A := x_nx (op := o_push 1 (.int 0)) rfl rfl
theorem x_365_21  : exG TB d 365 21 L [b1, b0, .ref p] A = kw (sel (gc A p) [(30, 331)]) [.ref p, b0, b1] d 365 24 L [] A := x_cvb (op := o_cv [(30, 331)] 2 3 false none) rfl rfl x_noh rfl
theorem x_365_24  : exG TB d 365 24 (a0 :: some (.int i1) :: r9) st A = exG TB d 365 25 (a0 :: some (.int i1) :: r9) (.int i1 :: st) A := x_nx (op := o_iload 1 1) rfl rfl
theorem x_365_25  : exG TB d 365 25 L (.int i2 :: .int i1 :: st) A = if ¬ i1 = i2 then exG TB d 365 109 L st A else exG TB d 365 28 L st A := x_if (op := o_icmp (fun x y => decide (¬ x = y)) 109) rfl rfl rfl
theorem x_365_28  : exG TB d 365 28 (some v :: r9) st A = rg v (exG TB d 365 29 (some v :: r9) (v :: st) A) := x_rg (op := o_aload 0 1) rfl rfl
theorem x_365_29  : exG TB d 365 29 (a0 :: a1 :: some (.int i1) :: r9) st A = exG TB d 365 30 (a0 :: a1 :: some (.int i1) :: r9) (.int i1 :: st) A := x_nx (op := o_iload 2 1) rfl rfl
theorem x_365_30  : exG TB d 365 30 L st A = exG TB d 365 31 L (.int (nI 5) :: st) A := x_nx (op := o_push 1 (.int 5)) rfl rfl
theorem x_365_31  : exG TB d 365 31 L [b1, b0, .ref p] A = kw (sel (gc A p) [(30, 331)]) [.ref p, b0, b1] d 365 34 L [] A := x_cvb (op := o_cv [(30, 331)] 2 3 false none) rfl rfl x_noh rfl
theorem x_365_34  : exG TB d 365 34 L st A = exG TB d 365 35 L (.int (nI 1) :: st) A := x_nx (op := o_push 1 (.int 1)) rfl rfl
theorem x_365_35  : exG TB d 365 35 L (.int i2 :: .int i1 :: st) A = if i1 = i2 then exG TB d 365 41 L st A else exG TB d 365 38 L st A := x_if (op := o_icmp (fun x y => decide (x = y)) 41) rfl rfl rfl
theorem x_365_38  : exG TB d 365 38 L st A = exG TB d 365 109 L st A := x_nx (op := o_goto 109) rfl rfl
theorem x_365_41  : exG TB d 365 41 (some v :: r9) st A = rg v (exG TB d 365 42 (some v :: r9) (v :: st) A) := x_rg (op := o_aload 0 1) rfl rfl
theorem x_365_42  : exG TB d 365 42 L (.ref p :: st) A = kv (gf A p 184) d 365 45 L st A := x_bd (op := o_get 184) rfl rfl (fun _ => rfl)
theorem x_365_45  : exG TB d 365 45 (a0 :: a1 :: a2 :: a3 :: r9) (.int i1 :: st) A = exG TB d 365 46 (a0 :: a1 :: a2 :: some (.int i1) :: r9) st A := x_nx (op := o_istore 3 1) rfl rfl
theorem x_365_46  : exG TB d 365 46 (a0 :: a1 :: a2 :: some (.int i1) :: r9) st A = exG TB d 365 47 (a0 :: a1 :: a2 :: some (.int i1) :: r9) (.int i1 :: st) A := x_nx (op := o_iload 3 1) rfl rfl
theorem x_365_47  : exG TB d 365 47 L (.int i1 :: st) A = if i1 ≤ nI 0 then exG TB d 365 92 L st A else exG TB d 365 50 L st A := x_if (op := o_if (fun x => decide (x ≤ 0)) 92) rfl rfl rfl
theorem x_365_50  : exG TB d 365 50 (some v :: r9) st A = rg v (exG TB d 365 51 (some v :: r9) (v :: st) A) := x_rg (op := o_aload 0 1) rfl rfl
theorem x_365_51  : exG TB d 365 51 (some v :: r9) st A = rg v (exG TB d 365 52 (some v :: r9) (v :: st) A) := x_rg (op := o_aload 0 1) rfl rfl
theorem x_365_52  : exG TB d 365 52 L (.ref p :: st) A = kv (gf A p 177) d 365 55 L st A := x_bd (op := o_get 177) rfl rfl (fun _ => rfl)
theorem x_365_55  : exG TB d 365 55 (a0 :: a1 :: a2 :: some (.int i1) :: r9) st A = exG TB d 365 56 (a0 :: a1 :: a2 :: some (.int i1) :: r9) (.int i1 :: st) A := x_nx (op := o_iload 3 1) rfl rfl
theorem x_365_56  : exG TB d 365 56 L st A = exG TB d 365 57 L (.int (nI 1) :: st) A := x_nx (op := o_push 1 (.int 1)) rfl rfl
theorem x_365_57  : exG TB d 365 57 L (.int i2 :: .int i1 :: st) A = exG TB d 365 58 L (.int (i1 - i2) :: st) A := x_nx (op := o_iop (fun x y => x - y)) rfl rfl
theorem x_365_58  : exG TB d 365 58 L (.int i1 :: .ref p :: st) A = ki (rdI 0 (ga A p) i1) d 365 59 L st A := x_bd (op := o_rdI 0) rfl rfl (fun _ => rfl)
theorem x_365_59  : exG TB d 365 59 L st A = exG TB d 365 60 L (.int (nI 2) :: st) A := x_nx (op := o_push 1 (.int 2)) rfl rfl
theorem x_365_60  : exG TB d 365 60 L [b1, b0, .ref p] A = kw (sel (gc A p) [(30, 331)]) [.ref p, b0, b1] d 365 63 L [] A := x_cvb (op := o_cv [(30, 331)] 2 3 false none) rfl rfl x_noh rfl
theorem x_365_63  : exG TB d 365 63 (some v :: r9) st A = rg v (exG TB d 365 64 (some v :: r9) (v :: st) A) := x_rg (op := o_aload 0 1) rfl rfl
theorem x_365_64  : exG TB d 365 64 (a0 :: a1 :: some (.int i1) :: r9) st A = exG TB d 365 65 (a0 :: a1 :: some (.int i1) :: r9) (.int i1 :: st) A := x_nx (op := o_iload 2 1) rfl rfl
theorem x_365_65  : exG TB d 365 65 L st A = exG TB d 365 66 L (.int (nI 2) :: st) A := x_nx (op := o_push 1 (.int 2)) rfl rfl
theorem x_365_66  : exG TB d 365 66 L [b1, b0, .ref p, w0] A = kw (sel (gc A p) [(30, 331)]) [.ref p, b0, b1] d 365 69 L [w0] A := x_cvb (op := o_cv [(30, 331)] 2 3 false none) rfl rfl x_noh rfl
theorem x_365_69  : exG TB d 365 69 L (.int i2 :: .int i1 :: st) A = if i1 ≤ i2 then exG TB d 365 92 L st A else exG TB d 365 72 L st A := x_if (op := o_icmp (fun x y => decide (x ≤ y)) 92) rfl rfl rfl
theorem x_365_72  : exG TB d 365 72 (some v :: r9) st A = rg v (exG TB d 365 73 (some v :: r9) (v :: st) A) := x_rg (op := o_aload 0 1) rfl rfl
theorem x_365_73  : exG TB d 365 73 L (.ref p :: st) A = kv (gf A p 177) d 365 76 L st A := x_bd (op := o_get 177) rfl rfl (fun _ => rfl)
theorem x_365_76  : exG TB d 365 76 (a0 :: a1 :: a2 :: some (.int i1) :: r9) st A = exG TB d 365 77 (a0 :: a1 :: a2 :: some (.int i1) :: r9) (.int i1 :: st) A := x_nx (op := o_iload 3 1) rfl rfl
theorem x_365_77  : exG TB d 365 77 (some v :: r9) st A = rg v (exG TB d 365 78 (some v :: r9) (v :: st) A) := x_rg (op := o_aload 0 1) rfl rfl
theorem x_365_78  : exG TB d 365 78 L (.ref p :: st) A = kv (gf A p 177) d 365 81 L st A := x_bd (op := o_get 177) rfl rfl (fun _ => rfl)
theorem x_365_81  : exG TB d 365 81 (a0 :: a1 :: a2 :: some (.int i1) :: r9) st A = exG TB d 365 82 (a0 :: a1 :: a2 :: some (.int i1) :: r9) (.int i1 :: st) A := x_nx (op := o_iload 3 1) rfl rfl
theorem x_365_82  : exG TB d 365 82 L st A = exG TB d 365 83 L (.int (nI 1) :: st) A := x_nx (op := o_push 1 (.int 1)) rfl rfl
theorem x_365_83  : exG TB d 365 83 L (.int i2 :: .int i1 :: st) A = exG TB d 365 84 L (.int (i1 - i2) :: st) A := x_nx (op := o_iop (fun x y => x - y)) rfl rfl
theorem x_365_84  : exG TB d 365 84 L (.int i1 :: .ref p :: st) A = ki (rdI 0 (ga A p) i1) d 365 85 L st A := x_bd (op := o_rdI 0) rfl rfl (fun _ => rfl)
theorem x_365_85  : exG TB d 365 85 L (.int i2 :: .int i1 :: .ref p :: st) A = ka (wrI 0 (ga A p) i1 i2) p d 365 86 L st A := x_bd (op := o_wrI 0) rfl rfl (fun _ => rfl)
theorem x_365_86  : exG TB d 365 86 (a0 :: a1 :: a2 :: some (.int i1) :: r9) st A = exG TB d 365 89 (a0 :: a1 :: a2 :: some (.int (i1 + nN)) :: r9) st A := x_nx (op := o_iinc 3 (-1)) rfl rfl
theorem x_365_89  : exG TB d 365 89 L st A = exG TB d 365 46 L st A := x_nx (op := o_goto 46) rfl rfl
theorem x_365_92  : exG TB d 365 92 (some v :: r9) st A = rg v (exG TB d 365 93 (some v :: r9) (v :: st) A) := x_rg (op := o_aload 0 1) rfl rfl
theorem x_365_93  : exG TB d 365 93 L (.ref p :: st) A = kv (gf A p 177) d 365 96 L st A := x_bd (op := o_get 177) rfl rfl (fun _ => rfl)
theorem x_365_96  : exG TB d 365 96 (a0 :: a1 :: a2 :: some (.int i1) :: r9) st A = exG TB d 365 97 (a0 :: a1 :: a2 :: some (.int i1) :: r9) (.int i1 :: st) A := x_nx (op := o_iload 3 1) rfl rfl
theorem x_365_97  : exG TB d 365 97 (a0 :: a1 :: some (.int i1) :: r9) st A = exG TB d 365 98 (a0 :: a1 :: some (.int i1) :: r9) (.int i1 :: st) A := x_nx (op := o_iload 2 1) rfl rfl
theorem x_365_98  : exG TB d 365 98 L (.int i2 :: .int i1 :: .ref p :: st) A = ka (wrI 0 (ga A p) i1 i2) p d 365 99 L st A := x_bd (op := o_wrI 0) rfl rfl (fun _ => rfl)
theorem x_365_99  : exG TB d 365 99 (some v :: r9) st A = rg v (exG TB d 365 100 (some v :: r9) (v :: st) A) := x_rg (op := o_aload 0 1) rfl rfl
theorem x_365_100  : exG TB d 365 100 L (v :: st) A = ck (c1 v) (exG TB d 365 101 L (v :: v :: st) A) := x_gd (op := o_dup) rfl rfl
theorem x_365_101  : exG TB d 365 101 L (.ref p :: st) A = kv (gf A p 184) d 365 104 L st A := x_bd (op := o_get 184) rfl rfl (fun _ => rfl)
theorem x_365_104  : exG TB d 365 104 L st A = exG TB d 365 105 L (.int (nI 1) :: st) A := x_nx (op := o_push 1 (.int 1)) rfl rfl
theorem x_365_105  : exG TB d 365 105 L (.int i2 :: .int i1 :: st) A = exG TB d 365 106 L (.int (i1 + i2) :: st) A := x_nx (op := o_iop (fun x y => x + y)) rfl rfl
theorem x_365_106  : exG TB d 365 106 L (v :: .ref p :: st) A = ck ((gf A p 184).isSome && okv 1 v) (exG TB d 365 109 L st (setf A p 184 v)) := x_gd (op := o_put 184 1) rfl rfl
theorem x_365_109  : exG TB d 365 109 (a0 :: a1 :: some (.int i1) :: r9) st A = exG TB d 365 112 (a0 :: a1 :: some (.int (i1 + (nI 1))) :: r9) st A := x_nx (op := o_iinc 2 1) rfl rfl
theorem x_365_112  : exG TB d 365 112 L st A = exG TB d 365 7 L st A := x_nx (op := o_goto 7) rfl rfl
theorem x_365_115  : exG TB d 365 115 L [] A = some (.inl none, A) := x_out (op := o_vret) rfl rfl
theorem e_366 {j1 : Int32} {j2 : Int32} : evG TB (d + 1) 366 [.ref p, .int j1, .int j2] A = exG TB d 366 0 [some (.ref p), some (.int j1), some (.int j2), none, none] [] A := evG_eq TB d 366 _ A
theorem x_366_0  : exG TB d 366 0 (some v :: r9) st A = rg v (exG TB d 366 1 (some v :: r9) (v :: st) A) := x_rg (op := o_aload 0 1) rfl rfl
theorem x_366_1  : exG TB d 366 1 (a0 :: a1 :: some (.int i1) :: r9) st A = exG TB d 366 2 (a0 :: a1 :: some (.int i1) :: r9) (.int i1 :: st) A := x_nx (op := o_iload 2 1) rfl rfl
theorem x_366_2  : exG TB d 366 2 L st A = exG TB d 366 3 L (.int (nI 2) :: st) A := x_nx (op := o_push 1 (.int 2)) rfl rfl
theorem x_366_3  : exG TB d 366 3 L [b1, b0, .ref p] A = kw (sel (gc A p) [(30, 331)]) [.ref p, b0, b1] d 366 6 L [] A := x_cvb (op := o_cv [(30, 331)] 2 3 false none) rfl rfl x_noh rfl
theorem x_366_6  : exG TB d 366 6 (some v :: r9) st A = rg v (exG TB d 366 7 (some v :: r9) (v :: st) A) := x_rg (op := o_aload 0 1) rfl rfl
theorem x_366_7  : exG TB d 366 7 (a0 :: some (.int i1) :: r9) st A = exG TB d 366 8 (a0 :: some (.int i1) :: r9) (.int i1 :: st) A := x_nx (op := o_iload 1 1) rfl rfl
theorem x_366_8  : exG TB d 366 8 L st A = exG TB d 366 9 L (.int (nI 2) :: st) A := x_nx (op := o_push 1 (.int 2)) rfl rfl
theorem x_366_9  : exG TB d 366 9 L [b1, b0, .ref p, w0] A = kw (sel (gc A p) [(30, 331)]) [.ref p, b0, b1] d 366 12 L [w0] A := x_cvb (op := o_cv [(30, 331)] 2 3 false none) rfl rfl x_noh rfl
theorem x_366_12  : exG TB d 366 12 L (.int i2 :: .int i1 :: st) A = exG TB d 366 13 L (.int (i1 - i2) :: st) A := x_nx (op := o_iop (fun x y => x - y)) rfl rfl
theorem x_366_13  : exG TB d 366 13 (a0 :: a1 :: a2 :: a3 :: r9) (.int i1 :: st) A = exG TB d 366 14 (a0 :: a1 :: a2 :: some (.int i1) :: r9) st A := x_nx (op := o_istore 3 1) rfl rfl
theorem x_366_14  : exG TB d 366 14 (some v :: r9) st A = rg v (exG TB d 366 15 (some v :: r9) (v :: st) A) := x_rg (op := o_aload 0 1) rfl rfl
theorem x_366_15  : exG TB d 366 15 (a0 :: some (.int i1) :: r9) st A = exG TB d 366 16 (a0 :: some (.int i1) :: r9) (.int i1 :: st) A := x_nx (op := o_iload 1 1) rfl rfl
theorem x_366_16  : exG TB d 366 16 L st A = exG TB d 366 17 L (.int (nI 1) :: st) A := x_nx (op := o_push 1 (.int 1)) rfl rfl
theorem x_366_17  : exG TB d 366 17 L [b1, b0, .ref p] A = kw (sel (gc A p) [(30, 331)]) [.ref p, b0, b1] d 366 20 L [] A := x_cvb (op := o_cv [(30, 331)] 2 3 false none) rfl rfl x_noh rfl
theorem x_366_20  : exG TB d 366 20 (some v :: r9) st A = rg v (exG TB d 366 21 (some v :: r9) (v :: st) A) := x_rg (op := o_aload 0 1) rfl rfl
theorem x_366_21  : exG TB d 366 21 (a0 :: a1 :: some (.int i1) :: r9) st A = exG TB d 366 22 (a0 :: a1 :: some (.int i1) :: r9) (.int i1 :: st) A := x_nx (op := o_iload 2 1) rfl rfl
theorem x_366_22  : exG TB d 366 22 L st A = exG TB d 366 23 L (.int (nI 1) :: st) A := x_nx (op := o_push 1 (.int 1)) rfl rfl
theorem x_366_23  : exG TB d 366 23 L [b1, b0, .ref p, w0] A = kw (sel (gc A p) [(30, 331)]) [.ref p, b0, b1] d 366 26 L [w0] A := x_cvb (op := o_cv [(30, 331)] 2 3 false none) rfl rfl x_noh rfl
theorem x_366_26  : exG TB d 366 26 L (.int i2 :: .int i1 :: st) A = if i1 = i2 then exG TB d 366 38 L st A else exG TB d 366 29 L st A := x_if (op := o_icmp (fun x y => decide (x = y)) 38) rfl rfl rfl
theorem x_366_29  : exG TB d 366 29 (a0 :: a1 :: a2 :: some (.int i1) :: r9) st A = exG TB d 366 30 (a0 :: a1 :: a2 :: some (.int i1) :: r9) (.int i1 :: st) A := x_nx (op := o_iload 3 1) rfl rfl
theorem x_366_30  : exG TB d 366 30 (some v :: r9) st A = rg v (exG TB d 366 31 (some v :: r9) (v :: st) A) := x_rg (op := o_aload 0 1) rfl rfl
theorem x_366_31  : exG TB d 366 31 L st A = exG TB d 366 32 L (.int (nI 0) :: st) A := x_nx (op := o_push 1 (.int 0)) rfl rfl
theorem x_366_32  : exG TB d 366 32 L [b0, .ref p, w0] A = kw (sel (gc A p) [(30, 328)]) [.ref p, b0] d 366 35 L [w0] A := x_cvb (op := o_cv [(30, 328)] 1 3 false none) rfl rfl x_noh rfl
theorem x_366_35  : exG TB d 366 35 L (.int i2 :: .int i1 :: st) A = if i1 ≤ i2 then exG TB d 366 40 L st A else exG TB d 366 38 L st A := x_if (op := o_icmp (fun x y => decide (x ≤ y)) 40) rfl rfl rfl
theorem x_366_38  : exG TB d 366 38 L st A = exG TB d 366 39 L (.int (nI 0) :: st) A := x_nx (op := o_push 1 (.int 0)) rfl rfl
theorem x_366_39  : exG TB d 366 39 L [v] A = ck (okv 5 v) (some (.inl (some v), A)) := x_outg (op := o_ret 5) rfl rfl
theorem x_366_40  : exG TB d 366 40 (some v :: r9) st A = rg v (exG TB d 366 41 (some v :: r9) (v :: st) A) := x_rg (op := o_aload 0 1) rfl rfl
theorem x_366_41  : exG TB d 366 41 (some v :: r9) st A = rg v (exG TB d 366 42 (some v :: r9) (v :: st) A) := x_rg (op := o_aload 0 1) rfl rfl
theorem x_366_42  : exG TB d 366 42 (a0 :: some (.int i1) :: r9) st A = exG TB d 366 43 (a0 :: some (.int i1) :: r9) (.int i1 :: st) A := x_nx (op := o_iload 1 1) rfl rfl
theorem x_366_43  : exG TB d 366 43 L st A = exG TB d 366 44 L (.int (nI 1) :: st) A := x_nx (op := o_push 1 (.int 1)) rfl rfl
theorem x_366_44  : exG TB d 366 44 L [b1, b0, .ref p, w0] A = kw (sel (gc A p) [(30, 331)]) [.ref p, b0, b1] d 366 47 L [w0] A := x_cvb (op := o_cv [(30, 331)] 2 3 false none) rfl rfl x_noh rfl
theorem x_366_47  : exG TB d 366 47 (some v :: r9) st A = rg v (exG TB d 366 48 (some v :: r9) (v :: st) A) := x_rg (op := o_aload 0 1) rfl rfl
theorem x_366_48  : exG TB d 366 48 (a0 :: a1 :: some (.int i1) :: r9) st A = exG TB d 366 49 (a0 :: a1 :: some (.int i1) :: r9) (.int i1 :: st) A := x_nx (op := o_iload 2 1) rfl rfl
theorem x_366_49  : exG TB d 366 49 L st A = exG TB d 366 50 L (.int (nI 1) :: st) A := x_nx (op := o_push 1 (.int 1)) rfl rfl
theorem x_366_50  : exG TB d 366 50 L [b1, b0, .ref p, w0, w1] A = kw (sel (gc A p) [(30, 331)]) [.ref p, b0, b1] d 366 53 L [w0, w1] A := x_cvb (op := o_cv [(30, 331)] 2 3 false none) rfl rfl x_noh rfl
theorem x_366_53  : exG TB d 366 53 (a0 :: a1 :: a2 :: some (.int i1) :: r9) st A = exG TB d 366 54 (a0 :: a1 :: a2 :: some (.int i1) :: r9) (.int i1 :: st) A := x_nx (op := o_iload 3 1) rfl rfl
theorem x_366_54  : exG TB d 366 54 L [b2, b1, b0, .ref p] A = kw0 (sel (gc A p) [(30, 345)]) [.ref p, b0, b1, b2] d 366 57 L [] A := x_c0b (op := o_cv [(30, 345)] 3 3 true none) rfl rfl x_noh rfl
theorem x_366_57  : exG TB d 366 57 (some v :: r9) st A = rg v (exG TB d 366 58 (some v :: r9) (v :: st) A) := x_rg (op := o_aload 0 1) rfl rfl
theorem x_366_58  : exG TB d 366 58 L (.ref p :: st) A = kv (gf A p 172) d 366 61 L st A := x_bd (op := o_get 172) rfl rfl (fun _ => rfl)
theorem x_366_61  : exG TB d 366 61 L st A = exG TB d 366 64 L (.int (nI 1000000000) :: st) A := x_nx (op := o_push 3 (.int 1000000000)) rfl rfl
theorem x_366_64  : exG TB d 366 64 L (.int i2 :: .int i1 :: st) A = if ¬ i1 = i2 then exG TB d 366 69 L st A else exG TB d 366 67 L st A := x_if (op := o_icmp (fun x y => decide (¬ x = y)) 69) rfl rfl rfl
theorem x_366_67  : exG TB d 366 67 L st A = exG TB d 366 68 L (.int (nI 0) :: st) A := x_nx (op := o_push 1 (.int 0)) rfl rfl
theorem x_366_68  : exG TB d 366 68 L [v] A = ck (okv 5 v) (some (.inl (some v), A)) := x_outg (op := o_ret 5) rfl rfl
theorem x_366_69  : exG TB d 366 69 (some v :: r9) st A = rg v (exG TB d 366 70 (some v :: r9) (v :: st) A) := x_rg (op := o_aload 0 1) rfl rfl
theorem x_366_70  : exG TB d 366 70 L (.ref p :: st) A = kv (gf A p 180) d 366 73 L st A := x_bd (op := o_get 180) rfl rfl (fun _ => rfl)
theorem x_366_73  : exG TB d 366 73 (some v :: r9) st A = rg v (exG TB d 366 74 (some v :: r9) (v :: st) A) := x_rg (op := o_aload 0 1) rfl rfl
theorem x_366_74  : exG TB d 366 74 L (.ref p :: st) A = kv (gf A p 185) d 366 77 L st A := x_bd (op := o_get 185) rfl rfl (fun _ => rfl)
theorem x_366_77  : exG TB d 366 77 L st A = exG TB d 366 78 L (.int (nI 1) :: st) A := x_nx (op := o_push 1 (.int 1)) rfl rfl
theorem x_366_78  : exG TB d 366 78 L (.int i2 :: .int i1 :: st) A = exG TB d 366 79 L (.int (i1 - i2) :: st) A := x_nx (op := o_iop (fun x y => x - y)) rfl rfl
theorem x_366_79  : exG TB d 366 79 L (v :: v2 :: st) A = ck (c1 v && c1 v2) (exG TB d 366 80 L (v :: v2 :: v :: v2 :: st) A) := x_gd (op := o_dup2) rfl rfl
theorem x_366_80  : exG TB d 366 80 L (.int i1 :: .ref p :: st) A = ki (rdI 0 (ga A p) i1) d 366 81 L st A := x_bd (op := o_rdI 0) rfl rfl (fun _ => rfl)
theorem x_366_81  : exG TB d 366 81 (some v :: r9) st A = rg v (exG TB d 366 82 (some v :: r9) (v :: st) A) := x_rg (op := o_aload 0 1) rfl rfl
theorem x_366_82  : exG TB d 366 82 L (.ref p :: st) A = kv (gf A p 172) d 366 85 L st A := x_bd (op := o_get 172) rfl rfl (fun _ => rfl)
theorem x_366_85  : exG TB d 366 85 L (.int i2 :: .int i1 :: st) A = exG TB d 366 86 L (.int (i1 + i2) :: st) A := x_nx (op := o_iop (fun x y => x + y)) rfl rfl
theorem x_366_86  : exG TB d 366 86 L (.int i2 :: .int i1 :: .ref p :: st) A = ka (wrI 0 (ga A p) i1 i2) p d 366 87 L st A := x_bd (op := o_wrI 0) rfl rfl (fun _ => rfl)
theorem x_366_87  : exG TB d 366 87 (some v :: r9) st A = rg v (exG TB d 366 88 (some v :: r9) (v :: st) A) := x_rg (op := o_aload 0 1) rfl rfl
theorem x_366_88  : exG TB d 366 88 L (.ref p :: st) A = kv (gf A p 181) d 366 91 L st A := x_bd (op := o_get 181) rfl rfl (fun _ => rfl)
theorem x_366_91  : exG TB d 366 91 (some v :: r9) st A = rg v (exG TB d 366 92 (some v :: r9) (v :: st) A) := x_rg (op := o_aload 0 1) rfl rfl
theorem x_366_92  : exG TB d 366 92 L (.ref p :: st) A = kv (gf A p 185) d 366 95 L st A := x_bd (op := o_get 185) rfl rfl (fun _ => rfl)
theorem x_366_95  : exG TB d 366 95 L st A = exG TB d 366 96 L (.int (nI 1) :: st) A := x_nx (op := o_push 1 (.int 1)) rfl rfl
theorem x_366_96  : exG TB d 366 96 L (.int i2 :: .int i1 :: st) A = exG TB d 366 97 L (.int (i1 - i2) :: st) A := x_nx (op := o_iop (fun x y => x - y)) rfl rfl
theorem x_366_97  : exG TB d 366 97 L (v :: v2 :: st) A = ck (c1 v && c1 v2) (exG TB d 366 98 L (v :: v2 :: v :: v2 :: st) A) := x_gd (op := o_dup2) rfl rfl
theorem x_366_98  : exG TB d 366 98 L (.int i1 :: .ref p :: st) A = ki (rdI 0 (ga A p) i1) d 366 99 L st A := x_bd (op := o_rdI 0) rfl rfl (fun _ => rfl)
theorem x_366_99  : exG TB d 366 99 (some v :: r9) st A = rg v (exG TB d 366 100 (some v :: r9) (v :: st) A) := x_rg (op := o_aload 0 1) rfl rfl
theorem x_366_100  : exG TB d 366 100 L (.ref p :: st) A = kv (gf A p 174) d 366 103 L st A := x_bd (op := o_get 174) rfl rfl (fun _ => rfl)
theorem x_366_103  : exG TB d 366 103 L (.int i2 :: .int i1 :: st) A = exG TB d 366 104 L (.int (i1 + i2) :: st) A := x_nx (op := o_iop (fun x y => x + y)) rfl rfl
theorem x_366_104  : exG TB d 366 104 L (.int i2 :: .int i1 :: .ref p :: st) A = ka (wrI 0 (ga A p) i1 i2) p d 366 105 L st A := x_bd (op := o_wrI 0) rfl rfl (fun _ => rfl)
theorem x_366_105  : exG TB d 366 105 L st A = exG TB d 366 106 L (.int (nI 1) :: st) A := x_nx (op := o_push 1 (.int 1)) rfl rfl
theorem x_366_106  : exG TB d 366 106 (a0 :: a1 :: a2 :: a3 :: a4 :: r9) (.int i1 :: st) A = exG TB d 366 108 (a0 :: a1 :: a2 :: a3 :: some (.int i1) :: r9) st A := x_nx (op := o_istore 4 2) rfl rfl
theorem x_366_108  : exG TB d 366 108 (a0 :: a1 :: a2 :: a3 :: some (.int i1) :: r9) st A = exG TB d 366 110 (a0 :: a1 :: a2 :: a3 :: some (.int i1) :: r9) (.int i1 :: st) A := x_nx (op := o_iload 4 2) rfl rfl
theorem x_366_110  : exG TB d 366 110 (some v :: r9) st A = rg v (exG TB d 366 111 (some v :: r9) (v :: st) A) := x_rg (op := o_aload 0 1) rfl rfl
theorem x_366_111  : exG TB d 366 111 L (.ref p :: st) A = kv (gf A p 173) d 366 114 L st A := x_bd (op := o_get 173) rfl rfl (fun _ => rfl)
theorem x_366_114  : exG TB d 366 114 L (.int i2 :: .int i1 :: st) A = if i2 < i1 then exG TB d 366 148 L st A else exG TB d 366 117 L st A := x_if (op := o_icmp (fun x y => decide (y < x)) 148) rfl rfl rfl
theorem x_366_117  : exG TB d 366 117 (some v :: r9) st A = rg v (exG TB d 366 118 (some v :: r9) (v :: st) A) := x_rg (op := o_aload 0 1) rfl rfl
theorem x_366_118  : exG TB d 366 118 (some v :: r9) st A = rg v (exG TB d 366 119 (some v :: r9) (v :: st) A) := x_rg (op := o_aload 0 1) rfl rfl
theorem x_366_119  : exG TB d 366 119 L (.ref p :: st) A = kv (gf A p 171) d 366 122 L st A := x_bd (op := o_get 171) rfl rfl (fun _ => rfl)
theorem x_366_122  : exG TB d 366 122 (a0 :: a1 :: a2 :: a3 :: some (.int i1) :: r9) st A = exG TB d 366 124 (a0 :: a1 :: a2 :: a3 :: some (.int i1) :: r9) (.int i1 :: st) A := x_nx (op := o_iload 4 2) rfl rfl
theorem x_366_124  : exG TB d 366 124 L (.int i1 :: .ref p :: st) A = ki (rdI 0 (ga A p) i1) d 366 125 L st A := x_bd (op := o_rdI 0) rfl rfl (fun _ => rfl)
theorem x_366_125  : exG TB d 366 125 (a0 :: a1 :: a2 :: a3 :: some (.int i1) :: r9) st A = exG TB d 366 127 (a0 :: a1 :: a2 :: a3 :: some (.int i1) :: r9) (.int i1 :: st) A := x_nx (op := o_iload 4 2) rfl rfl
theorem x_366_127  : exG TB d 366 127 (some v :: r9) st A = rg v (exG TB d 366 128 (some v :: r9) (v :: st) A) := x_rg (op := o_aload 0 1) rfl rfl
theorem x_366_128  : exG TB d 366 128 L (.ref p :: st) A = kv (gf A p 173) d 366 131 L st A := x_bd (op := o_get 173) rfl rfl (fun _ => rfl)
theorem x_366_131  : exG TB d 366 131 L (.int i2 :: .int i1 :: st) A = if i2 ≤ i1 then exG TB d 366 138 L st A else exG TB d 366 134 L st A := x_if (op := o_icmp (fun x y => decide (y ≤ x)) 138) rfl rfl rfl
theorem x_366_134  : exG TB d 366 134 L st A = exG TB d 366 135 L (.int (nI 1) :: st) A := x_nx (op := o_push 1 (.int 1)) rfl rfl
theorem x_366_135  : exG TB d 366 135 L st A = exG TB d 366 139 L st A := x_nx (op := o_goto 139) rfl rfl
theorem x_366_138  : exG TB d 366 138 L st A = exG TB d 366 139 L (.int (nI 0) :: st) A := x_nx (op := o_push 1 (.int 0)) rfl rfl
theorem x_366_139  : exG TB d 366 139 L [b1, b0, .ref p] A = kw0 (sel (gc A p) [(30, 367)]) [.ref p, b0, b1] d 366 142 L [] A := x_c0b (op := o_cv [(30, 367)] 2 3 true none) rfl rfl x_noh rfl
theorem x_366_142  : exG TB d 366 142 (a0 :: a1 :: a2 :: a3 :: some (.int i1) :: r9) st A = exG TB d 366 145 (a0 :: a1 :: a2 :: a3 :: some (.int (i1 + (nI 1))) :: r9) st A := x_nx (op := o_iinc 4 1) rfl rfl
theorem x_366_145  : exG TB d 366 145 L st A = exG TB d 366 108 L st A := x_nx (op := o_goto 108) rfl rfl
theorem x_366_148  : exG TB d 366 148 L st A = exG TB d 366 149 L (.int (nI 1) :: st) A := x_nx (op := o_push 1 (.int 1)) rfl rfl
theorem x_366_149  : exG TB d 366 149 L [v] A = ck (okv 5 v) (some (.inl (some v), A)) := x_outg (op := o_ret 5) rfl rfl
theorem e_367 {j1 : Int32} {j2 : Int32} : evG TB (d + 1) 367 [.ref p, .int j1, .int j2] A = exG TB d 367 0 [some (.ref p), some (.int j1), some (.int j2)] [] A := evG_eq TB d 367 _ A
theorem x_367_0  : exG TB d 367 0 (some v :: r9) st A = rg v (exG TB d 367 1 (some v :: r9) (v :: st) A) := x_rg (op := o_aload 0 1) rfl rfl
theorem x_367_1  : exG TB d 367 1 L (.ref p :: st) A = kv (gf A p 182) d 367 4 L st A := x_bd (op := o_get 182) rfl rfl (fun _ => rfl)
theorem x_367_4  : exG TB d 367 4 (some v :: r9) st A = rg v (exG TB d 367 5 (some v :: r9) (v :: st) A) := x_rg (op := o_aload 0 1) rfl rfl
theorem x_367_5  : exG TB d 367 5 L (.ref p :: st) A = kv (gf A p 186) d 367 8 L st A := x_bd (op := o_get 186) rfl rfl (fun _ => rfl)
theorem x_367_8  : exG TB d 367 8 (a0 :: some (.int i1) :: r9) st A = exG TB d 367 9 (a0 :: some (.int i1) :: r9) (.int i1 :: st) A := x_nx (op := o_iload 1 1) rfl rfl
theorem x_367_9  : exG TB d 367 9 L (.int i2 :: .int i1 :: .ref p :: st) A = ka (wrI 0 (ga A p) i1 i2) p d 367 10 L st A := x_bd (op := o_wrI 0) rfl rfl (fun _ => rfl)
theorem x_367_10  : exG TB d 367 10 (some v :: r9) st A = rg v (exG TB d 367 11 (some v :: r9) (v :: st) A) := x_rg (op := o_aload 0 1) rfl rfl
theorem x_367_11  : exG TB d 367 11 L (.ref p :: st) A = kv (gf A p 183) d 367 14 L st A := x_bd (op := o_get 183) rfl rfl (fun _ => rfl)
theorem x_367_14  : exG TB d 367 14 (some v :: r9) st A = rg v (exG TB d 367 15 (some v :: r9) (v :: st) A) := x_rg (op := o_aload 0 1) rfl rfl
theorem x_367_15  : exG TB d 367 15 L (.ref p :: st) A = kv (gf A p 186) d 367 18 L st A := x_bd (op := o_get 186) rfl rfl (fun _ => rfl)
theorem x_367_18  : exG TB d 367 18 (a0 :: a1 :: some (.int i1) :: r9) st A = exG TB d 367 19 (a0 :: a1 :: some (.int i1) :: r9) (.int i1 :: st) A := x_nx (op := o_iload 2 1) rfl rfl
theorem x_367_19  : exG TB d 367 19 L (.int i2 :: .int i1 :: .ref p :: st) A = ka (wrI 2 (ga A p) i1 i2) p d 367 20 L st A := x_bd (op := o_wrI 2) rfl rfl (fun _ => rfl)
theorem x_367_20  : exG TB d 367 20 (some v :: r9) st A = rg v (exG TB d 367 21 (some v :: r9) (v :: st) A) := x_rg (op := o_aload 0 1) rfl rfl
theorem x_367_21  : exG TB d 367 21 L (v :: st) A = ck (c1 v) (exG TB d 367 22 L (v :: v :: st) A) := x_gd (op := o_dup) rfl rfl
theorem x_367_22  : exG TB d 367 22 L (.ref p :: st) A = kv (gf A p 186) d 367 25 L st A := x_bd (op := o_get 186) rfl rfl (fun _ => rfl)
theorem x_367_25  : exG TB d 367 25 L st A = exG TB d 367 26 L (.int (nI 1) :: st) A := x_nx (op := o_push 1 (.int 1)) rfl rfl
theorem x_367_26  : exG TB d 367 26 L (.int i2 :: .int i1 :: st) A = exG TB d 367 27 L (.int (i1 + i2) :: st) A := x_nx (op := o_iop (fun x y => x + y)) rfl rfl
theorem x_367_27  : exG TB d 367 27 L (v :: .ref p :: st) A = ck ((gf A p 186).isSome && okv 1 v) (exG TB d 367 30 L st (setf A p 186 v)) := x_gd (op := o_put 186 1) rfl rfl
theorem x_367_30  : exG TB d 367 30 L [] A = some (.inl none, A) := x_out (op := o_vret) rfl rfl
theorem e_368 {j1 : Int32} : evG TB (d + 1) 368 [.ref p, .int j1] A = exG TB d 368 0 [some (.ref p), some (.int j1)] [] A := evG_eq TB d 368 _ A
theorem x_368_0  : exG TB d 368 0 (some v :: r9) st A = rg v (exG TB d 368 1 (some v :: r9) (v :: st) A) := x_rg (op := o_aload 0 1) rfl rfl
theorem x_368_1  : exG TB d 368 1 L (.ref p :: st) A = kv (gf A p 179) d 368 4 L st A := x_bd (op := o_get 179) rfl rfl (fun _ => rfl)
theorem x_368_4  : exG TB d 368 4 (some v :: r9) st A = rg v (exG TB d 368 5 (some v :: r9) (v :: st) A) := x_rg (op := o_aload 0 1) rfl rfl
theorem x_368_5  : exG TB d 368 5 L (.ref p :: st) A = kv (gf A p 185) d 368 8 L st A := x_bd (op := o_get 185) rfl rfl (fun _ => rfl)
theorem x_368_8  : exG TB d 368 8 (some v :: r9) st A = rg v (exG TB d 368 9 (some v :: r9) (v :: st) A) := x_rg (op := o_aload 0 1) rfl rfl
theorem x_368_9  : exG TB d 368 9 L (.ref p :: st) A = kv (gf A p 186) d 368 12 L st A := x_bd (op := o_get 186) rfl rfl (fun _ => rfl)
theorem x_368_12  : exG TB d 368 12 L (.int i2 :: .int i1 :: .ref p :: st) A = ka (wrI 0 (ga A p) i1 i2) p d 368 13 L st A := x_bd (op := o_wrI 0) rfl rfl (fun _ => rfl)
theorem x_368_13  : exG TB d 368 13 (some v :: r9) st A = rg v (exG TB d 368 14 (some v :: r9) (v :: st) A) := x_rg (op := o_aload 0 1) rfl rfl
theorem x_368_14  : exG TB d 368 14 L (.ref p :: st) A = kv (gf A p 180) d 368 17 L st A := x_bd (op := o_get 180) rfl rfl (fun _ => rfl)
theorem x_368_17  : exG TB d 368 17 (some v :: r9) st A = rg v (exG TB d 368 18 (some v :: r9) (v :: st) A) := x_rg (op := o_aload 0 1) rfl rfl
theorem x_368_18  : exG TB d 368 18 L (.ref p :: st) A = kv (gf A p 185) d 368 21 L st A := x_bd (op := o_get 185) rfl rfl (fun _ => rfl)
theorem x_368_21  : exG TB d 368 21 L st A = exG TB d 368 22 L (.int (nI 0) :: st) A := x_nx (op := o_push 1 (.int 0)) rfl rfl
theorem x_368_22  : exG TB d 368 22 L (.int i2 :: .int i1 :: .ref p :: st) A = ka (wrI 0 (ga A p) i1 i2) p d 368 23 L st A := x_bd (op := o_wrI 0) rfl rfl (fun _ => rfl)
theorem x_368_23  : exG TB d 368 23 (some v :: r9) st A = rg v (exG TB d 368 24 (some v :: r9) (v :: st) A) := x_rg (op := o_aload 0 1) rfl rfl
theorem x_368_24  : exG TB d 368 24 L (.ref p :: st) A = kv (gf A p 181) d 368 27 L st A := x_bd (op := o_get 181) rfl rfl (fun _ => rfl)
theorem x_368_27  : exG TB d 368 27 (some v :: r9) st A = rg v (exG TB d 368 28 (some v :: r9) (v :: st) A) := x_rg (op := o_aload 0 1) rfl rfl
theorem x_368_28  : exG TB d 368 28 L (.ref p :: st) A = kv (gf A p 185) d 368 31 L st A := x_bd (op := o_get 185) rfl rfl (fun _ => rfl)
theorem x_368_31  : exG TB d 368 31 L st A = exG TB d 368 32 L (.int (nI 0) :: st) A := x_nx (op := o_push 1 (.int 0)) rfl rfl
theorem x_368_32  : exG TB d 368 32 L (.int i2 :: .int i1 :: .ref p :: st) A = ka (wrI 0 (ga A p) i1 i2) p d 368 33 L st A := x_bd (op := o_wrI 0) rfl rfl (fun _ => rfl)
theorem x_368_33  : exG TB d 368 33 (some v :: r9) st A = rg v (exG TB d 368 34 (some v :: r9) (v :: st) A) := x_rg (op := o_aload 0 1) rfl rfl
theorem x_368_34  : exG TB d 368 34 L (v :: st) A = ck (c1 v) (exG TB d 368 35 L (v :: v :: st) A) := x_gd (op := o_dup) rfl rfl
theorem x_368_35  : exG TB d 368 35 L (.ref p :: st) A = kv (gf A p 185) d 368 38 L st A := x_bd (op := o_get 185) rfl rfl (fun _ => rfl)
theorem x_368_38  : exG TB d 368 38 L st A = exG TB d 368 39 L (.int (nI 1) :: st) A := x_nx (op := o_push 1 (.int 1)) rfl rfl
theorem x_368_39  : exG TB d 368 39 L (.int i2 :: .int i1 :: st) A = exG TB d 368 40 L (.int (i1 + i2) :: st) A := x_nx (op := o_iop (fun x y => x + y)) rfl rfl
theorem x_368_40  : exG TB d 368 40 L (v :: .ref p :: st) A = ck ((gf A p 185).isSome && okv 1 v) (exG TB d 368 43 L st (setf A p 185 v)) := x_gd (op := o_put 185 1) rfl rfl
theorem x_368_43  : exG TB d 368 43 (some v :: r9) st A = rg v (exG TB d 368 44 (some v :: r9) (v :: st) A) := x_rg (op := o_aload 0 1) rfl rfl
theorem x_368_44  : exG TB d 368 44 (some v :: r9) st A = rg v (exG TB d 368 45 (some v :: r9) (v :: st) A) := x_rg (op := o_aload 0 1) rfl rfl
theorem x_368_45  : exG TB d 368 45 (a0 :: some (.int i1) :: r9) st A = exG TB d 368 46 (a0 :: some (.int i1) :: r9) (.int i1 :: st) A := x_nx (op := o_iload 1 1) rfl rfl
theorem x_368_46  : exG TB d 368 46 L st A = exG TB d 368 47 L (.int (nI 1) :: st) A := x_nx (op := o_push 1 (.int 1)) rfl rfl
theorem x_368_47  : exG TB d 368 47 L [b1, b0, .ref p, w0] A = kw (sel (gc A p) [(30, 331)]) [.ref p, b0, b1] d 368 50 L [w0] A := x_cvb (op := o_cv [(30, 331)] 2 3 false none) rfl rfl x_noh rfl
theorem x_368_50  : exG TB d 368 50 L st A = exG TB d 368 51 L (.int (nI 0) :: st) A := x_nx (op := o_push 1 (.int 0)) rfl rfl
theorem x_368_51  : exG TB d 368 51 L [b1, b0, .ref p] A = kw0 (sel (gc A p) [(30, 367)]) [.ref p, b0, b1] d 368 54 L [] A := x_c0b (op := o_cv [(30, 367)] 2 3 true none) rfl rfl x_noh rfl
theorem x_368_54  : exG TB d 368 54 L [] A = some (.inl none, A) := x_out (op := o_vret) rfl rfl
theorem e_369 {j1 : Int32} {j2 : Int32} {j3 : Int32} : evG TB (d + 1) 369 [.ref p, .int j1, .int j2, .int j3] A = exG TB d 369 0 [some (.ref p), some (.int j1), some (.int j2), some (.int j3)] [] A := evG_eq TB d 369 _ A
theorem x_369_0  : exG TB d 369 0 (some v :: r9) st A = rg v (exG TB d 369 1 (some v :: r9) (v :: st) A) := x_rg (op := o_aload 0 1) rfl rfl
theorem x_369_1  : exG TB d 369 1 L st A = exG TB d 369 2 L (.int (nI 0) :: st) A := x_nx (op := o_push 1 (.int 0)) rfl rfl
theorem x_369_2  : exG TB d 369 2 L (v :: .ref p :: st) A = ck ((gf A p 155).isSome && okv 1 v) (exG TB d 369 5 L st (setf A p 155 v)) := x_gd (op := o_put 155 1) rfl rfl
theorem x_369_5  : exG TB d 369 5 (some v :: r9) st A = rg v (exG TB d 369 6 (some v :: r9) (v :: st) A) := x_rg (op := o_aload 0 1) rfl rfl
theorem x_369_6  : exG TB d 369 6 (a0 :: some (.int i1) :: r9) st A = exG TB d 369 7 (a0 :: some (.int i1) :: r9) (.int i1 :: st) A := x_nx (op := o_iload 1 1) rfl rfl
theorem x_369_7  : exG TB d 369 7 (a0 :: a1 :: some (.int i1) :: r9) st A = exG TB d 369 8 (a0 :: a1 :: some (.int i1) :: r9) (.int i1 :: st) A := x_nx (op := o_iload 2 1) rfl rfl
theorem x_369_8  : exG TB d 369 8 L [b1, b0, .ref p] A = kw (sel (gc A p) [(30, 370)]) [.ref p, b0, b1] d 369 11 L [] A := x_cvb (op := o_cv [(30, 370)] 2 3 false none) rfl rfl x_noh rfl
theorem x_369_11  : exG TB d 369 11 L (.int i1 :: st) A = if ¬ i1 = nI 0 then exG TB d 369 20 L st A else exG TB d 369 14 L st A := x_if (op := o_if (fun x => decide (¬ x = 0)) 20) rfl rfl rfl
theorem x_369_14  : exG TB d 369 14 (some v :: r9) st A = rg v (exG TB d 369 15 (some v :: r9) (v :: st) A) := x_rg (op := o_aload 0 1) rfl rfl
theorem x_369_15  : exG TB d 369 15 L st A = exG TB d 369 16 L (.int (nI 1) :: st) A := x_nx (op := o_push 1 (.int 1)) rfl rfl
theorem x_369_16  : exG TB d 369 16 L [b0, .ref p] A = kw (sel (gc A p) [(30, 291)]) [.ref p, b0] d 369 19 L [] A := x_cvb (op := o_cv [(30, 291)] 1 3 false none) rfl rfl x_noh rfl
theorem x_369_19  : exG TB d 369 19 L [v] A = ck (okv 1 v) (some (.inl (some v), A)) := x_outg (op := o_ret 1) rfl rfl
theorem x_369_20  : exG TB d 369 20 (a0 :: a1 :: a2 :: some (.int i1) :: r9) st A = exG TB d 369 21 (a0 :: a1 :: a2 :: some (.int i1) :: r9) (.int i1 :: st) A := x_nx (op := o_iload 3 1) rfl rfl
theorem x_369_21  : exG TB d 369 21 L (.int i1 :: st) A = exG TB d 369 (swt 0 [68, 75, 82, 89, 95, 101, 115, 122] 129 i1) L st A := x_nx (op := o_sw (swt 0 [68, 75, 82, 89, 95, 101, 115, 122] 129)) rfl rfl
theorem x_369_68  : exG TB d 369 68 (some v :: r9) st A = rg v (exG TB d 369 69 (some v :: r9) (v :: st) A) := x_rg (op := o_aload 0 1) rfl rfl
theorem x_369_69  : exG TB d 369 69 (a0 :: a1 :: some (.int i1) :: r9) st A = exG TB d 369 70 (a0 :: a1 :: some (.int i1) :: r9) (.int i1 :: st) A := x_nx (op := o_iload 2 1) rfl rfl
theorem x_369_70  : exG TB d 369 70 L st A = exG TB d 369 71 L (.int (nI 0) :: st) A := x_nx (op := o_push 1 (.int 0)) rfl rfl
theorem x_369_71  : exG TB d 369 71 L [b1, b0, .ref p] A = kw (sel (gc A p) [(30, 371)]) [.ref p, b0, b1] d 369 74 L [] A := x_cvb (op := o_cv [(30, 371)] 2 3 false none) rfl rfl x_noh rfl
theorem x_369_74  : exG TB d 369 74 L [v] A = ck (okv 1 v) (some (.inl (some v), A)) := x_outg (op := o_ret 1) rfl rfl
theorem x_369_75  : exG TB d 369 75 (some v :: r9) st A = rg v (exG TB d 369 76 (some v :: r9) (v :: st) A) := x_rg (op := o_aload 0 1) rfl rfl
theorem x_369_76  : exG TB d 369 76 (a0 :: a1 :: some (.int i1) :: r9) st A = exG TB d 369 77 (a0 :: a1 :: some (.int i1) :: r9) (.int i1 :: st) A := x_nx (op := o_iload 2 1) rfl rfl
theorem x_369_77  : exG TB d 369 77 L st A = exG TB d 369 78 L (.int (nI 1) :: st) A := x_nx (op := o_push 1 (.int 1)) rfl rfl
theorem x_369_78  : exG TB d 369 78 L [b1, b0, .ref p] A = kw (sel (gc A p) [(30, 371)]) [.ref p, b0, b1] d 369 81 L [] A := x_cvb (op := o_cv [(30, 371)] 2 3 false none) rfl rfl x_noh rfl
theorem x_369_81  : exG TB d 369 81 L [v] A = ck (okv 1 v) (some (.inl (some v), A)) := x_outg (op := o_ret 1) rfl rfl
theorem x_369_82  : exG TB d 369 82 (some v :: r9) st A = rg v (exG TB d 369 83 (some v :: r9) (v :: st) A) := x_rg (op := o_aload 0 1) rfl rfl
theorem x_369_83  : exG TB d 369 83 (a0 :: a1 :: some (.int i1) :: r9) st A = exG TB d 369 84 (a0 :: a1 :: some (.int i1) :: r9) (.int i1 :: st) A := x_nx (op := o_iload 2 1) rfl rfl
theorem x_369_84  : exG TB d 369 84 L st A = exG TB d 369 85 L (.int (nI 0) :: st) A := x_nx (op := o_push 1 (.int 0)) rfl rfl
theorem x_369_85  : exG TB d 369 85 L [b1, b0, .ref p] A = kw (sel (gc A p) [(30, 372)]) [.ref p, b0, b1] d 369 88 L [] A := x_cvb (op := o_cv [(30, 372)] 2 3 false none) rfl rfl x_noh rfl
theorem x_369_88  : exG TB d 369 88 L [v] A = ck (okv 1 v) (some (.inl (some v), A)) := x_outg (op := o_ret 1) rfl rfl
theorem x_369_89  : exG TB d 369 89 (some v :: r9) st A = rg v (exG TB d 369 90 (some v :: r9) (v :: st) A) := x_rg (op := o_aload 0 1) rfl rfl
theorem x_369_90  : exG TB d 369 90 (a0 :: a1 :: some (.int i1) :: r9) st A = exG TB d 369 91 (a0 :: a1 :: some (.int i1) :: r9) (.int i1 :: st) A := x_nx (op := o_iload 2 1) rfl rfl
theorem x_369_91  : exG TB d 369 91 L [b0, .ref p] A = kw (sel (gc A p) [(30, 373)]) [.ref p, b0] d 369 94 L [] A := x_cvb (op := o_cv [(30, 373)] 1 3 false none) rfl rfl x_noh rfl
theorem x_369_94  : exG TB d 369 94 L [v] A = ck (okv 1 v) (some (.inl (some v), A)) := x_outg (op := o_ret 1) rfl rfl
theorem x_369_95  : exG TB d 369 95 (some v :: r9) st A = rg v (exG TB d 369 96 (some v :: r9) (v :: st) A) := x_rg (op := o_aload 0 1) rfl rfl
theorem x_369_96  : exG TB d 369 96 (a0 :: a1 :: some (.int i1) :: r9) st A = exG TB d 369 97 (a0 :: a1 :: some (.int i1) :: r9) (.int i1 :: st) A := x_nx (op := o_iload 2 1) rfl rfl
theorem x_369_97  : exG TB d 369 97 L [b0, .ref p] A = kw (sel (gc A p) [(30, 374)]) [.ref p, b0] d 369 100 L [] A := x_cvb (op := o_cv [(30, 374)] 1 3 false none) rfl rfl x_noh rfl
theorem x_369_100  : exG TB d 369 100 L [v] A = ck (okv 1 v) (some (.inl (some v), A)) := x_outg (op := o_ret 1) rfl rfl
theorem x_369_101  : exG TB d 369 101 (some v :: r9) st A = rg v (exG TB d 369 102 (some v :: r9) (v :: st) A) := x_rg (op := o_aload 0 1) rfl rfl
theorem x_369_102  : exG TB d 369 102 L (.ref p :: st) A = kv (gf A p 181) d 369 105 L st A := x_bd (op := o_get 181) rfl rfl (fun _ => rfl)
theorem x_369_105  : exG TB d 369 105 (a0 :: a1 :: some (.int i1) :: r9) st A = exG TB d 369 106 (a0 :: a1 :: some (.int i1) :: r9) (.int i1 :: st) A := x_nx (op := o_iload 2 1) rfl rfl
theorem x_369_106  : exG TB d 369 106 L (.int i1 :: .ref p :: st) A = ki (rdI 0 (ga A p) i1) d 369 107 L st A := x_bd (op := o_rdI 0) rfl rfl (fun _ => rfl)
theorem x_369_107  : exG TB d 369 107 (some v :: r9) st A = rg v (exG TB d 369 108 (some v :: r9) (v :: st) A) := x_rg (op := o_aload 0 1) rfl rfl
theorem x_369_108  : exG TB d 369 108 (a0 :: some (.int i1) :: r9) st A = exG TB d 369 109 (a0 :: some (.int i1) :: r9) (.int i1 :: st) A := x_nx (op := o_iload 1 1) rfl rfl
theorem x_369_109  : exG TB d 369 109 L st A = exG TB d 369 110 L (.int (nI 0) :: st) A := x_nx (op := o_push 1 (.int 0)) rfl rfl
theorem x_369_110  : exG TB d 369 110 L [b1, b0, .ref p, w0] A = kw (sel (gc A p) [(30, 339)]) [.ref p, b0, b1] d 369 113 L [w0] A := x_cvb (op := o_cv [(30, 339)] 2 3 false none) rfl rfl x_noh rfl
theorem x_369_113  : exG TB d 369 113 L (.int i2 :: .int i1 :: st) A = exG TB d 369 114 L (.int (i1 * i2) :: st) A := x_nx (op := o_iop (fun x y => x * y)) rfl rfl
theorem x_369_114  : exG TB d 369 114 L [v] A = ck (okv 1 v) (some (.inl (some v), A)) := x_outg (op := o_ret 1) rfl rfl
theorem x_369_115  : exG TB d 369 115 (some v :: r9) st A = rg v (exG TB d 369 116 (some v :: r9) (v :: st) A) := x_rg (op := o_aload 0 1) rfl rfl
theorem x_369_116  : exG TB d 369 116 L (.ref p :: st) A = kv (gf A p 180) d 369 119 L st A := x_bd (op := o_get 180) rfl rfl (fun _ => rfl)
theorem x_369_119  : exG TB d 369 119 (a0 :: a1 :: some (.int i1) :: r9) st A = exG TB d 369 120 (a0 :: a1 :: some (.int i1) :: r9) (.int i1 :: st) A := x_nx (op := o_iload 2 1) rfl rfl
theorem x_369_120  : exG TB d 369 120 L (.int i1 :: .ref p :: st) A = ki (rdI 0 (ga A p) i1) d 369 121 L st A := x_bd (op := o_rdI 0) rfl rfl (fun _ => rfl)
theorem x_369_121  : exG TB d 369 121 L [v] A = ck (okv 1 v) (some (.inl (some v), A)) := x_outg (op := o_ret 1) rfl rfl
theorem x_369_122  : exG TB d 369 122 (some v :: r9) st A = rg v (exG TB d 369 123 (some v :: r9) (v :: st) A) := x_rg (op := o_aload 0 1) rfl rfl
theorem x_369_123  : exG TB d 369 123 (a0 :: a1 :: some (.int i1) :: r9) st A = exG TB d 369 124 (a0 :: a1 :: some (.int i1) :: r9) (.int i1 :: st) A := x_nx (op := o_iload 2 1) rfl rfl
theorem x_369_124  : exG TB d 369 124 L st A = exG TB d 369 125 L (.int (nI 1) :: st) A := x_nx (op := o_push 1 (.int 1)) rfl rfl
theorem x_369_125  : exG TB d 369 125 L [b1, b0, .ref p] A = kw (sel (gc A p) [(30, 372)]) [.ref p, b0, b1] d 369 128 L [] A := x_cvb (op := o_cv [(30, 372)] 2 3 false none) rfl rfl x_noh rfl
theorem x_369_128  : exG TB d 369 128 L [v] A = ck (okv 1 v) (some (.inl (some v), A)) := x_outg (op := o_ret 1) rfl rfl
theorem x_369_129  : exG TB d 369 129 (some v :: r9) st A = rg v (exG TB d 369 130 (some v :: r9) (v :: st) A) := x_rg (op := o_aload 0 1) rfl rfl
theorem x_369_130  : exG TB d 369 130 L st A = exG TB d 369 131 L (.int (nI 2) :: st) A := x_nx (op := o_push 1 (.int 2)) rfl rfl
theorem x_369_131  : exG TB d 369 131 L [b0, .ref p] A = kw (sel (gc A p) [(30, 291)]) [.ref p, b0] d 369 134 L [] A := x_cvb (op := o_cv [(30, 291)] 1 3 false none) rfl rfl x_noh rfl
theorem x_369_134  : exG TB d 369 134 L [v] A = ck (okv 1 v) (some (.inl (some v), A)) := x_outg (op := o_ret 1) rfl rfl
theorem e_370 {j1 : Int32} {j2 : Int32} : evG TB (d + 1) 370 [.ref p, .int j1, .int j2] A = exG TB d 370 0 [some (.ref p), some (.int j1), some (.int j2)] [] A := evG_eq TB d 370 _ A
theorem x_370_0  : exG TB d 370 0 (some v :: r9) st A = rg v (exG TB d 370 1 (some v :: r9) (v :: st) A) := x_rg (op := o_aload 0 1) rfl rfl
theorem x_370_1  : exG TB d 370 1 (a0 :: some (.int i1) :: r9) st A = exG TB d 370 2 (a0 :: some (.int i1) :: r9) (.int i1 :: st) A := x_nx (op := o_iload 1 1) rfl rfl
theorem x_370_2  : exG TB d 370 2 L [b0, .ref p] A = kw (sel (gc A p) [(30, 338)]) [.ref p, b0] d 370 5 L [] A := x_cvb (op := o_cv [(30, 338)] 1 3 false none) rfl rfl x_noh rfl
theorem x_370_5  : exG TB d 370 5 L (.int i1 :: st) A = if ¬ i1 = nI 0 then exG TB d 370 10 L st A else exG TB d 370 8 L st A := x_if (op := o_if (fun x => decide (¬ x = 0)) 10) rfl rfl rfl
theorem x_370_8  : exG TB d 370 8 L st A = exG TB d 370 9 L (.int (nI 0) :: st) A := x_nx (op := o_push 1 (.int 0)) rfl rfl
theorem x_370_9  : exG TB d 370 9 L [v] A = ck (okv 5 v) (some (.inl (some v), A)) := x_outg (op := o_ret 5) rfl rfl
theorem x_370_10  : exG TB d 370 10 (some v :: r9) st A = rg v (exG TB d 370 11 (some v :: r9) (v :: st) A) := x_rg (op := o_aload 0 1) rfl rfl
theorem x_370_11  : exG TB d 370 11 (a0 :: some (.int i1) :: r9) st A = exG TB d 370 12 (a0 :: some (.int i1) :: r9) (.int i1 :: st) A := x_nx (op := o_iload 1 1) rfl rfl
theorem x_370_12  : exG TB d 370 12 L [b0, .ref p] A = kw0 (sel (gc A p) [(30, 364)]) [.ref p, b0] d 370 15 L [] A := x_c0b (op := o_cv [(30, 364)] 1 3 true none) rfl rfl x_noh rfl
theorem x_370_15  : exG TB d 370 15 (a0 :: a1 :: some (.int i1) :: r9) st A = exG TB d 370 16 (a0 :: a1 :: some (.int i1) :: r9) (.int i1 :: st) A := x_nx (op := o_iload 2 1) rfl rfl
theorem x_370_16  : exG TB d 370 16 L st A = exG TB d 370 17 L (.int (nI 0) :: st) A := x_nx (op := o_push 1 (.int 0)) rfl rfl
theorem x_370_17  : exG TB d 370 17 (some v :: r9) st A = rg v (exG TB d 370 18 (some v :: r9) (v :: st) A) := x_rg (op := o_aload 0 1) rfl rfl
theorem x_370_18  : exG TB d 370 18 L (.ref p :: st) A = kv (gf A p 185) d 370 21 L st A := x_bd (op := o_get 185) rfl rfl (fun _ => rfl)
theorem x_370_21  : exG TB d 370 21 L st A = exG TB d 370 22 L (.int (nI 1) :: st) A := x_nx (op := o_push 1 (.int 1)) rfl rfl
theorem x_370_22  : exG TB d 370 22 L (.int i2 :: .int i1 :: st) A = exG TB d 370 23 L (.int (i1 - i2) :: st) A := x_nx (op := o_iop (fun x y => x - y)) rfl rfl
theorem x_370_23  : exG TB d 370 23 L [b2, b1, b0] A = kc (evG TB d 293 [b0, b1, b2] A) d 370 26 L [] := x_cv (op := o_cs 293 3 false none) rfl rfl x_noh rfl
theorem x_370_26  : exG TB d 370 26 L [v] A = ck (okv 5 v) (some (.inl (some v), A)) := x_outg (op := o_ret 5) rfl rfl
theorem e_371 {j1 : Int32} {j2 : Int32} : evG TB (d + 1) 371 [.ref p, .int j1, .int j2] A = exG TB d 371 0 [some (.ref p), some (.int j1), some (.int j2), none, none] [] A := evG_eq TB d 371 _ A
theorem x_371_0  : exG TB d 371 0 L st A = exG TB d 371 1 L (.int nN :: st) A := x_nx (op := o_push 1 (.int (-1))) rfl rfl
theorem x_371_1  : exG TB d 371 1 (a0 :: a1 :: a2 :: a3 :: r9) (.int i1 :: st) A = exG TB d 371 2 (a0 :: a1 :: a2 :: some (.int i1) :: r9) st A := x_nx (op := o_istore 3 1) rfl rfl
theorem x_371_2  : exG TB d 371 2 L st A = exG TB d 371 3 L (.int (nI 0) :: st) A := x_nx (op := o_push 1 (.int 0)) rfl rfl
theorem x_371_3  : exG TB d 371 3 (a0 :: a1 :: a2 :: a3 :: a4 :: r9) (.int i1 :: st) A = exG TB d 371 5 (a0 :: a1 :: a2 :: a3 :: some (.int i1) :: r9) st A := x_nx (op := o_istore 4 2) rfl rfl
theorem x_371_5  : exG TB d 371 5 (a0 :: a1 :: a2 :: a3 :: some (.int i1) :: r9) st A = exG TB d 371 7 (a0 :: a1 :: a2 :: a3 :: some (.int i1) :: r9) (.int i1 :: st) A := x_nx (op := o_iload 4 2) rfl rfl
theorem x_371_7  : exG TB d 371 7 (some v :: r9) st A = rg v (exG TB d 371 8 (some v :: r9) (v :: st) A) := x_rg (op := o_aload 0 1) rfl rfl
theorem x_371_8  : exG TB d 371 8 L (.ref p :: st) A = kv (gf A p 184) d 371 11 L st A := x_bd (op := o_get 184) rfl rfl (fun _ => rfl)
theorem x_371_11  : exG TB d 371 11 L (.int i2 :: .int i1 :: st) A = if i2 ≤ i1 then exG TB d 371 53 L st A else exG TB d 371 14 L st A := x_if (op := o_icmp (fun x y => decide (y ≤ x)) 53) rfl rfl rfl
theorem x_371_14  : exG TB d 371 14 (some v :: r9) st A = rg v (exG TB d 371 15 (some v :: r9) (v :: st) A) := x_rg (op := o_aload 0 1) rfl rfl
theorem x_371_15  : exG TB d 371 15 L (.ref p :: st) A = kv (gf A p 178) d 371 18 L st A := x_bd (op := o_get 178) rfl rfl (fun _ => rfl)
theorem x_371_18  : exG TB d 371 18 (a0 :: a1 :: a2 :: a3 :: some (.int i1) :: r9) st A = exG TB d 371 20 (a0 :: a1 :: a2 :: a3 :: some (.int i1) :: r9) (.int i1 :: st) A := x_nx (op := o_iload 4 2) rfl rfl
theorem x_371_20  : exG TB d 371 20 L (.int i1 :: .ref p :: st) A = ki (rdI 0 (ga A p) i1) d 371 21 L st A := x_bd (op := o_rdI 0) rfl rfl (fun _ => rfl)
theorem x_371_21  : exG TB d 371 21 (a0 :: some (.int i1) :: r9) st A = exG TB d 371 22 (a0 :: some (.int i1) :: r9) (.int i1 :: st) A := x_nx (op := o_iload 1 1) rfl rfl
theorem x_371_22  : exG TB d 371 22 L (.int i2 :: .int i1 :: st) A = if ¬ i1 = i2 then exG TB d 371 47 L st A else exG TB d 371 25 L st A := x_if (op := o_icmp (fun x y => decide (¬ x = y)) 47) rfl rfl rfl
theorem x_371_25  : exG TB d 371 25 (a0 :: a1 :: some (.int i1) :: r9) st A = exG TB d 371 26 (a0 :: a1 :: some (.int i1) :: r9) (.int i1 :: st) A := x_nx (op := o_iload 2 1) rfl rfl
theorem x_371_26  : exG TB d 371 26 L (.int i1 :: st) A = if ¬ i1 = nI 0 then exG TB d 371 34 L st A else exG TB d 371 29 L st A := x_if (op := o_if (fun x => decide (¬ x = 0)) 34) rfl rfl rfl
theorem x_371_29  : exG TB d 371 29 (a0 :: a1 :: a2 :: some (.int i1) :: r9) st A = exG TB d 371 30 (a0 :: a1 :: a2 :: some (.int i1) :: r9) (.int i1 :: st) A := x_nx (op := o_iload 3 1) rfl rfl
theorem x_371_30  : exG TB d 371 30 L st A = exG TB d 371 31 L (.int nN :: st) A := x_nx (op := o_push 1 (.int (-1))) rfl rfl
theorem x_371_31  : exG TB d 371 31 L (.int i2 :: .int i1 :: st) A = if ¬ i1 = i2 then exG TB d 371 47 L st A else exG TB d 371 34 L st A := x_if (op := o_icmp (fun x y => decide (¬ x = y)) 47) rfl rfl rfl
theorem x_371_34  : exG TB d 371 34 (some v :: r9) st A = rg v (exG TB d 371 35 (some v :: r9) (v :: st) A) := x_rg (op := o_aload 0 1) rfl rfl
theorem x_371_35  : exG TB d 371 35 (some v :: r9) st A = rg v (exG TB d 371 36 (some v :: r9) (v :: st) A) := x_rg (op := o_aload 0 1) rfl rfl
theorem x_371_36  : exG TB d 371 36 L (.ref p :: st) A = kv (gf A p 177) d 371 39 L st A := x_bd (op := o_get 177) rfl rfl (fun _ => rfl)
theorem x_371_39  : exG TB d 371 39 (a0 :: a1 :: a2 :: a3 :: some (.int i1) :: r9) st A = exG TB d 371 41 (a0 :: a1 :: a2 :: a3 :: some (.int i1) :: r9) (.int i1 :: st) A := x_nx (op := o_iload 4 2) rfl rfl
theorem x_371_41  : exG TB d 371 41 L (.int i1 :: .ref p :: st) A = ki (rdI 0 (ga A p) i1) d 371 42 L st A := x_bd (op := o_rdI 0) rfl rfl (fun _ => rfl)
theorem x_371_42  : exG TB d 371 42 L st A = exG TB d 371 43 L (.int (nI 2) :: st) A := x_nx (op := o_push 1 (.int 2)) rfl rfl
theorem x_371_43  : exG TB d 371 43 L [b1, b0, .ref p] A = kw (sel (gc A p) [(30, 331)]) [.ref p, b0, b1] d 371 46 L [] A := x_cvb (op := o_cv [(30, 331)] 2 3 false none) rfl rfl x_noh rfl
theorem x_371_46  : exG TB d 371 46 (a0 :: a1 :: a2 :: a3 :: r9) (.int i1 :: st) A = exG TB d 371 47 (a0 :: a1 :: a2 :: some (.int i1) :: r9) st A := x_nx (op := o_istore 3 1) rfl rfl
theorem x_371_47  : exG TB d 371 47 (a0 :: a1 :: a2 :: a3 :: some (.int i1) :: r9) st A = exG TB d 371 50 (a0 :: a1 :: a2 :: a3 :: some (.int (i1 + (nI 1))) :: r9) st A := x_nx (op := o_iinc 4 1) rfl rfl
theorem x_371_50  : exG TB d 371 50 L st A = exG TB d 371 5 L st A := x_nx (op := o_goto 5) rfl rfl
theorem x_371_53  : exG TB d 371 53 (a0 :: a1 :: a2 :: some (.int i1) :: r9) st A = exG TB d 371 54 (a0 :: a1 :: a2 :: some (.int i1) :: r9) (.int i1 :: st) A := x_nx (op := o_iload 3 1) rfl rfl
theorem x_371_54  : exG TB d 371 54 L [v] A = ck (okv 1 v) (some (.inl (some v), A)) := x_outg (op := o_ret 1) rfl rfl
theorem e_372 {j1 : Int32} {j2 : Int32} : evG TB (d + 1) 372 [.ref p, .int j1, .int j2] A = exG TB d 372 0 [some (.ref p), some (.int j1), some (.int j2), none, none, none] [] A := evG_eq TB d 372 _ A
theorem x_372_0  : exG TB d 372 0 L st A = exG TB d 372 1 L (.int (nI 0) :: st) A := x_nx (op := o_push 1 (.int 0)) rfl rfl
theorem x_372_1  : exG TB d 372 1 (a0 :: a1 :: a2 :: a3 :: r9) (.int i1 :: st) A = exG TB d 372 2 (a0 :: a1 :: a2 :: some (.int i1) :: r9) st A := x_nx (op := o_istore 3 1) rfl rfl
theorem x_372_2  : exG TB d 372 2 L st A = exG TB d 372 3 L (.int (nI 0) :: st) A := x_nx (op := o_push 1 (.int 0)) rfl rfl
theorem x_372_3  : exG TB d 372 3 (a0 :: a1 :: a2 :: a3 :: a4 :: r9) (.int i1 :: st) A = exG TB d 372 5 (a0 :: a1 :: a2 :: a3 :: some (.int i1) :: r9) st A := x_nx (op := o_istore 4 2) rfl rfl
theorem x_372_5  : exG TB d 372 5 (a0 :: a1 :: a2 :: a3 :: some (.int i1) :: r9) st A = exG TB d 372 7 (a0 :: a1 :: a2 :: a3 :: some (.int i1) :: r9) (.int i1 :: st) A := x_nx (op := o_iload 4 2) rfl rfl
theorem x_372_7  : exG TB d 372 7 (some v :: r9) st A = rg v (exG TB d 372 8 (some v :: r9) (v :: st) A) := x_rg (op := o_aload 0 1) rfl rfl
theorem x_372_8  : exG TB d 372 8 L (.ref p :: st) A = kv (gf A p 184) d 372 11 L st A := x_bd (op := o_get 184) rfl rfl (fun _ => rfl)
theorem x_372_11  : exG TB d 372 11 L (.int i2 :: .int i1 :: st) A = if i2 ≤ i1 then exG TB d 372 71 L st A else exG TB d 372 14 L st A := x_if (op := o_icmp (fun x y => decide (y ≤ x)) 71) rfl rfl rfl
theorem x_372_14  : exG TB d 372 14 (some v :: r9) st A = rg v (exG TB d 372 15 (some v :: r9) (v :: st) A) := x_rg (op := o_aload 0 1) rfl rfl
theorem x_372_15  : exG TB d 372 15 L (.ref p :: st) A = kv (gf A p 178) d 372 18 L st A := x_bd (op := o_get 178) rfl rfl (fun _ => rfl)
theorem x_372_18  : exG TB d 372 18 (a0 :: a1 :: a2 :: a3 :: some (.int i1) :: r9) st A = exG TB d 372 20 (a0 :: a1 :: a2 :: a3 :: some (.int i1) :: r9) (.int i1 :: st) A := x_nx (op := o_iload 4 2) rfl rfl
theorem x_372_20  : exG TB d 372 20 L (.int i1 :: .ref p :: st) A = ki (rdI 0 (ga A p) i1) d 372 21 L st A := x_bd (op := o_rdI 0) rfl rfl (fun _ => rfl)
theorem x_372_21  : exG TB d 372 21 (a0 :: some (.int i1) :: r9) st A = exG TB d 372 22 (a0 :: some (.int i1) :: r9) (.int i1 :: st) A := x_nx (op := o_iload 1 1) rfl rfl
theorem x_372_22  : exG TB d 372 22 L (.int i2 :: .int i1 :: st) A = if ¬ i1 = i2 then exG TB d 372 49 L st A else exG TB d 372 25 L st A := x_if (op := o_icmp (fun x y => decide (¬ x = y)) 49) rfl rfl rfl
theorem x_372_25  : exG TB d 372 25 (a0 :: a1 :: some (.int i1) :: r9) st A = exG TB d 372 26 (a0 :: a1 :: some (.int i1) :: r9) (.int i1 :: st) A := x_nx (op := o_iload 2 1) rfl rfl
theorem x_372_26  : exG TB d 372 26 L (.int i1 :: st) A = if i1 = nI 0 then exG TB d 372 45 L st A else exG TB d 372 29 L st A := x_if (op := o_if (fun x => decide (x = 0)) 45) rfl rfl rfl
theorem x_372_29  : exG TB d 372 29 (some v :: r9) st A = rg v (exG TB d 372 30 (some v :: r9) (v :: st) A) := x_rg (op := o_aload 0 1) rfl rfl
theorem x_372_30  : exG TB d 372 30 (some v :: r9) st A = rg v (exG TB d 372 31 (some v :: r9) (v :: st) A) := x_rg (op := o_aload 0 1) rfl rfl
theorem x_372_31  : exG TB d 372 31 L (.ref p :: st) A = kv (gf A p 177) d 372 34 L st A := x_bd (op := o_get 177) rfl rfl (fun _ => rfl)
theorem x_372_34  : exG TB d 372 34 (a0 :: a1 :: a2 :: a3 :: some (.int i1) :: r9) st A = exG TB d 372 36 (a0 :: a1 :: a2 :: a3 :: some (.int i1) :: r9) (.int i1 :: st) A := x_nx (op := o_iload 4 2) rfl rfl
theorem x_372_36  : exG TB d 372 36 L (.int i1 :: .ref p :: st) A = ki (rdI 0 (ga A p) i1) d 372 37 L st A := x_bd (op := o_rdI 0) rfl rfl (fun _ => rfl)
theorem x_372_37  : exG TB d 372 37 L st A = exG TB d 372 38 L (.int (nI 3) :: st) A := x_nx (op := o_push 1 (.int 3)) rfl rfl
theorem x_372_38  : exG TB d 372 38 L [b1, b0, .ref p] A = kw (sel (gc A p) [(30, 331)]) [.ref p, b0, b1] d 372 41 L [] A := x_cvb (op := o_cv [(30, 331)] 2 3 false none) rfl rfl x_noh rfl
theorem x_372_41  : exG TB d 372 41 L st A = exG TB d 372 42 L (.int (nI 1) :: st) A := x_nx (op := o_push 1 (.int 1)) rfl rfl
theorem x_372_42  : exG TB d 372 42 L (.int i2 :: .int i1 :: st) A = if ¬ i1 = i2 then exG TB d 372 49 L st A else exG TB d 372 45 L st A := x_if (op := o_icmp (fun x y => decide (¬ x = y)) 49) rfl rfl rfl
theorem x_372_45  : exG TB d 372 45 L st A = exG TB d 372 46 L (.int (nI 1) :: st) A := x_nx (op := o_push 1 (.int 1)) rfl rfl
theorem x_372_46  : exG TB d 372 46 L st A = exG TB d 372 50 L st A := x_nx (op := o_goto 50) rfl rfl
theorem x_372_49  : exG TB d 372 49 L st A = exG TB d 372 50 L (.int (nI 0) :: st) A := x_nx (op := o_push 1 (.int 0)) rfl rfl
theorem x_372_50  : exG TB d 372 50 (a0 :: a1 :: a2 :: a3 :: a4 :: a5 :: r9) (.int i1 :: st) A = exG TB d 372 52 (a0 :: a1 :: a2 :: a3 :: a4 :: some (.int i1) :: r9) st A := x_nx (op := o_istore 5 2) rfl rfl
theorem x_372_52  : exG TB d 372 52 (a0 :: a1 :: a2 :: some (.int i1) :: r9) st A = exG TB d 372 53 (a0 :: a1 :: a2 :: some (.int i1) :: r9) (.int i1 :: st) A := x_nx (op := o_iload 3 1) rfl rfl
theorem x_372_53  : exG TB d 372 53 (a0 :: a1 :: a2 :: a3 :: a4 :: some (.int i1) :: r9) st A = exG TB d 372 55 (a0 :: a1 :: a2 :: a3 :: a4 :: some (.int i1) :: r9) (.int i1 :: st) A := x_nx (op := o_iload 5 2) rfl rfl
theorem x_372_55  : exG TB d 372 55 L (.int i1 :: st) A = if i1 = nI 0 then exG TB d 372 62 L st A else exG TB d 372 58 L st A := x_if (op := o_if (fun x => decide (x = 0)) 62) rfl rfl rfl
theorem x_372_58  : exG TB d 372 58 L st A = exG TB d 372 59 L (.int (nI 1) :: st) A := x_nx (op := o_push 1 (.int 1)) rfl rfl
theorem x_372_59  : exG TB d 372 59 L st A = exG TB d 372 63 L st A := x_nx (op := o_goto 63) rfl rfl
theorem x_372_62  : exG TB d 372 62 L st A = exG TB d 372 63 L (.int (nI 0) :: st) A := x_nx (op := o_push 1 (.int 0)) rfl rfl
theorem x_372_63  : exG TB d 372 63 L (.int i2 :: .int i1 :: st) A = exG TB d 372 64 L (.int (i1 + i2) :: st) A := x_nx (op := o_iop (fun x y => x + y)) rfl rfl
theorem x_372_64  : exG TB d 372 64 (a0 :: a1 :: a2 :: a3 :: r9) (.int i1 :: st) A = exG TB d 372 65 (a0 :: a1 :: a2 :: some (.int i1) :: r9) st A := x_nx (op := o_istore 3 1) rfl rfl
theorem x_372_65  : exG TB d 372 65 (a0 :: a1 :: a2 :: a3 :: some (.int i1) :: r9) st A = exG TB d 372 68 (a0 :: a1 :: a2 :: a3 :: some (.int (i1 + (nI 1))) :: r9) st A := x_nx (op := o_iinc 4 1) rfl rfl
theorem x_372_68  : exG TB d 372 68 L st A = exG TB d 372 5 L st A := x_nx (op := o_goto 5) rfl rfl
theorem x_372_71  : exG TB d 372 71 (a0 :: a1 :: a2 :: some (.int i1) :: r9) st A = exG TB d 372 72 (a0 :: a1 :: a2 :: some (.int i1) :: r9) (.int i1 :: st) A := x_nx (op := o_iload 3 1) rfl rfl
theorem x_372_72  : exG TB d 372 72 L [v] A = ck (okv 1 v) (some (.inl (some v), A)) := x_outg (op := o_ret 1) rfl rfl
theorem e_373 {j1 : Int32} : evG TB (d + 1) 373 [.ref p, .int j1] A = exG TB d 373 0 [some (.ref p), some (.int j1)] [] A := evG_eq TB d 373 _ A
theorem x_373_0  : exG TB d 373 0 (some v :: r9) st A = rg v (exG TB d 373 1 (some v :: r9) (v :: st) A) := x_rg (op := o_aload 0 1) rfl rfl
theorem x_373_1  : exG TB d 373 1 L (.ref p :: st) A = kv (gf A p 179) d 373 4 L st A := x_bd (op := o_get 179) rfl rfl (fun _ => rfl)
theorem x_373_4  : exG TB d 373 4 (a0 :: some (.int i1) :: r9) st A = exG TB d 373 5 (a0 :: some (.int i1) :: r9) (.int i1 :: st) A := x_nx (op := o_iload 1 1) rfl rfl
theorem x_373_5  : exG TB d 373 5 L st A = exG TB d 373 6 L (.int (nI 1) :: st) A := x_nx (op := o_push 1 (.int 1)) rfl rfl
theorem x_373_6  : exG TB d 373 6 L (.int i2 :: .int i1 :: st) A = exG TB d 373 7 L (.int (i1 + i2) :: st) A := x_nx (op := o_iop (fun x y => x + y)) rfl rfl
theorem x_373_7  : exG TB d 373 7 L (.int i1 :: .ref p :: st) A = ki (rdI 0 (ga A p) i1) d 373 8 L st A := x_bd (op := o_rdI 0) rfl rfl (fun _ => rfl)
theorem x_373_8  : exG TB d 373 8 (some v :: r9) st A = rg v (exG TB d 373 9 (some v :: r9) (v :: st) A) := x_rg (op := o_aload 0 1) rfl rfl
theorem x_373_9  : exG TB d 373 9 L (.ref p :: st) A = kv (gf A p 179) d 373 12 L st A := x_bd (op := o_get 179) rfl rfl (fun _ => rfl)
theorem x_373_12  : exG TB d 373 12 (a0 :: some (.int i1) :: r9) st A = exG TB d 373 13 (a0 :: some (.int i1) :: r9) (.int i1 :: st) A := x_nx (op := o_iload 1 1) rfl rfl
theorem x_373_13  : exG TB d 373 13 L (.int i1 :: .ref p :: st) A = ki (rdI 0 (ga A p) i1) d 373 14 L st A := x_bd (op := o_rdI 0) rfl rfl (fun _ => rfl)
theorem x_373_14  : exG TB d 373 14 L (.int i2 :: .int i1 :: st) A = exG TB d 373 15 L (.int (i1 - i2) :: st) A := x_nx (op := o_iop (fun x y => x - y)) rfl rfl
theorem x_373_15  : exG TB d 373 15 L [v] A = ck (okv 1 v) (some (.inl (some v), A)) := x_outg (op := o_ret 1) rfl rfl
theorem e_374 {j1 : Int32} : evG TB (d + 1) 374 [.ref p, .int j1] A = exG TB d 374 0 [some (.ref p), some (.int j1), none, none] [] A := evG_eq TB d 374 _ A
theorem x_374_0  : exG TB d 374 0 L st A = exG TB d 374 1 L (.int (nI 0) :: st) A := x_nx (op := o_push 1 (.int 0)) rfl rfl
theorem x_374_1  : exG TB d 374 1 (a0 :: a1 :: a2 :: r9) (.int i1 :: st) A = exG TB d 374 2 (a0 :: a1 :: some (.int i1) :: r9) st A := x_nx (op := o_istore 2 1) rfl rfl
theorem x_374_2  : exG TB d 374 2 (some v :: r9) st A = rg v (exG TB d 374 3 (some v :: r9) (v :: st) A) := x_rg (op := o_aload 0 1) rfl rfl
theorem x_374_3  : exG TB d 374 3 L (.ref p :: st) A = kv (gf A p 179) d 374 6 L st A := x_bd (op := o_get 179) rfl rfl (fun _ => rfl)
theorem x_374_6  : exG TB d 374 6 (a0 :: some (.int i1) :: r9) st A = exG TB d 374 7 (a0 :: some (.int i1) :: r9) (.int i1 :: st) A := x_nx (op := o_iload 1 1) rfl rfl
theorem x_374_7  : exG TB d 374 7 L (.int i1 :: .ref p :: st) A = ki (rdI 0 (ga A p) i1) d 374 8 L st A := x_bd (op := o_rdI 0) rfl rfl (fun _ => rfl)
theorem x_374_8  : exG TB d 374 8 (a0 :: a1 :: a2 :: a3 :: r9) (.int i1 :: st) A = exG TB d 374 9 (a0 :: a1 :: a2 :: some (.int i1) :: r9) st A := x_nx (op := o_istore 3 1) rfl rfl
theorem x_374_9  : exG TB d 374 9 (a0 :: a1 :: a2 :: some (.int i1) :: r9) st A = exG TB d 374 10 (a0 :: a1 :: a2 :: some (.int i1) :: r9) (.int i1 :: st) A := x_nx (op := o_iload 3 1) rfl rfl
theorem x_374_10  : exG TB d 374 10 (some v :: r9) st A = rg v (exG TB d 374 11 (some v :: r9) (v :: st) A) := x_rg (op := o_aload 0 1) rfl rfl
theorem x_374_11  : exG TB d 374 11 L (.ref p :: st) A = kv (gf A p 179) d 374 14 L st A := x_bd (op := o_get 179) rfl rfl (fun _ => rfl)
theorem x_374_14  : exG TB d 374 14 (a0 :: some (.int i1) :: r9) st A = exG TB d 374 15 (a0 :: some (.int i1) :: r9) (.int i1 :: st) A := x_nx (op := o_iload 1 1) rfl rfl
theorem x_374_15  : exG TB d 374 15 L st A = exG TB d 374 16 L (.int (nI 1) :: st) A := x_nx (op := o_push 1 (.int 1)) rfl rfl
theorem x_374_16  : exG TB d 374 16 L (.int i2 :: .int i1 :: st) A = exG TB d 374 17 L (.int (i1 + i2) :: st) A := x_nx (op := o_iop (fun x y => x + y)) rfl rfl
theorem x_374_17  : exG TB d 374 17 L (.int i1 :: .ref p :: st) A = ki (rdI 0 (ga A p) i1) d 374 18 L st A := x_bd (op := o_rdI 0) rfl rfl (fun _ => rfl)
theorem x_374_18  : exG TB d 374 18 L (.int i2 :: .int i1 :: st) A = if i2 ≤ i1 then exG TB d 374 44 L st A else exG TB d 374 21 L st A := x_if (op := o_icmp (fun x y => decide (y ≤ x)) 44) rfl rfl rfl
theorem x_374_21  : exG TB d 374 21 (a0 :: a1 :: some (.int i1) :: r9) st A = exG TB d 374 22 (a0 :: a1 :: some (.int i1) :: r9) (.int i1 :: st) A := x_nx (op := o_iload 2 1) rfl rfl
theorem x_374_22  : exG TB d 374 22 (some v :: r9) st A = rg v (exG TB d 374 23 (some v :: r9) (v :: st) A) := x_rg (op := o_aload 0 1) rfl rfl
theorem x_374_23  : exG TB d 374 23 L (.ref p :: st) A = kv (gf A p 183) d 374 26 L st A := x_bd (op := o_get 183) rfl rfl (fun _ => rfl)
theorem x_374_26  : exG TB d 374 26 (a0 :: a1 :: a2 :: some (.int i1) :: r9) st A = exG TB d 374 27 (a0 :: a1 :: a2 :: some (.int i1) :: r9) (.int i1 :: st) A := x_nx (op := o_iload 3 1) rfl rfl
theorem x_374_27  : exG TB d 374 27 L (.int i1 :: .ref p :: st) A = ki (rdI 2 (ga A p) i1) d 374 28 L st A := x_bd (op := o_rdI 2) rfl rfl (fun _ => rfl)
theorem x_374_28  : exG TB d 374 28 L (.int i1 :: st) A = if i1 = nI 0 then exG TB d 374 35 L st A else exG TB d 374 31 L st A := x_if (op := o_if (fun x => decide (x = 0)) 35) rfl rfl rfl
theorem x_374_31  : exG TB d 374 31 L st A = exG TB d 374 32 L (.int (nI 1) :: st) A := x_nx (op := o_push 1 (.int 1)) rfl rfl
theorem x_374_32  : exG TB d 374 32 L st A = exG TB d 374 36 L st A := x_nx (op := o_goto 36) rfl rfl
theorem x_374_35  : exG TB d 374 35 L st A = exG TB d 374 36 L (.int (nI 0) :: st) A := x_nx (op := o_push 1 (.int 0)) rfl rfl
theorem x_374_36  : exG TB d 374 36 L (.int i2 :: .int i1 :: st) A = exG TB d 374 37 L (.int (i1 + i2) :: st) A := x_nx (op := o_iop (fun x y => x + y)) rfl rfl
theorem x_374_37  : exG TB d 374 37 (a0 :: a1 :: a2 :: r9) (.int i1 :: st) A = exG TB d 374 38 (a0 :: a1 :: some (.int i1) :: r9) st A := x_nx (op := o_istore 2 1) rfl rfl
theorem x_374_38  : exG TB d 374 38 (a0 :: a1 :: a2 :: some (.int i1) :: r9) st A = exG TB d 374 41 (a0 :: a1 :: a2 :: some (.int (i1 + (nI 1))) :: r9) st A := x_nx (op := o_iinc 3 1) rfl rfl
theorem x_374_41  : exG TB d 374 41 L st A = exG TB d 374 9 L st A := x_nx (op := o_goto 9) rfl rfl
theorem x_374_44  : exG TB d 374 44 (a0 :: a1 :: some (.int i1) :: r9) st A = exG TB d 374 45 (a0 :: a1 :: some (.int i1) :: r9) (.int i1 :: st) A := x_nx (op := o_iload 2 1) rfl rfl
theorem x_374_45  : exG TB d 374 45 L [v] A = ck (okv 1 v) (some (.inl (some v), A)) := x_outg (op := o_ret 1) rfl rfl
theorem e_375 {j1 : Int32} {j2 : Int32} {j3 : Int32} : evG TB (d + 1) 375 [.ref p, .int j1, .int j2, .int j3] A = exG TB d 375 0 [some (.ref p), some (.int j1), some (.int j2), some (.int j3)] [] A := evG_eq TB d 375 _ A
theorem x_375_0  : exG TB d 375 0 (some v :: r9) st A = rg v (exG TB d 375 1 (some v :: r9) (v :: st) A) := x_rg (op := o_aload 0 1) rfl rfl
theorem x_375_1  : exG TB d 375 1 L st A = exG TB d 375 2 L (.int (nI 0) :: st) A := x_nx (op := o_push 1 (.int 0)) rfl rfl
theorem x_375_2  : exG TB d 375 2 L (v :: .ref p :: st) A = ck ((gf A p 155).isSome && okv 1 v) (exG TB d 375 5 L st (setf A p 155 v)) := x_gd (op := o_put 155 1) rfl rfl
theorem x_375_5  : exG TB d 375 5 (some v :: r9) st A = rg v (exG TB d 375 6 (some v :: r9) (v :: st) A) := x_rg (op := o_aload 0 1) rfl rfl
theorem x_375_6  : exG TB d 375 6 (a0 :: some (.int i1) :: r9) st A = exG TB d 375 7 (a0 :: some (.int i1) :: r9) (.int i1 :: st) A := x_nx (op := o_iload 1 1) rfl rfl
theorem x_375_7  : exG TB d 375 7 (a0 :: a1 :: some (.int i1) :: r9) st A = exG TB d 375 8 (a0 :: a1 :: some (.int i1) :: r9) (.int i1 :: st) A := x_nx (op := o_iload 2 1) rfl rfl
theorem x_375_8  : exG TB d 375 8 L [b1, b0, .ref p] A = kw (sel (gc A p) [(30, 370)]) [.ref p, b0, b1] d 375 11 L [] A := x_cvb (op := o_cv [(30, 370)] 2 3 false none) rfl rfl x_noh rfl
theorem x_375_11  : exG TB d 375 11 L (.int i1 :: st) A = if i1 = nI 0 then exG TB d 375 29 L st A else exG TB d 375 14 L st A := x_if (op := o_if (fun x => decide (x = 0)) 29) rfl rfl rfl
theorem x_375_14  : exG TB d 375 14 (a0 :: a1 :: a2 :: some (.int i1) :: r9) st A = exG TB d 375 15 (a0 :: a1 :: a2 :: some (.int i1) :: r9) (.int i1 :: st) A := x_nx (op := o_iload 3 1) rfl rfl
theorem x_375_15  : exG TB d 375 15 L st A = exG TB d 375 16 L (.int (nI 0) :: st) A := x_nx (op := o_push 1 (.int 0)) rfl rfl
theorem x_375_16  : exG TB d 375 16 (some v :: r9) st A = rg v (exG TB d 375 17 (some v :: r9) (v :: st) A) := x_rg (op := o_aload 0 1) rfl rfl
theorem x_375_17  : exG TB d 375 17 (a0 :: a1 :: some (.int i1) :: r9) st A = exG TB d 375 18 (a0 :: a1 :: some (.int i1) :: r9) (.int i1 :: st) A := x_nx (op := o_iload 2 1) rfl rfl
theorem x_375_18  : exG TB d 375 18 L [b0, .ref p, w0, w1] A = kw (sel (gc A p) [(30, 373)]) [.ref p, b0] d 375 21 L [w0, w1] A := x_cvb (op := o_cv [(30, 373)] 1 3 false none) rfl rfl x_noh rfl
theorem x_375_21  : exG TB d 375 21 L st A = exG TB d 375 22 L (.int (nI 1) :: st) A := x_nx (op := o_push 1 (.int 1)) rfl rfl
theorem x_375_22  : exG TB d 375 22 L (.int i2 :: .int i1 :: st) A = exG TB d 375 23 L (.int (i1 - i2) :: st) A := x_nx (op := o_iop (fun x y => x - y)) rfl rfl
theorem x_375_23  : exG TB d 375 23 L [b2, b1, b0] A = kc (evG TB d 293 [b0, b1, b2] A) d 375 26 L [] := x_cv (op := o_cs 293 3 false none) rfl rfl x_noh rfl
theorem x_375_26  : exG TB d 375 26 L (.int i1 :: st) A = if ¬ i1 = nI 0 then exG TB d 375 35 L st A else exG TB d 375 29 L st A := x_if (op := o_if (fun x => decide (¬ x = 0)) 35) rfl rfl rfl
theorem x_375_29  : exG TB d 375 29 (some v :: r9) st A = rg v (exG TB d 375 30 (some v :: r9) (v :: st) A) := x_rg (op := o_aload 0 1) rfl rfl
theorem x_375_30  : exG TB d 375 30 L st A = exG TB d 375 31 L (.int (nI 1) :: st) A := x_nx (op := o_push 1 (.int 1)) rfl rfl
theorem x_375_31  : exG TB d 375 31 L [b0, .ref p] A = kw (sel (gc A p) [(30, 291)]) [.ref p, b0] d 375 34 L [] A := x_cvb (op := o_cv [(30, 291)] 1 3 false none) rfl rfl x_noh rfl
theorem x_375_34  : exG TB d 375 34 L [v] A = ck (okv 1 v) (some (.inl (some v), A)) := x_outg (op := o_ret 1) rfl rfl
theorem x_375_35  : exG TB d 375 35 (some v :: r9) st A = rg v (exG TB d 375 36 (some v :: r9) (v :: st) A) := x_rg (op := o_aload 0 1) rfl rfl
theorem x_375_36  : exG TB d 375 36 L (.ref p :: st) A = kv (gf A p 182) d 375 39 L st A := x_bd (op := o_get 182) rfl rfl (fun _ => rfl)
theorem x_375_39  : exG TB d 375 39 (some v :: r9) st A = rg v (exG TB d 375 40 (some v :: r9) (v :: st) A) := x_rg (op := o_aload 0 1) rfl rfl
theorem x_375_40  : exG TB d 375 40 L (.ref p :: st) A = kv (gf A p 179) d 375 43 L st A := x_bd (op := o_get 179) rfl rfl (fun _ => rfl)
theorem x_375_43  : exG TB d 375 43 (a0 :: a1 :: some (.int i1) :: r9) st A = exG TB d 375 44 (a0 :: a1 :: some (.int i1) :: r9) (.int i1 :: st) A := x_nx (op := o_iload 2 1) rfl rfl
theorem x_375_44  : exG TB d 375 44 L (.int i1 :: .ref p :: st) A = ki (rdI 0 (ga A p) i1) d 375 45 L st A := x_bd (op := o_rdI 0) rfl rfl (fun _ => rfl)
theorem x_375_45  : exG TB d 375 45 (a0 :: a1 :: a2 :: some (.int i1) :: r9) st A = exG TB d 375 46 (a0 :: a1 :: a2 :: some (.int i1) :: r9) (.int i1 :: st) A := x_nx (op := o_iload 3 1) rfl rfl
theorem x_375_46  : exG TB d 375 46 L (.int i2 :: .int i1 :: st) A = exG TB d 375 47 L (.int (i1 + i2) :: st) A := x_nx (op := o_iop (fun x y => x + y)) rfl rfl
theorem x_375_47  : exG TB d 375 47 L (.int i1 :: .ref p :: st) A = ki (rdI 0 (ga A p) i1) d 375 48 L st A := x_bd (op := o_rdI 0) rfl rfl (fun _ => rfl)
theorem x_375_48  : exG TB d 375 48 L [v] A = ck (okv 1 v) (some (.inl (some v), A)) := x_outg (op := o_ret 1) rfl rfl
theorem e_376 {j1 : Int32} {j2 : Int32} : evG TB (d + 1) 376 [.ref p, .int j1, .int j2] A = exG TB d 376 0 [some (.ref p), some (.int j1), some (.int j2)] [] A := evG_eq TB d 376 _ A
theorem x_376_0  : exG TB d 376 0 (some v :: r9) st A = rg v (exG TB d 376 1 (some v :: r9) (v :: st) A) := x_rg (op := o_aload 0 1) rfl rfl
theorem x_376_1  : exG TB d 376 1 L st A = exG TB d 376 2 L (.int (nI 0) :: st) A := x_nx (op := o_push 1 (.int 0)) rfl rfl
theorem x_376_2  : exG TB d 376 2 L (v :: .ref p :: st) A = ck ((gf A p 155).isSome && okv 1 v) (exG TB d 376 5 L st (setf A p 155 v)) := x_gd (op := o_put 155 1) rfl rfl
theorem x_376_5  : exG TB d 376 5 (some v :: r9) st A = rg v (exG TB d 376 6 (some v :: r9) (v :: st) A) := x_rg (op := o_aload 0 1) rfl rfl
theorem x_376_6  : exG TB d 376 6 (a0 :: some (.int i1) :: r9) st A = exG TB d 376 7 (a0 :: some (.int i1) :: r9) (.int i1 :: st) A := x_nx (op := o_iload 1 1) rfl rfl
theorem x_376_7  : exG TB d 376 7 L [b0, .ref p] A = kw (sel (gc A p) [(30, 338)]) [.ref p, b0] d 376 10 L [] A := x_cvb (op := o_cv [(30, 338)] 1 3 false none) rfl rfl x_noh rfl
theorem x_376_10  : exG TB d 376 10 L (.int i1 :: st) A = if ¬ i1 = nI 0 then exG TB d 376 19 L st A else exG TB d 376 13 L st A := x_if (op := o_if (fun x => decide (¬ x = 0)) 19) rfl rfl rfl
theorem x_376_13  : exG TB d 376 13 (some v :: r9) st A = rg v (exG TB d 376 14 (some v :: r9) (v :: st) A) := x_rg (op := o_aload 0 1) rfl rfl
theorem x_376_14  : exG TB d 376 14 L st A = exG TB d 376 15 L (.int (nI 1) :: st) A := x_nx (op := o_push 1 (.int 1)) rfl rfl
theorem x_376_15  : exG TB d 376 15 L [b0, .ref p] A = kw (sel (gc A p) [(30, 291)]) [.ref p, b0] d 376 18 L [] A := x_cvb (op := o_cv [(30, 291)] 1 3 false none) rfl rfl x_noh rfl
theorem x_376_18  : exG TB d 376 18 L [v] A = ck (okv 1 v) (some (.inl (some v), A)) := x_outg (op := o_ret 1) rfl rfl
theorem x_376_19  : exG TB d 376 19 (a0 :: a1 :: some (.int i1) :: r9) st A = exG TB d 376 20 (a0 :: a1 :: some (.int i1) :: r9) (.int i1 :: st) A := x_nx (op := o_iload 2 1) rfl rfl
theorem x_376_20  : exG TB d 376 20 L st A = exG TB d 376 21 L (.int (nI 0) :: st) A := x_nx (op := o_push 1 (.int 0)) rfl rfl
theorem x_376_21  : exG TB d 376 21 L st A = exG TB d 376 24 L (.int (nI 200000) :: st) A := x_nx (op := o_push 3 (.int 200000)) rfl rfl
theorem x_376_24  : exG TB d 376 24 L [b2, b1, b0] A = kc (evG TB d 293 [b0, b1, b2] A) d 376 27 L [] := x_cv (op := o_cs 293 3 false none) rfl rfl x_noh rfl
theorem x_376_27  : exG TB d 376 27 L (.int i1 :: st) A = if i1 = nI 0 then exG TB d 376 39 L st A else exG TB d 376 30 L st A := x_if (op := o_if (fun x => decide (x = 0)) 39) rfl rfl rfl
theorem x_376_30  : exG TB d 376 30 (some v :: r9) st A = rg v (exG TB d 376 31 (some v :: r9) (v :: st) A) := x_rg (op := o_aload 0 1) rfl rfl
theorem x_376_31  : exG TB d 376 31 (a0 :: some (.int i1) :: r9) st A = exG TB d 376 32 (a0 :: some (.int i1) :: r9) (.int i1 :: st) A := x_nx (op := o_iload 1 1) rfl rfl
theorem x_376_32  : exG TB d 376 32 (a0 :: a1 :: some (.int i1) :: r9) st A = exG TB d 376 33 (a0 :: a1 :: some (.int i1) :: r9) (.int i1 :: st) A := x_nx (op := o_iload 2 1) rfl rfl
theorem x_376_33  : exG TB d 376 33 L [b1, b0, .ref p] A = kw (sel (gc A p) [(30, 377)]) [.ref p, b0, b1] d 376 36 L [] A := x_cvb (op := o_cv [(30, 377)] 2 3 false none) rfl rfl x_noh rfl
theorem x_376_36  : exG TB d 376 36 L st A = exG TB d 376 44 L st A := x_nx (op := o_goto 44) rfl rfl
theorem x_376_39  : exG TB d 376 39 (some v :: r9) st A = rg v (exG TB d 376 40 (some v :: r9) (v :: st) A) := x_rg (op := o_aload 0 1) rfl rfl
theorem x_376_40  : exG TB d 376 40 L st A = exG TB d 376 41 L (.int (nI 2) :: st) A := x_nx (op := o_push 1 (.int 2)) rfl rfl
theorem x_376_41  : exG TB d 376 41 L [b0, .ref p] A = kw (sel (gc A p) [(30, 291)]) [.ref p, b0] d 376 44 L [] A := x_cvb (op := o_cv [(30, 291)] 1 3 false none) rfl rfl x_noh rfl
theorem x_376_44  : exG TB d 376 44 L [v] A = ck (okv 1 v) (some (.inl (some v), A)) := x_outg (op := o_ret 1) rfl rfl
theorem e_377 {j1 : Int32} {j2 : Int32} : evG TB (d + 1) 377 [.ref p, .int j1, .int j2] A = exG TB d 377 0 [some (.ref p), some (.int j1), some (.int j2), none] [] A := evG_eq TB d 377 _ A
theorem x_377_0  : exG TB d 377 0 (some v :: r9) st A = rg v (exG TB d 377 1 (some v :: r9) (v :: st) A) := x_rg (op := o_aload 0 1) rfl rfl
theorem x_377_1  : exG TB d 377 1 (a0 :: some (.int i1) :: r9) st A = exG TB d 377 2 (a0 :: some (.int i1) :: r9) (.int i1 :: st) A := x_nx (op := o_iload 1 1) rfl rfl
theorem x_377_2  : exG TB d 377 2 L [b0, .ref p] A = kw0 (sel (gc A p) [(30, 364)]) [.ref p, b0] d 377 5 L [] A := x_c0b (op := o_cv [(30, 364)] 1 3 true none) rfl rfl x_noh rfl
theorem x_377_5  : exG TB d 377 5 L st A = exG TB d 377 6 L (.int (nI 0) :: st) A := x_nx (op := o_push 1 (.int 0)) rfl rfl
theorem x_377_6  : exG TB d 377 6 (a0 :: a1 :: a2 :: a3 :: r9) (.int i1 :: st) A = exG TB d 377 7 (a0 :: a1 :: a2 :: some (.int i1) :: r9) st A := x_nx (op := o_istore 3 1) rfl rfl
theorem x_377_7  : exG TB d 377 7 (a0 :: a1 :: a2 :: some (.int i1) :: r9) st A = exG TB d 377 8 (a0 :: a1 :: a2 :: some (.int i1) :: r9) (.int i1 :: st) A := x_nx (op := o_iload 3 1) rfl rfl
theorem x_377_8  : exG TB d 377 8 (some v :: r9) st A = rg v (exG TB d 377 9 (some v :: r9) (v :: st) A) := x_rg (op := o_aload 0 1) rfl rfl
theorem x_377_9  : exG TB d 377 9 L (.ref p :: st) A = kv (gf A p 185) d 377 12 L st A := x_bd (op := o_get 185) rfl rfl (fun _ => rfl)
theorem x_377_12  : exG TB d 377 12 L (.int i2 :: .int i1 :: st) A = if i2 ≤ i1 then exG TB d 377 48 L st A else exG TB d 377 15 L st A := x_if (op := o_icmp (fun x y => decide (y ≤ x)) 48) rfl rfl rfl
theorem x_377_15  : exG TB d 377 15 (some v :: r9) st A = rg v (exG TB d 377 16 (some v :: r9) (v :: st) A) := x_rg (op := o_aload 0 1) rfl rfl
theorem x_377_16  : exG TB d 377 16 L (.ref p :: st) A = kv (gf A p 148) d 377 19 L st A := x_bd (op := o_get 148) rfl rfl (fun _ => rfl)
theorem x_377_19  : exG TB d 377 19 L st A = exG TB d 377 21 L (.int (nI 13) :: st) A := x_nx (op := o_push 2 (.int 13)) rfl rfl
theorem x_377_21  : exG TB d 377 21 L (.int i1 :: .ref p :: st) A = ki (rdI 0 (ga A p) i1) d 377 22 L st A := x_bd (op := o_rdI 0) rfl rfl (fun _ => rfl)
theorem x_377_22  : exG TB d 377 22 L st A = exG TB d 377 24 L (.int (nI 60) :: st) A := x_nx (op := o_push 2 (.int 60)) rfl rfl
theorem x_377_24  : exG TB d 377 24 L (.int i2 :: .int i1 :: st) A = if i2 ≤ i1 then exG TB d 377 48 L st A else exG TB d 377 27 L st A := x_if (op := o_icmp (fun x y => decide (y ≤ x)) 48) rfl rfl rfl
theorem x_377_27  : exG TB d 377 27 (some v :: r9) st A = rg v (exG TB d 377 28 (some v :: r9) (v :: st) A) := x_rg (op := o_aload 0 1) rfl rfl
theorem x_377_28  : exG TB d 377 28 (a0 :: a1 :: a2 :: some (.int i1) :: r9) st A = exG TB d 377 29 (a0 :: a1 :: a2 :: some (.int i1) :: r9) (.int i1 :: st) A := x_nx (op := o_iload 3 1) rfl rfl
theorem x_377_29  : exG TB d 377 29 (a0 :: a1 :: some (.int i1) :: r9) st A = exG TB d 377 30 (a0 :: a1 :: some (.int i1) :: r9) (.int i1 :: st) A := x_nx (op := o_iload 2 1) rfl rfl
theorem x_377_30  : exG TB d 377 30 L [b1, b0, .ref p] A = kw (sel (gc A p) [(30, 378)]) [.ref p, b0, b1] d 377 33 L [] A := x_cvb (op := o_cv [(30, 378)] 2 3 false none) rfl rfl x_noh rfl
theorem x_377_33  : exG TB d 377 33 L (.int i1 :: st) A = if i1 = nI 0 then exG TB d 377 48 L st A else exG TB d 377 36 L st A := x_if (op := o_if (fun x => decide (x = 0)) 48) rfl rfl rfl
theorem x_377_36  : exG TB d 377 36 (some v :: r9) st A = rg v (exG TB d 377 37 (some v :: r9) (v :: st) A) := x_rg (op := o_aload 0 1) rfl rfl
theorem x_377_37  : exG TB d 377 37 (a0 :: some (.int i1) :: r9) st A = exG TB d 377 38 (a0 :: some (.int i1) :: r9) (.int i1 :: st) A := x_nx (op := o_iload 1 1) rfl rfl
theorem x_377_38  : exG TB d 377 38 (a0 :: a1 :: a2 :: some (.int i1) :: r9) st A = exG TB d 377 39 (a0 :: a1 :: a2 :: some (.int i1) :: r9) (.int i1 :: st) A := x_nx (op := o_iload 3 1) rfl rfl
theorem x_377_39  : exG TB d 377 39 L [b1, b0, .ref p] A = kw0 (sel (gc A p) [(30, 379)]) [.ref p, b0, b1] d 377 42 L [] A := x_c0b (op := o_cv [(30, 379)] 2 3 true none) rfl rfl x_noh rfl
theorem x_377_42  : exG TB d 377 42 (a0 :: a1 :: a2 :: some (.int i1) :: r9) st A = exG TB d 377 45 (a0 :: a1 :: a2 :: some (.int (i1 + (nI 1))) :: r9) st A := x_nx (op := o_iinc 3 1) rfl rfl
theorem x_377_45  : exG TB d 377 45 L st A = exG TB d 377 7 L st A := x_nx (op := o_goto 7) rfl rfl
theorem x_377_48  : exG TB d 377 48 (a0 :: a1 :: a2 :: some (.int i1) :: r9) st A = exG TB d 377 49 (a0 :: a1 :: a2 :: some (.int i1) :: r9) (.int i1 :: st) A := x_nx (op := o_iload 3 1) rfl rfl
theorem x_377_49  : exG TB d 377 49 L [v] A = ck (okv 1 v) (some (.inl (some v), A)) := x_outg (op := o_ret 1) rfl rfl
theorem e_378 {j1 : Int32} {j2 : Int32} : evG TB (d + 1) 378 [.ref p, .int j1, .int j2] A = exG TB d 378 0 [some (.ref p), some (.int j1), some (.int j2)] [] A := evG_eq TB d 378 _ A
theorem x_378_0  : exG TB d 378 0 (some v :: r9) st A = rg v (exG TB d 378 1 (some v :: r9) (v :: st) A) := x_rg (op := o_aload 0 1) rfl rfl
theorem x_378_1  : exG TB d 378 1 (a0 :: some (.int i1) :: r9) st A = exG TB d 378 2 (a0 :: some (.int i1) :: r9) (.int i1 :: st) A := x_nx (op := o_iload 1 1) rfl rfl
theorem x_378_2  : exG TB d 378 2 L st A = exG TB d 378 3 L (.int (nI 1) :: st) A := x_nx (op := o_push 1 (.int 1)) rfl rfl
theorem x_378_3  : exG TB d 378 3 L [b1, b0, .ref p] A = kw (sel (gc A p) [(30, 371)]) [.ref p, b0, b1] d 378 6 L [] A := x_cvb (op := o_cv [(30, 371)] 2 3 false none) rfl rfl x_noh rfl
theorem x_378_6  : exG TB d 378 6 (some v :: r9) st A = rg v (exG TB d 378 7 (some v :: r9) (v :: st) A) := x_rg (op := o_aload 0 1) rfl rfl
theorem x_378_7  : exG TB d 378 7 L st A = exG TB d 378 8 L (.int (nI 0) :: st) A := x_nx (op := o_push 1 (.int 0)) rfl rfl
theorem x_378_8  : exG TB d 378 8 L [b0, .ref p, w0] A = kw (sel (gc A p) [(30, 328)]) [.ref p, b0] d 378 11 L [w0] A := x_cvb (op := o_cv [(30, 328)] 1 3 false none) rfl rfl x_noh rfl
theorem x_378_11  : exG TB d 378 11 L (.int i2 :: .int i1 :: st) A = exG TB d 378 12 L (.int (i1 + i2) :: st) A := x_nx (op := o_iop (fun x y => x + y)) rfl rfl
theorem x_378_12  : exG TB d 378 12 (a0 :: a1 :: some (.int i1) :: r9) st A = exG TB d 378 13 (a0 :: a1 :: some (.int i1) :: r9) (.int i1 :: st) A := x_nx (op := o_iload 2 1) rfl rfl
theorem x_378_13  : exG TB d 378 13 L (.int i2 :: .int i1 :: st) A = if i2 ≤ i1 then exG TB d 378 20 L st A else exG TB d 378 16 L st A := x_if (op := o_icmp (fun x y => decide (y ≤ x)) 20) rfl rfl rfl
theorem x_378_16  : exG TB d 378 16 L st A = exG TB d 378 17 L (.int (nI 1) :: st) A := x_nx (op := o_push 1 (.int 1)) rfl rfl
theorem x_378_17  : exG TB d 378 17 L st A = exG TB d 378 21 L st A := x_nx (op := o_goto 21) rfl rfl
theorem x_378_20  : exG TB d 378 20 L st A = exG TB d 378 21 L (.int (nI 0) :: st) A := x_nx (op := o_push 1 (.int 0)) rfl rfl
theorem x_378_21  : exG TB d 378 21 L [v] A = ck (okv 5 v) (some (.inl (some v), A)) := x_outg (op := o_ret 5) rfl rfl
theorem e_379 {j1 : Int32} {j2 : Int32} : evG TB (d + 1) 379 [.ref p, .int j1, .int j2] A = exG TB d 379 0 [some (.ref p), some (.int j1), some (.int j2), none, none, none, none, none, none] [] A := evG_eq TB d 379 _ A
theorem x_379_0  : exG TB d 379 0 (some v :: r9) st A = rg v (exG TB d 379 1 (some v :: r9) (v :: st) A) := x_rg (op := o_aload 0 1) rfl rfl
theorem x_379_1  : exG TB d 379 1 L (.ref p :: st) A = kv (gf A p 148) d 379 4 L st A := x_bd (op := o_get 148) rfl rfl (fun _ => rfl)
theorem x_379_4  : exG TB d 379 4 L st A = exG TB d 379 6 L (.int (nI 13) :: st) A := x_nx (op := o_push 2 (.int 13)) rfl rfl
theorem x_379_6  : exG TB d 379 6 L (.int i1 :: .ref p :: st) A = ki (rdI 0 (ga A p) i1) d 379 7 L st A := x_bd (op := o_rdI 0) rfl rfl (fun _ => rfl)
theorem x_379_7  : exG TB d 379 7 (a0 :: a1 :: a2 :: a3 :: r9) (.int i1 :: st) A = exG TB d 379 8 (a0 :: a1 :: a2 :: some (.int i1) :: r9) st A := x_nx (op := o_istore 3 1) rfl rfl
theorem x_379_8  : exG TB d 379 8 (some v :: r9) st A = rg v (exG TB d 379 9 (some v :: r9) (v :: st) A) := x_rg (op := o_aload 0 1) rfl rfl
theorem x_379_9  : exG TB d 379 9 (a0 :: some (.int i1) :: r9) st A = exG TB d 379 10 (a0 :: some (.int i1) :: r9) (.int i1 :: st) A := x_nx (op := o_iload 1 1) rfl rfl
theorem x_379_10  : exG TB d 379 10 L st A = exG TB d 379 11 L (.int (nI 1) :: st) A := x_nx (op := o_push 1 (.int 1)) rfl rfl
theorem x_379_11  : exG TB d 379 11 L [b1, b0, .ref p] A = kw (sel (gc A p) [(30, 339)]) [.ref p, b0, b1] d 379 14 L [] A := x_cvb (op := o_cv [(30, 339)] 2 3 false none) rfl rfl x_noh rfl
theorem x_379_14  : exG TB d 379 14 (a0 :: a1 :: a2 :: a3 :: a4 :: r9) (.int i1 :: st) A = exG TB d 379 16 (a0 :: a1 :: a2 :: a3 :: some (.int i1) :: r9) st A := x_nx (op := o_istore 4 2) rfl rfl
theorem x_379_16  : exG TB d 379 16 (some v :: r9) st A = rg v (exG TB d 379 17 (some v :: r9) (v :: st) A) := x_rg (op := o_aload 0 1) rfl rfl
theorem x_379_17  : exG TB d 379 17 (a0 :: some (.int i1) :: r9) st A = exG TB d 379 18 (a0 :: some (.int i1) :: r9) (.int i1 :: st) A := x_nx (op := o_iload 1 1) rfl rfl
theorem x_379_18  : exG TB d 379 18 (some v :: r9) st A = rg v (exG TB d 379 19 (some v :: r9) (v :: st) A) := x_rg (op := o_aload 0 1) rfl rfl
theorem x_379_19  : exG TB d 379 19 (a0 :: some (.int i1) :: r9) st A = exG TB d 379 20 (a0 :: some (.int i1) :: r9) (.int i1 :: st) A := x_nx (op := o_iload 1 1) rfl rfl
theorem x_379_20  : exG TB d 379 20 L [b0, .ref p, w0, w1] A = kw (sel (gc A p) [(30, 380)]) [.ref p, b0] d 379 23 L [w0, w1] A := x_cvb (op := o_cv [(30, 380)] 1 3 false none) rfl rfl x_noh rfl
theorem x_379_23  : exG TB d 379 23 L [b1, b0, .ref p] A = kw (sel (gc A p) [(30, 381)]) [.ref p, b0, b1] d 379 26 L [] A := x_cvb (op := o_cv [(30, 381)] 2 3 false none) rfl rfl x_noh rfl
theorem x_379_26  : exG TB d 379 26 (a0 :: a1 :: a2 :: a3 :: a4 :: a5 :: r9) (.int i1 :: st) A = exG TB d 379 28 (a0 :: a1 :: a2 :: a3 :: a4 :: some (.int i1) :: r9) st A := x_nx (op := o_istore 5 2) rfl rfl
theorem x_379_28  : exG TB d 379 28 (some v :: r9) st A = rg v (exG TB d 379 29 (some v :: r9) (v :: st) A) := x_rg (op := o_aload 0 1) rfl rfl
theorem x_379_29  : exG TB d 379 29 L (.ref p :: st) A = kv (gf A p 181) d 379 32 L st A := x_bd (op := o_get 181) rfl rfl (fun _ => rfl)
theorem x_379_32  : exG TB d 379 32 (a0 :: a1 :: some (.int i1) :: r9) st A = exG TB d 379 33 (a0 :: a1 :: some (.int i1) :: r9) (.int i1 :: st) A := x_nx (op := o_iload 2 1) rfl rfl
theorem x_379_33  : exG TB d 379 33 L (.int i1 :: .ref p :: st) A = ki (rdI 0 (ga A p) i1) d 379 34 L st A := x_bd (op := o_rdI 0) rfl rfl (fun _ => rfl)
theorem x_379_34  : exG TB d 379 34 (some v :: r9) st A = rg v (exG TB d 379 35 (some v :: r9) (v :: st) A) := x_rg (op := o_aload 0 1) rfl rfl
theorem x_379_35  : exG TB d 379 35 (a0 :: some (.int i1) :: r9) st A = exG TB d 379 36 (a0 :: some (.int i1) :: r9) (.int i1 :: st) A := x_nx (op := o_iload 1 1) rfl rfl
theorem x_379_36  : exG TB d 379 36 L st A = exG TB d 379 37 L (.int (nI 0) :: st) A := x_nx (op := o_push 1 (.int 0)) rfl rfl
theorem x_379_37  : exG TB d 379 37 L [b1, b0, .ref p, w0] A = kw (sel (gc A p) [(30, 339)]) [.ref p, b0, b1] d 379 40 L [w0] A := x_cvb (op := o_cv [(30, 339)] 2 3 false none) rfl rfl x_noh rfl
theorem x_379_40  : exG TB d 379 40 L (.int i2 :: .int i1 :: st) A = exG TB d 379 41 L (.int (i1 * i2) :: st) A := x_nx (op := o_iop (fun x y => x * y)) rfl rfl
theorem x_379_41  : exG TB d 379 41 (a0 :: a1 :: a2 :: a3 :: a4 :: a5 :: a6 :: r9) (.int i1 :: st) A = exG TB d 379 43 (a0 :: a1 :: a2 :: a3 :: a4 :: a5 :: some (.int i1) :: r9) st A := x_nx (op := o_istore 6 2) rfl rfl
theorem x_379_43  : exG TB d 379 43 (some v :: r9) st A = rg v (exG TB d 379 44 (some v :: r9) (v :: st) A) := x_rg (op := o_aload 0 1) rfl rfl
theorem x_379_44  : exG TB d 379 44 (a0 :: some (.int i1) :: r9) st A = exG TB d 379 45 (a0 :: some (.int i1) :: r9) (.int i1 :: st) A := x_nx (op := o_iload 1 1) rfl rfl
theorem x_379_45  : exG TB d 379 45 (a0 :: a1 :: some (.int i1) :: r9) st A = exG TB d 379 46 (a0 :: a1 :: some (.int i1) :: r9) (.int i1 :: st) A := x_nx (op := o_iload 2 1) rfl rfl
theorem x_379_46  : exG TB d 379 46 (a0 :: a1 :: a2 :: a3 :: a4 :: some (.int i1) :: r9) st A = exG TB d 379 48 (a0 :: a1 :: a2 :: a3 :: a4 :: some (.int i1) :: r9) (.int i1 :: st) A := x_nx (op := o_iload 5 2) rfl rfl
theorem x_379_48  : exG TB d 379 48 L [b2, b1, b0, .ref p] A = kw (sel (gc A p) [(30, 382)]) [.ref p, b0, b1, b2] d 379 51 L [] A := x_cvb (op := o_cv [(30, 382)] 3 3 false none) rfl rfl x_noh rfl
theorem x_379_51  : exG TB d 379 51 (a0 :: a1 :: a2 :: a3 :: a4 :: a5 :: a6 :: a7 :: r9) (.int i1 :: st) A = exG TB d 379 53 (a0 :: a1 :: a2 :: a3 :: a4 :: a5 :: a6 :: some (.int i1) :: r9) st A := x_nx (op := o_istore 7 2) rfl rfl
theorem x_379_53  : exG TB d 379 53 (some v :: r9) st A = rg v (exG TB d 379 54 (some v :: r9) (v :: st) A) := x_rg (op := o_aload 0 1) rfl rfl
theorem x_379_54  : exG TB d 379 54 (a0 :: a1 :: a2 :: some (.int i1) :: r9) st A = exG TB d 379 55 (a0 :: a1 :: a2 :: some (.int i1) :: r9) (.int i1 :: st) A := x_nx (op := o_iload 3 1) rfl rfl
theorem x_379_55  : exG TB d 379 55 L st A = exG TB d 379 56 L (.int (nI 0) :: st) A := x_nx (op := o_push 1 (.int 0)) rfl rfl
theorem x_379_56  : exG TB d 379 56 (a0 :: some (.int i1) :: r9) st A = exG TB d 379 57 (a0 :: some (.int i1) :: r9) (.int i1 :: st) A := x_nx (op := o_iload 1 1) rfl rfl
theorem x_379_57  : exG TB d 379 57 L [b2, b1, b0, .ref p] A = kw0 (sel (gc A p) [(30, 383)]) [.ref p, b0, b1, b2] d 379 60 L [] A := x_c0b (op := o_cv [(30, 383)] 3 3 true none) rfl rfl x_noh rfl
theorem x_379_60  : exG TB d 379 60 (some v :: r9) st A = rg v (exG TB d 379 61 (some v :: r9) (v :: st) A) := x_rg (op := o_aload 0 1) rfl rfl
theorem x_379_61  : exG TB d 379 61 (a0 :: a1 :: a2 :: some (.int i1) :: r9) st A = exG TB d 379 62 (a0 :: a1 :: a2 :: some (.int i1) :: r9) (.int i1 :: st) A := x_nx (op := o_iload 3 1) rfl rfl
theorem x_379_62  : exG TB d 379 62 L st A = exG TB d 379 63 L (.int (nI 1) :: st) A := x_nx (op := o_push 1 (.int 1)) rfl rfl
theorem x_379_63  : exG TB d 379 63 (a0 :: a1 :: a2 :: a3 :: some (.int i1) :: r9) st A = exG TB d 379 65 (a0 :: a1 :: a2 :: a3 :: some (.int i1) :: r9) (.int i1 :: st) A := x_nx (op := o_iload 4 2) rfl rfl
theorem x_379_65  : exG TB d 379 65 L [b2, b1, b0, .ref p] A = kw0 (sel (gc A p) [(30, 383)]) [.ref p, b0, b1, b2] d 379 68 L [] A := x_c0b (op := o_cv [(30, 383)] 3 3 true none) rfl rfl x_noh rfl
theorem x_379_68  : exG TB d 379 68 (some v :: r9) st A = rg v (exG TB d 379 69 (some v :: r9) (v :: st) A) := x_rg (op := o_aload 0 1) rfl rfl
theorem x_379_69  : exG TB d 379 69 (a0 :: a1 :: a2 :: some (.int i1) :: r9) st A = exG TB d 379 70 (a0 :: a1 :: a2 :: some (.int i1) :: r9) (.int i1 :: st) A := x_nx (op := o_iload 3 1) rfl rfl
theorem x_379_70  : exG TB d 379 70 L st A = exG TB d 379 71 L (.int (nI 2) :: st) A := x_nx (op := o_push 1 (.int 2)) rfl rfl
theorem x_379_71  : exG TB d 379 71 (a0 :: a1 :: a2 :: a3 :: a4 :: a5 :: a6 :: some (.int i1) :: r9) st A = exG TB d 379 73 (a0 :: a1 :: a2 :: a3 :: a4 :: a5 :: a6 :: some (.int i1) :: r9) (.int i1 :: st) A := x_nx (op := o_iload 7 2) rfl rfl
theorem x_379_73  : exG TB d 379 73 L [b2, b1, b0, .ref p] A = kw0 (sel (gc A p) [(30, 383)]) [.ref p, b0, b1, b2] d 379 76 L [] A := x_c0b (op := o_cv [(30, 383)] 3 3 true none) rfl rfl x_noh rfl
theorem x_379_76  : exG TB d 379 76 (some v :: r9) st A = rg v (exG TB d 379 77 (some v :: r9) (v :: st) A) := x_rg (op := o_aload 0 1) rfl rfl
theorem x_379_77  : exG TB d 379 77 (a0 :: a1 :: a2 :: some (.int i1) :: r9) st A = exG TB d 379 78 (a0 :: a1 :: a2 :: some (.int i1) :: r9) (.int i1 :: st) A := x_nx (op := o_iload 3 1) rfl rfl
theorem x_379_78  : exG TB d 379 78 L st A = exG TB d 379 79 L (.int (nI 3) :: st) A := x_nx (op := o_push 1 (.int 3)) rfl rfl
theorem x_379_79  : exG TB d 379 79 (a0 :: a1 :: a2 :: a3 :: a4 :: a5 :: some (.int i1) :: r9) st A = exG TB d 379 81 (a0 :: a1 :: a2 :: a3 :: a4 :: a5 :: some (.int i1) :: r9) (.int i1 :: st) A := x_nx (op := o_iload 6 2) rfl rfl
theorem x_379_81  : exG TB d 379 81 L [b2, b1, b0, .ref p] A = kw0 (sel (gc A p) [(30, 383)]) [.ref p, b0, b1, b2] d 379 84 L [] A := x_c0b (op := o_cv [(30, 383)] 3 3 true none) rfl rfl x_noh rfl
theorem x_379_84  : exG TB d 379 84 (some v :: r9) st A = rg v (exG TB d 379 85 (some v :: r9) (v :: st) A) := x_rg (op := o_aload 0 1) rfl rfl
theorem x_379_85  : exG TB d 379 85 (a0 :: a1 :: a2 :: some (.int i1) :: r9) st A = exG TB d 379 86 (a0 :: a1 :: a2 :: some (.int i1) :: r9) (.int i1 :: st) A := x_nx (op := o_iload 3 1) rfl rfl
theorem x_379_86  : exG TB d 379 86 L st A = exG TB d 379 87 L (.int (nI 4) :: st) A := x_nx (op := o_push 1 (.int 4)) rfl rfl
theorem x_379_87  : exG TB d 379 87 (a0 :: a1 :: a2 :: a3 :: a4 :: a5 :: some (.int i1) :: r9) st A = exG TB d 379 89 (a0 :: a1 :: a2 :: a3 :: a4 :: a5 :: some (.int i1) :: r9) (.int i1 :: st) A := x_nx (op := o_iload 6 2) rfl rfl
theorem x_379_89  : exG TB d 379 89 (a0 :: a1 :: a2 :: a3 :: a4 :: some (.int i1) :: r9) st A = exG TB d 379 91 (a0 :: a1 :: a2 :: a3 :: a4 :: some (.int i1) :: r9) (.int i1 :: st) A := x_nx (op := o_iload 5 2) rfl rfl
theorem x_379_91  : exG TB d 379 91 L (.int i2 :: .int i1 :: st) A = exG TB d 379 92 L (.int (i1 * i2) :: st) A := x_nx (op := o_iop (fun x y => x * y)) rfl rfl
theorem x_379_92  : exG TB d 379 92 L st A = exG TB d 379 94 L (.int (nI 100) :: st) A := x_nx (op := o_push 2 (.int 100)) rfl rfl
theorem x_379_94  : exG TB d 379 94 L (.int i2 :: .int i1 :: st) A = ck (decide (¬ i2 = nI 0)) (exG TB d 379 95 L (.int (i1 / i2) :: st) A) := x_gd (op := o_iopz (fun x y => x / y)) rfl rfl
theorem x_379_95  : exG TB d 379 95 L [b2, b1, b0, .ref p] A = kw0 (sel (gc A p) [(30, 383)]) [.ref p, b0, b1, b2] d 379 98 L [] A := x_c0b (op := o_cv [(30, 383)] 3 3 true none) rfl rfl x_noh rfl
theorem x_379_98  : exG TB d 379 98 (some v :: r9) st A = rg v (exG TB d 379 99 (some v :: r9) (v :: st) A) := x_rg (op := o_aload 0 1) rfl rfl
theorem x_379_99  : exG TB d 379 99 (a0 :: a1 :: a2 :: some (.int i1) :: r9) st A = exG TB d 379 100 (a0 :: a1 :: a2 :: some (.int i1) :: r9) (.int i1 :: st) A := x_nx (op := o_iload 3 1) rfl rfl
theorem x_379_100  : exG TB d 379 100 L st A = exG TB d 379 101 L (.int (nI 5) :: st) A := x_nx (op := o_push 1 (.int 5)) rfl rfl
theorem x_379_101  : exG TB d 379 101 (some v :: r9) st A = rg v (exG TB d 379 102 (some v :: r9) (v :: st) A) := x_rg (op := o_aload 0 1) rfl rfl
theorem x_379_102  : exG TB d 379 102 L st A = exG TB d 379 104 L (.int (nI 6) :: st) A := x_nx (op := o_push 2 (.int 6)) rfl rfl
theorem x_379_104  : exG TB d 379 104 L [b0, .ref p, w0, w1, w2] A = kw (sel (gc A p) [(30, 328)]) [.ref p, b0] d 379 107 L [w0, w1, w2] A := x_cvb (op := o_cv [(30, 328)] 1 3 false none) rfl rfl x_noh rfl
theorem x_379_107  : exG TB d 379 107 (some v :: r9) st A = rg v (exG TB d 379 108 (some v :: r9) (v :: st) A) := x_rg (op := o_aload 0 1) rfl rfl
theorem x_379_108  : exG TB d 379 108 (a0 :: a1 :: some (.int i1) :: r9) st A = exG TB d 379 109 (a0 :: a1 :: some (.int i1) :: r9) (.int i1 :: st) A := x_nx (op := o_iload 2 1) rfl rfl
theorem x_379_109  : exG TB d 379 109 L st A = exG TB d 379 110 L (.int (nI 1) :: st) A := x_nx (op := o_push 1 (.int 1)) rfl rfl
theorem x_379_110  : exG TB d 379 110 L [b1, b0, .ref p, w0, w1, w2, w3] A = kw (sel (gc A p) [(30, 372)]) [.ref p, b0, b1] d 379 113 L [w0, w1, w2, w3] A := x_cvb (op := o_cv [(30, 372)] 2 3 false none) rfl rfl x_noh rfl
theorem x_379_113  : exG TB d 379 113 L (.int i2 :: .int i1 :: st) A = exG TB d 379 114 L (.int (i1 * i2) :: st) A := x_nx (op := o_iop (fun x y => x * y)) rfl rfl
theorem x_379_114  : exG TB d 379 114 L [b2, b1, b0, .ref p] A = kw0 (sel (gc A p) [(30, 383)]) [.ref p, b0, b1, b2] d 379 117 L [] A := x_c0b (op := o_cv [(30, 383)] 3 3 true none) rfl rfl x_noh rfl
theorem x_379_117  : exG TB d 379 117 (some v :: r9) st A = rg v (exG TB d 379 118 (some v :: r9) (v :: st) A) := x_rg (op := o_aload 0 1) rfl rfl
theorem x_379_118  : exG TB d 379 118 (a0 :: a1 :: a2 :: some (.int i1) :: r9) st A = exG TB d 379 119 (a0 :: a1 :: a2 :: some (.int i1) :: r9) (.int i1 :: st) A := x_nx (op := o_iload 3 1) rfl rfl
theorem x_379_119  : exG TB d 379 119 L st A = exG TB d 379 121 L (.int (nI 6) :: st) A := x_nx (op := o_push 2 (.int 6)) rfl rfl
theorem x_379_121  : exG TB d 379 121 (some v :: r9) st A = rg v (exG TB d 379 122 (some v :: r9) (v :: st) A) := x_rg (op := o_aload 0 1) rfl rfl
theorem x_379_122  : exG TB d 379 122 (a0 :: a1 :: some (.int i1) :: r9) st A = exG TB d 379 123 (a0 :: a1 :: some (.int i1) :: r9) (.int i1 :: st) A := x_nx (op := o_iload 2 1) rfl rfl
theorem x_379_123  : exG TB d 379 123 L st A = exG TB d 379 124 L (.int (nI 0) :: st) A := x_nx (op := o_push 1 (.int 0)) rfl rfl
theorem x_379_124  : exG TB d 379 124 L [b1, b0, .ref p, w0, w1, w2] A = kw (sel (gc A p) [(30, 371)]) [.ref p, b0, b1] d 379 127 L [w0, w1, w2] A := x_cvb (op := o_cv [(30, 371)] 2 3 false none) rfl rfl x_noh rfl
theorem x_379_127  : exG TB d 379 127 L [b2, b1, b0, .ref p] A = kw0 (sel (gc A p) [(30, 383)]) [.ref p, b0, b1, b2] d 379 130 L [] A := x_c0b (op := o_cv [(30, 383)] 3 3 true none) rfl rfl x_noh rfl
theorem x_379_130  : exG TB d 379 130 (some v :: r9) st A = rg v (exG TB d 379 131 (some v :: r9) (v :: st) A) := x_rg (op := o_aload 0 1) rfl rfl
theorem x_379_131  : exG TB d 379 131 (a0 :: a1 :: a2 :: some (.int i1) :: r9) st A = exG TB d 379 132 (a0 :: a1 :: a2 :: some (.int i1) :: r9) (.int i1 :: st) A := x_nx (op := o_iload 3 1) rfl rfl
theorem x_379_132  : exG TB d 379 132 L st A = exG TB d 379 134 L (.int (nI 7) :: st) A := x_nx (op := o_push 2 (.int 7)) rfl rfl
theorem x_379_134  : exG TB d 379 134 (some v :: r9) st A = rg v (exG TB d 379 135 (some v :: r9) (v :: st) A) := x_rg (op := o_aload 0 1) rfl rfl
theorem x_379_135  : exG TB d 379 135 (a0 :: a1 :: some (.int i1) :: r9) st A = exG TB d 379 136 (a0 :: a1 :: some (.int i1) :: r9) (.int i1 :: st) A := x_nx (op := o_iload 2 1) rfl rfl
theorem x_379_136  : exG TB d 379 136 L st A = exG TB d 379 137 L (.int (nI 1) :: st) A := x_nx (op := o_push 1 (.int 1)) rfl rfl
theorem x_379_137  : exG TB d 379 137 L [b1, b0, .ref p, w0, w1, w2] A = kw (sel (gc A p) [(30, 371)]) [.ref p, b0, b1] d 379 140 L [w0, w1, w2] A := x_cvb (op := o_cv [(30, 371)] 2 3 false none) rfl rfl x_noh rfl
theorem x_379_140  : exG TB d 379 140 L [b2, b1, b0, .ref p] A = kw0 (sel (gc A p) [(30, 383)]) [.ref p, b0, b1, b2] d 379 143 L [] A := x_c0b (op := o_cv [(30, 383)] 3 3 true none) rfl rfl x_noh rfl
theorem x_379_143  : exG TB d 379 143 (some v :: r9) st A = rg v (exG TB d 379 144 (some v :: r9) (v :: st) A) := x_rg (op := o_aload 0 1) rfl rfl
theorem x_379_144  : exG TB d 379 144 (a0 :: a1 :: a2 :: some (.int i1) :: r9) st A = exG TB d 379 145 (a0 :: a1 :: a2 :: some (.int i1) :: r9) (.int i1 :: st) A := x_nx (op := o_iload 3 1) rfl rfl
theorem x_379_145  : exG TB d 379 145 L st A = exG TB d 379 147 L (.int (nI 8) :: st) A := x_nx (op := o_push 2 (.int 8)) rfl rfl
theorem x_379_147  : exG TB d 379 147 (some v :: r9) st A = rg v (exG TB d 379 148 (some v :: r9) (v :: st) A) := x_rg (op := o_aload 0 1) rfl rfl
theorem x_379_148  : exG TB d 379 148 (a0 :: a1 :: some (.int i1) :: r9) st A = exG TB d 379 149 (a0 :: a1 :: some (.int i1) :: r9) (.int i1 :: st) A := x_nx (op := o_iload 2 1) rfl rfl
theorem x_379_149  : exG TB d 379 149 L [b0, .ref p, w0, w1, w2] A = kw (sel (gc A p) [(30, 373)]) [.ref p, b0] d 379 152 L [w0, w1, w2] A := x_cvb (op := o_cv [(30, 373)] 1 3 false none) rfl rfl x_noh rfl
theorem x_379_152  : exG TB d 379 152 L [b2, b1, b0, .ref p] A = kw0 (sel (gc A p) [(30, 383)]) [.ref p, b0, b1, b2] d 379 155 L [] A := x_c0b (op := o_cv [(30, 383)] 3 3 true none) rfl rfl x_noh rfl
theorem x_379_155  : exG TB d 379 155 (some v :: r9) st A = rg v (exG TB d 379 156 (some v :: r9) (v :: st) A) := x_rg (op := o_aload 0 1) rfl rfl
theorem x_379_156  : exG TB d 379 156 (a0 :: a1 :: a2 :: some (.int i1) :: r9) st A = exG TB d 379 157 (a0 :: a1 :: a2 :: some (.int i1) :: r9) (.int i1 :: st) A := x_nx (op := o_iload 3 1) rfl rfl
theorem x_379_157  : exG TB d 379 157 L st A = exG TB d 379 159 L (.int (nI 9) :: st) A := x_nx (op := o_push 2 (.int 9)) rfl rfl
theorem x_379_159  : exG TB d 379 159 (some v :: r9) st A = rg v (exG TB d 379 160 (some v :: r9) (v :: st) A) := x_rg (op := o_aload 0 1) rfl rfl
theorem x_379_160  : exG TB d 379 160 (a0 :: a1 :: some (.int i1) :: r9) st A = exG TB d 379 161 (a0 :: a1 :: some (.int i1) :: r9) (.int i1 :: st) A := x_nx (op := o_iload 2 1) rfl rfl
theorem x_379_161  : exG TB d 379 161 L [b0, .ref p, w0, w1, w2] A = kw (sel (gc A p) [(30, 374)]) [.ref p, b0] d 379 164 L [w0, w1, w2] A := x_cvb (op := o_cv [(30, 374)] 1 3 false none) rfl rfl x_noh rfl
theorem x_379_164  : exG TB d 379 164 L [b2, b1, b0, .ref p] A = kw0 (sel (gc A p) [(30, 383)]) [.ref p, b0, b1, b2] d 379 167 L [] A := x_c0b (op := o_cv [(30, 383)] 3 3 true none) rfl rfl x_noh rfl
theorem x_379_167  : exG TB d 379 167 (some v :: r9) st A = rg v (exG TB d 379 168 (some v :: r9) (v :: st) A) := x_rg (op := o_aload 0 1) rfl rfl
theorem x_379_168  : exG TB d 379 168 (a0 :: a1 :: a2 :: some (.int i1) :: r9) st A = exG TB d 379 169 (a0 :: a1 :: a2 :: some (.int i1) :: r9) (.int i1 :: st) A := x_nx (op := o_iload 3 1) rfl rfl
theorem x_379_169  : exG TB d 379 169 L st A = exG TB d 379 171 L (.int (nI 10) :: st) A := x_nx (op := o_push 2 (.int 10)) rfl rfl
theorem x_379_171  : exG TB d 379 171 (some v :: r9) st A = rg v (exG TB d 379 172 (some v :: r9) (v :: st) A) := x_rg (op := o_aload 0 1) rfl rfl
theorem x_379_172  : exG TB d 379 172 (a0 :: a1 :: some (.int i1) :: r9) st A = exG TB d 379 173 (a0 :: a1 :: some (.int i1) :: r9) (.int i1 :: st) A := x_nx (op := o_iload 2 1) rfl rfl
theorem x_379_173  : exG TB d 379 173 L st A = exG TB d 379 174 L (.int (nI 0) :: st) A := x_nx (op := o_push 1 (.int 0)) rfl rfl
theorem x_379_174  : exG TB d 379 174 L [b1, b0, .ref p, w0, w1, w2] A = kw (sel (gc A p) [(30, 372)]) [.ref p, b0, b1] d 379 177 L [w0, w1, w2] A := x_cvb (op := o_cv [(30, 372)] 2 3 false none) rfl rfl x_noh rfl
theorem x_379_177  : exG TB d 379 177 L [b2, b1, b0, .ref p] A = kw0 (sel (gc A p) [(30, 383)]) [.ref p, b0, b1, b2] d 379 180 L [] A := x_c0b (op := o_cv [(30, 383)] 3 3 true none) rfl rfl x_noh rfl
theorem x_379_180  : exG TB d 379 180 (some v :: r9) st A = rg v (exG TB d 379 181 (some v :: r9) (v :: st) A) := x_rg (op := o_aload 0 1) rfl rfl
theorem x_379_181  : exG TB d 379 181 (a0 :: a1 :: a2 :: some (.int i1) :: r9) st A = exG TB d 379 182 (a0 :: a1 :: a2 :: some (.int i1) :: r9) (.int i1 :: st) A := x_nx (op := o_iload 3 1) rfl rfl
theorem x_379_182  : exG TB d 379 182 L st A = exG TB d 379 184 L (.int (nI 11) :: st) A := x_nx (op := o_push 2 (.int 11)) rfl rfl
theorem x_379_184  : exG TB d 379 184 L st A = exG TB d 379 185 L (.int (nI 0) :: st) A := x_nx (op := o_push 1 (.int 0)) rfl rfl
theorem x_379_185  : exG TB d 379 185 L [b2, b1, b0, .ref p] A = kw0 (sel (gc A p) [(30, 383)]) [.ref p, b0, b1, b2] d 379 188 L [] A := x_c0b (op := o_cv [(30, 383)] 3 3 true none) rfl rfl x_noh rfl
theorem x_379_188  : exG TB d 379 188 (some v :: r9) st A = rg v (exG TB d 379 189 (some v :: r9) (v :: st) A) := x_rg (op := o_aload 0 1) rfl rfl
theorem x_379_189  : exG TB d 379 189 (a0 :: a1 :: a2 :: some (.int i1) :: r9) st A = exG TB d 379 190 (a0 :: a1 :: a2 :: some (.int i1) :: r9) (.int i1 :: st) A := x_nx (op := o_iload 3 1) rfl rfl
theorem x_379_190  : exG TB d 379 190 L st A = exG TB d 379 192 L (.int (nI 12) :: st) A := x_nx (op := o_push 2 (.int 12)) rfl rfl
theorem x_379_192  : exG TB d 379 192 L st A = exG TB d 379 193 L (.int (nI 0) :: st) A := x_nx (op := o_push 1 (.int 0)) rfl rfl
theorem x_379_193  : exG TB d 379 193 L [b2, b1, b0, .ref p] A = kw0 (sel (gc A p) [(30, 383)]) [.ref p, b0, b1, b2] d 379 196 L [] A := x_c0b (op := o_cv [(30, 383)] 3 3 true none) rfl rfl x_noh rfl
theorem x_379_196  : exG TB d 379 196 (some v :: r9) st A = rg v (exG TB d 379 197 (some v :: r9) (v :: st) A) := x_rg (op := o_aload 0 1) rfl rfl
theorem x_379_197  : exG TB d 379 197 (a0 :: a1 :: a2 :: some (.int i1) :: r9) st A = exG TB d 379 198 (a0 :: a1 :: a2 :: some (.int i1) :: r9) (.int i1 :: st) A := x_nx (op := o_iload 3 1) rfl rfl
theorem x_379_198  : exG TB d 379 198 L st A = exG TB d 379 200 L (.int (nI 13) :: st) A := x_nx (op := o_push 2 (.int 13)) rfl rfl
theorem x_379_200  : exG TB d 379 200 (some v :: r9) st A = rg v (exG TB d 379 201 (some v :: r9) (v :: st) A) := x_rg (op := o_aload 0 1) rfl rfl
theorem x_379_201  : exG TB d 379 201 (a0 :: some (.int i1) :: r9) st A = exG TB d 379 202 (a0 :: some (.int i1) :: r9) (.int i1 :: st) A := x_nx (op := o_iload 1 1) rfl rfl
theorem x_379_202  : exG TB d 379 202 L st A = exG TB d 379 203 L (.int (nI 0) :: st) A := x_nx (op := o_push 1 (.int 0)) rfl rfl
theorem x_379_203  : exG TB d 379 203 L [b1, b0, .ref p, w0, w1, w2] A = kw (sel (gc A p) [(30, 339)]) [.ref p, b0, b1] d 379 206 L [w0, w1, w2] A := x_cvb (op := o_cv [(30, 339)] 2 3 false none) rfl rfl x_noh rfl
theorem x_379_206  : exG TB d 379 206 L [b2, b1, b0, .ref p] A = kw0 (sel (gc A p) [(30, 383)]) [.ref p, b0, b1, b2] d 379 209 L [] A := x_c0b (op := o_cv [(30, 383)] 3 3 true none) rfl rfl x_noh rfl
theorem x_379_209  : exG TB d 379 209 (some v :: r9) st A = rg v (exG TB d 379 210 (some v :: r9) (v :: st) A) := x_rg (op := o_aload 0 1) rfl rfl
theorem x_379_210  : exG TB d 379 210 (a0 :: a1 :: a2 :: some (.int i1) :: r9) st A = exG TB d 379 211 (a0 :: a1 :: a2 :: some (.int i1) :: r9) (.int i1 :: st) A := x_nx (op := o_iload 3 1) rfl rfl
theorem x_379_211  : exG TB d 379 211 L st A = exG TB d 379 213 L (.int (nI 14) :: st) A := x_nx (op := o_push 2 (.int 14)) rfl rfl
theorem x_379_213  : exG TB d 379 213 (a0 :: a1 :: a2 :: a3 :: a4 :: some (.int i1) :: r9) st A = exG TB d 379 215 (a0 :: a1 :: a2 :: a3 :: a4 :: some (.int i1) :: r9) (.int i1 :: st) A := x_nx (op := o_iload 5 2) rfl rfl
theorem x_379_215  : exG TB d 379 215 L [b2, b1, b0, .ref p] A = kw0 (sel (gc A p) [(30, 383)]) [.ref p, b0, b1, b2] d 379 218 L [] A := x_c0b (op := o_cv [(30, 383)] 3 3 true none) rfl rfl x_noh rfl
theorem x_379_218  : exG TB d 379 218 (some v :: r9) st A = rg v (exG TB d 379 219 (some v :: r9) (v :: st) A) := x_rg (op := o_aload 0 1) rfl rfl
theorem x_379_219  : exG TB d 379 219 (a0 :: a1 :: a2 :: some (.int i1) :: r9) st A = exG TB d 379 220 (a0 :: a1 :: a2 :: some (.int i1) :: r9) (.int i1 :: st) A := x_nx (op := o_iload 3 1) rfl rfl
theorem x_379_220  : exG TB d 379 220 L st A = exG TB d 379 222 L (.int (nI 16) :: st) A := x_nx (op := o_push 2 (.int 16)) rfl rfl
theorem x_379_222  : exG TB d 379 222 (a0 :: a1 :: a2 :: a3 :: some (.int i1) :: r9) st A = exG TB d 379 224 (a0 :: a1 :: a2 :: a3 :: some (.int i1) :: r9) (.int i1 :: st) A := x_nx (op := o_iload 4 2) rfl rfl
theorem x_379_224  : exG TB d 379 224 L st A = exG TB d 379 225 L (.int nN :: st) A := x_nx (op := o_push 1 (.int (-1))) rfl rfl
theorem x_379_225  : exG TB d 379 225 L (.int i2 :: .int i1 :: st) A = if ¬ i1 = i2 then exG TB d 379 237 L st A else exG TB d 379 228 L st A := x_if (op := o_icmp (fun x y => decide (¬ x = y)) 237) rfl rfl rfl
theorem x_379_228  : exG TB d 379 228 (some v :: r9) st A = rg v (exG TB d 379 229 (some v :: r9) (v :: st) A) := x_rg (op := o_aload 0 1) rfl rfl
theorem x_379_229  : exG TB d 379 229 L st A = exG TB d 379 231 L (.int (nI 7) :: st) A := x_nx (op := o_push 2 (.int 7)) rfl rfl
theorem x_379_231  : exG TB d 379 231 L [b0, .ref p, w0, w1, w2] A = kw (sel (gc A p) [(30, 328)]) [.ref p, b0] d 379 234 L [w0, w1, w2] A := x_cvb (op := o_cv [(30, 328)] 1 3 false none) rfl rfl x_noh rfl
theorem x_379_234  : exG TB d 379 234 L st A = exG TB d 379 238 L st A := x_nx (op := o_goto 238) rfl rfl
theorem x_379_237  : exG TB d 379 237 L st A = exG TB d 379 238 L (.int (nI 0) :: st) A := x_nx (op := o_push 1 (.int 0)) rfl rfl
theorem x_379_238  : exG TB d 379 238 L [b2, b1, b0, .ref p] A = kw0 (sel (gc A p) [(30, 383)]) [.ref p, b0, b1, b2] d 379 241 L [] A := x_c0b (op := o_cv [(30, 383)] 3 3 true none) rfl rfl x_noh rfl
theorem x_379_241  : exG TB d 379 241 (some v :: r9) st A = rg v (exG TB d 379 242 (some v :: r9) (v :: st) A) := x_rg (op := o_aload 0 1) rfl rfl
theorem x_379_242  : exG TB d 379 242 (a0 :: a1 :: a2 :: some (.int i1) :: r9) st A = exG TB d 379 243 (a0 :: a1 :: a2 :: some (.int i1) :: r9) (.int i1 :: st) A := x_nx (op := o_iload 3 1) rfl rfl
theorem x_379_243  : exG TB d 379 243 L st A = exG TB d 379 245 L (.int (nI 17) :: st) A := x_nx (op := o_push 2 (.int 17)) rfl rfl
theorem x_379_245  : exG TB d 379 245 (some v :: r9) st A = rg v (exG TB d 379 246 (some v :: r9) (v :: st) A) := x_rg (op := o_aload 0 1) rfl rfl
theorem x_379_246  : exG TB d 379 246 (a0 :: a1 :: some (.int i1) :: r9) st A = exG TB d 379 247 (a0 :: a1 :: some (.int i1) :: r9) (.int i1 :: st) A := x_nx (op := o_iload 2 1) rfl rfl
theorem x_379_247  : exG TB d 379 247 L st A = exG TB d 379 248 L (.int (nI 1) :: st) A := x_nx (op := o_push 1 (.int 1)) rfl rfl
theorem x_379_248  : exG TB d 379 248 L [b1, b0, .ref p, w0, w1, w2] A = kw (sel (gc A p) [(30, 372)]) [.ref p, b0, b1] d 379 251 L [w0, w1, w2] A := x_cvb (op := o_cv [(30, 372)] 2 3 false none) rfl rfl x_noh rfl
theorem x_379_251  : exG TB d 379 251 L [b2, b1, b0, .ref p] A = kw0 (sel (gc A p) [(30, 383)]) [.ref p, b0, b1, b2] d 379 254 L [] A := x_c0b (op := o_cv [(30, 383)] 3 3 true none) rfl rfl x_noh rfl
theorem x_379_254  : exG TB d 379 254 (some v :: r9) st A = rg v (exG TB d 379 255 (some v :: r9) (v :: st) A) := x_rg (op := o_aload 0 1) rfl rfl
theorem x_379_255  : exG TB d 379 255 (a0 :: a1 :: a2 :: some (.int i1) :: r9) st A = exG TB d 379 256 (a0 :: a1 :: a2 :: some (.int i1) :: r9) (.int i1 :: st) A := x_nx (op := o_iload 3 1) rfl rfl
theorem x_379_256  : exG TB d 379 256 (a0 :: a1 :: some (.int i1) :: r9) st A = exG TB d 379 257 (a0 :: a1 :: some (.int i1) :: r9) (.int i1 :: st) A := x_nx (op := o_iload 2 1) rfl rfl
theorem x_379_257  : exG TB d 379 257 L [b1, b0, .ref p] A = kw0 (sel (gc A p) [(30, 384)]) [.ref p, b0, b1] d 379 260 L [] A := x_c0b (op := o_cv [(30, 384)] 2 3 true none) rfl rfl x_noh rfl
theorem x_379_260  : exG TB d 379 260 (some v :: r9) st A = rg v (exG TB d 379 261 (some v :: r9) (v :: st) A) := x_rg (op := o_aload 0 1) rfl rfl
theorem x_379_261  : exG TB d 379 261 (a0 :: some (.int i1) :: r9) st A = exG TB d 379 262 (a0 :: some (.int i1) :: r9) (.int i1 :: st) A := x_nx (op := o_iload 1 1) rfl rfl
theorem x_379_262  : exG TB d 379 262 (a0 :: a1 :: a2 :: a3 :: some (.int i1) :: r9) st A = exG TB d 379 264 (a0 :: a1 :: a2 :: a3 :: some (.int i1) :: r9) (.int i1 :: st) A := x_nx (op := o_iload 4 2) rfl rfl
theorem x_379_264  : exG TB d 379 264 (a0 :: a1 :: a2 :: a3 :: a4 :: a5 :: a6 :: some (.int i1) :: r9) st A = exG TB d 379 266 (a0 :: a1 :: a2 :: a3 :: a4 :: a5 :: a6 :: some (.int i1) :: r9) (.int i1 :: st) A := x_nx (op := o_iload 7 2) rfl rfl
theorem x_379_266  : exG TB d 379 266 L [b2, b1, b0, .ref p] A = kw0 (sel (gc A p) [(30, 385)]) [.ref p, b0, b1, b2] d 379 269 L [] A := x_c0b (op := o_cv [(30, 385)] 3 3 true none) rfl rfl x_noh rfl
theorem x_379_269  : exG TB d 379 269 L st A = exG TB d 379 270 L (.int (nI 0) :: st) A := x_nx (op := o_push 1 (.int 0)) rfl rfl
theorem x_379_270  : exG TB d 379 270 (a0 :: a1 :: a2 :: a3 :: a4 :: a5 :: a6 :: a7 :: a8 :: r9) (.int i1 :: st) A = exG TB d 379 272 (a0 :: a1 :: a2 :: a3 :: a4 :: a5 :: a6 :: a7 :: some (.int i1) :: r9) st A := x_nx (op := o_istore 8 2) rfl rfl
theorem x_379_272  : exG TB d 379 272 (a0 :: a1 :: a2 :: a3 :: a4 :: a5 :: a6 :: a7 :: some (.int i1) :: r9) st A = exG TB d 379 274 (a0 :: a1 :: a2 :: a3 :: a4 :: a5 :: a6 :: a7 :: some (.int i1) :: r9) (.int i1 :: st) A := x_nx (op := o_iload 8 2) rfl rfl
theorem x_379_274  : exG TB d 379 274 (some v :: r9) st A = rg v (exG TB d 379 275 (some v :: r9) (v :: st) A) := x_rg (op := o_aload 0 1) rfl rfl
theorem x_379_275  : exG TB d 379 275 L (.ref p :: st) A = kv (gf A p 184) d 379 278 L st A := x_bd (op := o_get 184) rfl rfl (fun _ => rfl)
theorem x_379_278  : exG TB d 379 278 L (.int i2 :: .int i1 :: st) A = if i2 ≤ i1 then exG TB d 379 325 L st A else exG TB d 379 281 L st A := x_if (op := o_icmp (fun x y => decide (y ≤ x)) 325) rfl rfl rfl
theorem x_379_281  : exG TB d 379 281 (some v :: r9) st A = rg v (exG TB d 379 282 (some v :: r9) (v :: st) A) := x_rg (op := o_aload 0 1) rfl rfl
theorem x_379_282  : exG TB d 379 282 L (.ref p :: st) A = kv (gf A p 178) d 379 285 L st A := x_bd (op := o_get 178) rfl rfl (fun _ => rfl)
theorem x_379_285  : exG TB d 379 285 (a0 :: a1 :: a2 :: a3 :: a4 :: a5 :: a6 :: a7 :: some (.int i1) :: r9) st A = exG TB d 379 287 (a0 :: a1 :: a2 :: a3 :: a4 :: a5 :: a6 :: a7 :: some (.int i1) :: r9) (.int i1 :: st) A := x_nx (op := o_iload 8 2) rfl rfl
theorem x_379_287  : exG TB d 379 287 L (.int i1 :: .ref p :: st) A = ki (rdI 0 (ga A p) i1) d 379 288 L st A := x_bd (op := o_rdI 0) rfl rfl (fun _ => rfl)
theorem x_379_288  : exG TB d 379 288 (a0 :: a1 :: some (.int i1) :: r9) st A = exG TB d 379 289 (a0 :: a1 :: some (.int i1) :: r9) (.int i1 :: st) A := x_nx (op := o_iload 2 1) rfl rfl
theorem x_379_289  : exG TB d 379 289 L (.int i2 :: .int i1 :: st) A = if ¬ i1 = i2 then exG TB d 379 319 L st A else exG TB d 379 292 L st A := x_if (op := o_icmp (fun x y => decide (¬ x = y)) 319) rfl rfl rfl
theorem x_379_292  : exG TB d 379 292 (some v :: r9) st A = rg v (exG TB d 379 293 (some v :: r9) (v :: st) A) := x_rg (op := o_aload 0 1) rfl rfl
theorem x_379_293  : exG TB d 379 293 (some v :: r9) st A = rg v (exG TB d 379 294 (some v :: r9) (v :: st) A) := x_rg (op := o_aload 0 1) rfl rfl
theorem x_379_294  : exG TB d 379 294 L (.ref p :: st) A = kv (gf A p 177) d 379 297 L st A := x_bd (op := o_get 177) rfl rfl (fun _ => rfl)
theorem x_379_297  : exG TB d 379 297 (a0 :: a1 :: a2 :: a3 :: a4 :: a5 :: a6 :: a7 :: some (.int i1) :: r9) st A = exG TB d 379 299 (a0 :: a1 :: a2 :: a3 :: a4 :: a5 :: a6 :: a7 :: some (.int i1) :: r9) (.int i1 :: st) A := x_nx (op := o_iload 8 2) rfl rfl
theorem x_379_299  : exG TB d 379 299 L (.int i1 :: .ref p :: st) A = ki (rdI 0 (ga A p) i1) d 379 300 L st A := x_bd (op := o_rdI 0) rfl rfl (fun _ => rfl)
theorem x_379_300  : exG TB d 379 300 L st A = exG TB d 379 301 L (.int (nI 5) :: st) A := x_nx (op := o_push 1 (.int 5)) rfl rfl
theorem x_379_301  : exG TB d 379 301 L st A = exG TB d 379 302 L (.int (nI 3) :: st) A := x_nx (op := o_push 1 (.int 3)) rfl rfl
theorem x_379_302  : exG TB d 379 302 L [b2, b1, b0, .ref p] A = kw0 (sel (gc A p) [(30, 353)]) [.ref p, b0, b1, b2] d 379 305 L [] A := x_c0b (op := o_cv [(30, 353)] 3 3 true none) rfl rfl x_noh rfl
theorem x_379_305  : exG TB d 379 305 (some v :: r9) st A = rg v (exG TB d 379 306 (some v :: r9) (v :: st) A) := x_rg (op := o_aload 0 1) rfl rfl
theorem x_379_306  : exG TB d 379 306 (some v :: r9) st A = rg v (exG TB d 379 307 (some v :: r9) (v :: st) A) := x_rg (op := o_aload 0 1) rfl rfl
theorem x_379_307  : exG TB d 379 307 L (.ref p :: st) A = kv (gf A p 177) d 379 310 L st A := x_bd (op := o_get 177) rfl rfl (fun _ => rfl)
theorem x_379_310  : exG TB d 379 310 (a0 :: a1 :: a2 :: a3 :: a4 :: a5 :: a6 :: a7 :: some (.int i1) :: r9) st A = exG TB d 379 312 (a0 :: a1 :: a2 :: a3 :: a4 :: a5 :: a6 :: a7 :: some (.int i1) :: r9) (.int i1 :: st) A := x_nx (op := o_iload 8 2) rfl rfl
theorem x_379_312  : exG TB d 379 312 L (.int i1 :: .ref p :: st) A = ki (rdI 0 (ga A p) i1) d 379 313 L st A := x_bd (op := o_rdI 0) rfl rfl (fun _ => rfl)
theorem x_379_313  : exG TB d 379 313 L st A = exG TB d 379 315 L (.int (nI 6) :: st) A := x_nx (op := o_push 2 (.int 6)) rfl rfl
theorem x_379_315  : exG TB d 379 315 (a0 :: a1 :: a2 :: some (.int i1) :: r9) st A = exG TB d 379 316 (a0 :: a1 :: a2 :: some (.int i1) :: r9) (.int i1 :: st) A := x_nx (op := o_iload 3 1) rfl rfl
theorem x_379_316  : exG TB d 379 316 L [b2, b1, b0, .ref p] A = kw0 (sel (gc A p) [(30, 353)]) [.ref p, b0, b1, b2] d 379 319 L [] A := x_c0b (op := o_cv [(30, 353)] 3 3 true none) rfl rfl x_noh rfl
theorem x_379_319  : exG TB d 379 319 (a0 :: a1 :: a2 :: a3 :: a4 :: a5 :: a6 :: a7 :: some (.int i1) :: r9) st A = exG TB d 379 322 (a0 :: a1 :: a2 :: a3 :: a4 :: a5 :: a6 :: a7 :: some (.int (i1 + (nI 1))) :: r9) st A := x_nx (op := o_iinc 8 1) rfl rfl
theorem x_379_322  : exG TB d 379 322 L st A = exG TB d 379 272 L st A := x_nx (op := o_goto 272) rfl rfl
theorem x_379_325  : exG TB d 379 325 (some v :: r9) st A = rg v (exG TB d 379 326 (some v :: r9) (v :: st) A) := x_rg (op := o_aload 0 1) rfl rfl
theorem x_379_326  : exG TB d 379 326 L (.ref p :: st) A = kv (gf A p 148) d 379 329 L st A := x_bd (op := o_get 148) rfl rfl (fun _ => rfl)
theorem x_379_329  : exG TB d 379 329 L st A = exG TB d 379 331 L (.int (nI 13) :: st) A := x_nx (op := o_push 2 (.int 13)) rfl rfl
theorem x_379_331  : exG TB d 379 331 L (v :: v2 :: st) A = ck (c1 v && c1 v2) (exG TB d 379 332 L (v :: v2 :: v :: v2 :: st) A) := x_gd (op := o_dup2) rfl rfl
theorem x_379_332  : exG TB d 379 332 L (.int i1 :: .ref p :: st) A = ki (rdI 0 (ga A p) i1) d 379 333 L st A := x_bd (op := o_rdI 0) rfl rfl (fun _ => rfl)
theorem x_379_333  : exG TB d 379 333 L st A = exG TB d 379 334 L (.int (nI 1) :: st) A := x_nx (op := o_push 1 (.int 1)) rfl rfl
theorem x_379_334  : exG TB d 379 334 L (.int i2 :: .int i1 :: st) A = exG TB d 379 335 L (.int (i1 + i2) :: st) A := x_nx (op := o_iop (fun x y => x + y)) rfl rfl
theorem x_379_335  : exG TB d 379 335 L (.int i2 :: .int i1 :: .ref p :: st) A = ka (wrI 0 (ga A p) i1 i2) p d 379 336 L st A := x_bd (op := o_wrI 0) rfl rfl (fun _ => rfl)
theorem x_379_336  : exG TB d 379 336 L [] A = some (.inl none, A) := x_out (op := o_vret) rfl rfl
theorem e_380 {j1 : Int32} : evG TB (d + 1) 380 [.ref p, .int j1] A = exG TB d 380 0 [some (.ref p), some (.int j1), none] [] A := evG_eq TB d 380 _ A
theorem x_380_0  : exG TB d 380 0 (some v :: r9) st A = rg v (exG TB d 380 1 (some v :: r9) (v :: st) A) := x_rg (op := o_aload 0 1) rfl rfl
theorem x_380_1  : exG TB d 380 1 (a0 :: some (.int i1) :: r9) st A = exG TB d 380 2 (a0 :: some (.int i1) :: r9) (.int i1 :: st) A := x_nx (op := o_iload 1 1) rfl rfl
theorem x_380_2  : exG TB d 380 2 L st A = exG TB d 380 3 L (.int (nI 1) :: st) A := x_nx (op := o_push 1 (.int 1)) rfl rfl
theorem x_380_3  : exG TB d 380 3 L [b1, b0, .ref p] A = kw (sel (gc A p) [(30, 339)]) [.ref p, b0, b1] d 380 6 L [] A := x_cvb (op := o_cv [(30, 339)] 2 3 false none) rfl rfl x_noh rfl
theorem x_380_6  : exG TB d 380 6 (a0 :: a1 :: a2 :: r9) (.int i1 :: st) A = exG TB d 380 7 (a0 :: a1 :: some (.int i1) :: r9) st A := x_nx (op := o_istore 2 1) rfl rfl
theorem x_380_7  : exG TB d 380 7 (a0 :: a1 :: some (.int i1) :: r9) st A = exG TB d 380 8 (a0 :: a1 :: some (.int i1) :: r9) (.int i1 :: st) A := x_nx (op := o_iload 2 1) rfl rfl
theorem x_380_8  : exG TB d 380 8 L st A = exG TB d 380 9 L (.int nN :: st) A := x_nx (op := o_push 1 (.int (-1))) rfl rfl
theorem x_380_9  : exG TB d 380 9 L (.int i2 :: .int i1 :: st) A = if ¬ i1 = i2 then exG TB d 380 16 L st A else exG TB d 380 12 L st A := x_if (op := o_icmp (fun x y => decide (¬ x = y)) 16) rfl rfl rfl
theorem x_380_12  : exG TB d 380 12 L st A = exG TB d 380 13 L (.int (nI 0) :: st) A := x_nx (op := o_push 1 (.int 0)) rfl rfl
theorem x_380_13  : exG TB d 380 13 L st A = exG TB d 380 22 L st A := x_nx (op := o_goto 22) rfl rfl
theorem x_380_16  : exG TB d 380 16 (some v :: r9) st A = rg v (exG TB d 380 17 (some v :: r9) (v :: st) A) := x_rg (op := o_aload 0 1) rfl rfl
theorem x_380_17  : exG TB d 380 17 (a0 :: a1 :: some (.int i1) :: r9) st A = exG TB d 380 18 (a0 :: a1 :: some (.int i1) :: r9) (.int i1 :: st) A := x_nx (op := o_iload 2 1) rfl rfl
theorem x_380_18  : exG TB d 380 18 L st A = exG TB d 380 19 L (.int (nI 3) :: st) A := x_nx (op := o_push 1 (.int 3)) rfl rfl
theorem x_380_19  : exG TB d 380 19 L [b1, b0, .ref p] A = kw (sel (gc A p) [(30, 335)]) [.ref p, b0, b1] d 380 22 L [] A := x_cvb (op := o_cv [(30, 335)] 2 3 false none) rfl rfl x_noh rfl
theorem x_380_22  : exG TB d 380 22 L [v] A = ck (okv 1 v) (some (.inl (some v), A)) := x_outg (op := o_ret 1) rfl rfl
theorem e_381 {j1 : Int32} {j2 : Int32} : evG TB (d + 1) 381 [.ref p, .int j1, .int j2] A = exG TB d 381 0 [some (.ref p), some (.int j1), some (.int j2), none] [] A := evG_eq TB d 381 _ A
theorem x_381_0  : exG TB d 381 0 (some v :: r9) st A = rg v (exG TB d 381 1 (some v :: r9) (v :: st) A) := x_rg (op := o_aload 0 1) rfl rfl
theorem x_381_1  : exG TB d 381 1 (a0 :: some (.int i1) :: r9) st A = exG TB d 381 2 (a0 :: some (.int i1) :: r9) (.int i1 :: st) A := x_nx (op := o_iload 1 1) rfl rfl
theorem x_381_2  : exG TB d 381 2 L st A = exG TB d 381 3 L (.int (nI 1) :: st) A := x_nx (op := o_push 1 (.int 1)) rfl rfl
theorem x_381_3  : exG TB d 381 3 L [b1, b0, .ref p] A = kw (sel (gc A p) [(30, 339)]) [.ref p, b0, b1] d 381 6 L [] A := x_cvb (op := o_cv [(30, 339)] 2 3 false none) rfl rfl x_noh rfl
theorem x_381_6  : exG TB d 381 6 (a0 :: a1 :: a2 :: a3 :: r9) (.int i1 :: st) A = exG TB d 381 7 (a0 :: a1 :: a2 :: some (.int i1) :: r9) st A := x_nx (op := o_istore 3 1) rfl rfl
theorem x_381_7  : exG TB d 381 7 (a0 :: a1 :: a2 :: some (.int i1) :: r9) st A = exG TB d 381 8 (a0 :: a1 :: a2 :: some (.int i1) :: r9) (.int i1 :: st) A := x_nx (op := o_iload 3 1) rfl rfl
theorem x_381_8  : exG TB d 381 8 L st A = exG TB d 381 9 L (.int nN :: st) A := x_nx (op := o_push 1 (.int (-1))) rfl rfl
theorem x_381_9  : exG TB d 381 9 L (.int i2 :: .int i1 :: st) A = if i1 = i2 then exG TB d 381 31 L st A else exG TB d 381 12 L st A := x_if (op := o_icmp (fun x y => decide (x = y)) 31) rfl rfl rfl
theorem x_381_12  : exG TB d 381 12 (a0 :: a1 :: some (.int i1) :: r9) st A = exG TB d 381 13 (a0 :: a1 :: some (.int i1) :: r9) (.int i1 :: st) A := x_nx (op := o_iload 2 1) rfl rfl
theorem x_381_13  : exG TB d 381 13 (some v :: r9) st A = rg v (exG TB d 381 14 (some v :: r9) (v :: st) A) := x_rg (op := o_aload 0 1) rfl rfl
theorem x_381_14  : exG TB d 381 14 (a0 :: a1 :: a2 :: some (.int i1) :: r9) st A = exG TB d 381 15 (a0 :: a1 :: a2 :: some (.int i1) :: r9) (.int i1 :: st) A := x_nx (op := o_iload 3 1) rfl rfl
theorem x_381_15  : exG TB d 381 15 L st A = exG TB d 381 16 L (.int (nI 2) :: st) A := x_nx (op := o_push 1 (.int 2)) rfl rfl
theorem x_381_16  : exG TB d 381 16 L [b1, b0, .ref p, w0] A = kw (sel (gc A p) [(30, 335)]) [.ref p, b0, b1] d 381 19 L [w0] A := x_cvb (op := o_cv [(30, 335)] 2 3 false none) rfl rfl x_noh rfl
theorem x_381_19  : exG TB d 381 19 L (.int i2 :: .int i1 :: st) A = if i1 < i2 then exG TB d 381 31 L st A else exG TB d 381 22 L st A := x_if (op := o_icmp (fun x y => decide (x < y)) 31) rfl rfl rfl
theorem x_381_22  : exG TB d 381 22 (some v :: r9) st A = rg v (exG TB d 381 23 (some v :: r9) (v :: st) A) := x_rg (op := o_aload 0 1) rfl rfl
theorem x_381_23  : exG TB d 381 23 (a0 :: a1 :: a2 :: some (.int i1) :: r9) st A = exG TB d 381 24 (a0 :: a1 :: a2 :: some (.int i1) :: r9) (.int i1 :: st) A := x_nx (op := o_iload 3 1) rfl rfl
theorem x_381_24  : exG TB d 381 24 L st A = exG TB d 381 25 L (.int (nI 1) :: st) A := x_nx (op := o_push 1 (.int 1)) rfl rfl
theorem x_381_25  : exG TB d 381 25 L [b1, b0, .ref p] A = kw (sel (gc A p) [(30, 335)]) [.ref p, b0, b1] d 381 28 L [] A := x_cvb (op := o_cv [(30, 335)] 2 3 false none) rfl rfl x_noh rfl
theorem x_381_28  : exG TB d 381 28 L st A = exG TB d 381 32 L st A := x_nx (op := o_goto 32) rfl rfl
theorem x_381_31  : exG TB d 381 31 L st A = exG TB d 381 32 L (.int (nI 0) :: st) A := x_nx (op := o_push 1 (.int 0)) rfl rfl
theorem x_381_32  : exG TB d 381 32 L [v] A = ck (okv 1 v) (some (.inl (some v), A)) := x_outg (op := o_ret 1) rfl rfl
theorem e_382 {j1 : Int32} {j2 : Int32} {j3 : Int32} : evG TB (d + 1) 382 [.ref p, .int j1, .int j2, .int j3] A = exG TB d 382 0 [some (.ref p), some (.int j1), some (.int j2), some (.int j3), none, none] [] A := evG_eq TB d 382 _ A
theorem x_382_0  : exG TB d 382 0 (some v :: r9) st A = rg v (exG TB d 382 1 (some v :: r9) (v :: st) A) := x_rg (op := o_aload 0 1) rfl rfl
theorem x_382_1  : exG TB d 382 1 L (.ref p :: st) A = kv (gf A p 181) d 382 4 L st A := x_bd (op := o_get 181) rfl rfl (fun _ => rfl)
theorem x_382_4  : exG TB d 382 4 (a0 :: a1 :: some (.int i1) :: r9) st A = exG TB d 382 5 (a0 :: a1 :: some (.int i1) :: r9) (.int i1 :: st) A := x_nx (op := o_iload 2 1) rfl rfl
theorem x_382_5  : exG TB d 382 5 L (.int i1 :: .ref p :: st) A = ki (rdI 0 (ga A p) i1) d 382 6 L st A := x_bd (op := o_rdI 0) rfl rfl (fun _ => rfl)
theorem x_382_6  : exG TB d 382 6 (some v :: r9) st A = rg v (exG TB d 382 7 (some v :: r9) (v :: st) A) := x_rg (op := o_aload 0 1) rfl rfl
theorem x_382_7  : exG TB d 382 7 (a0 :: some (.int i1) :: r9) st A = exG TB d 382 8 (a0 :: some (.int i1) :: r9) (.int i1 :: st) A := x_nx (op := o_iload 1 1) rfl rfl
theorem x_382_8  : exG TB d 382 8 L st A = exG TB d 382 9 L (.int (nI 0) :: st) A := x_nx (op := o_push 1 (.int 0)) rfl rfl
theorem x_382_9  : exG TB d 382 9 L [b1, b0, .ref p, w0] A = kw (sel (gc A p) [(30, 339)]) [.ref p, b0, b1] d 382 12 L [w0] A := x_cvb (op := o_cv [(30, 339)] 2 3 false none) rfl rfl x_noh rfl
theorem x_382_12  : exG TB d 382 12 L (.int i2 :: .int i1 :: st) A = exG TB d 382 13 L (.int (i1 * i2) :: st) A := x_nx (op := o_iop (fun x y => x * y)) rfl rfl
theorem x_382_13  : exG TB d 382 13 (a0 :: a1 :: a2 :: a3 :: a4 :: r9) (.int i1 :: st) A = exG TB d 382 15 (a0 :: a1 :: a2 :: a3 :: some (.int i1) :: r9) st A := x_nx (op := o_istore 4 2) rfl rfl
theorem x_382_15  : exG TB d 382 15 (some v :: r9) st A = rg v (exG TB d 382 16 (some v :: r9) (v :: st) A) := x_rg (op := o_aload 0 1) rfl rfl
theorem x_382_16  : exG TB d 382 16 (a0 :: some (.int i1) :: r9) st A = exG TB d 382 17 (a0 :: some (.int i1) :: r9) (.int i1 :: st) A := x_nx (op := o_iload 1 1) rfl rfl
theorem x_382_17  : exG TB d 382 17 L st A = exG TB d 382 18 L (.int (nI 1) :: st) A := x_nx (op := o_push 1 (.int 1)) rfl rfl
theorem x_382_18  : exG TB d 382 18 L [b1, b0, .ref p] A = kw (sel (gc A p) [(30, 339)]) [.ref p, b0, b1] d 382 21 L [] A := x_cvb (op := o_cv [(30, 339)] 2 3 false none) rfl rfl x_noh rfl
theorem x_382_21  : exG TB d 382 21 L st A = exG TB d 382 22 L (.int nN :: st) A := x_nx (op := o_push 1 (.int (-1))) rfl rfl
theorem x_382_22  : exG TB d 382 22 L (.int i2 :: .int i1 :: st) A = if ¬ i1 = i2 then exG TB d 382 34 L st A else exG TB d 382 25 L st A := x_if (op := o_icmp (fun x y => decide (¬ x = y)) 34) rfl rfl rfl
theorem x_382_25  : exG TB d 382 25 (some v :: r9) st A = rg v (exG TB d 382 26 (some v :: r9) (v :: st) A) := x_rg (op := o_aload 0 1) rfl rfl
theorem x_382_26  : exG TB d 382 26 L st A = exG TB d 382 28 L (.int (nI 7) :: st) A := x_nx (op := o_push 2 (.int 7)) rfl rfl
theorem x_382_28  : exG TB d 382 28 L [b0, .ref p] A = kw (sel (gc A p) [(30, 328)]) [.ref p, b0] d 382 31 L [] A := x_cvb (op := o_cv [(30, 328)] 1 3 false none) rfl rfl x_noh rfl
theorem x_382_31  : exG TB d 382 31 L st A = exG TB d 382 35 L st A := x_nx (op := o_goto 35) rfl rfl
theorem x_382_34  : exG TB d 382 34 L st A = exG TB d 382 35 L (.int (nI 0) :: st) A := x_nx (op := o_push 1 (.int 0)) rfl rfl
theorem x_382_35  : exG TB d 382 35 (a0 :: a1 :: a2 :: a3 :: a4 :: a5 :: r9) (.int i1 :: st) A = exG TB d 382 37 (a0 :: a1 :: a2 :: a3 :: a4 :: some (.int i1) :: r9) st A := x_nx (op := o_istore 5 2) rfl rfl
theorem x_382_37  : exG TB d 382 37 (a0 :: a1 :: a2 :: a3 :: some (.int i1) :: r9) st A = exG TB d 382 39 (a0 :: a1 :: a2 :: a3 :: some (.int i1) :: r9) (.int i1 :: st) A := x_nx (op := o_iload 4 2) rfl rfl
theorem x_382_39  : exG TB d 382 39 (a0 :: a1 :: a2 :: a3 :: some (.int i1) :: r9) st A = exG TB d 382 41 (a0 :: a1 :: a2 :: a3 :: some (.int i1) :: r9) (.int i1 :: st) A := x_nx (op := o_iload 4 2) rfl rfl
theorem x_382_41  : exG TB d 382 41 (a0 :: a1 :: a2 :: some (.int i1) :: r9) st A = exG TB d 382 42 (a0 :: a1 :: a2 :: some (.int i1) :: r9) (.int i1 :: st) A := x_nx (op := o_iload 3 1) rfl rfl
theorem x_382_42  : exG TB d 382 42 L (.int i2 :: .int i1 :: st) A = exG TB d 382 43 L (.int (i1 * i2) :: st) A := x_nx (op := o_iop (fun x y => x * y)) rfl rfl
theorem x_382_43  : exG TB d 382 43 L st A = exG TB d 382 45 L (.int (nI 100) :: st) A := x_nx (op := o_push 2 (.int 100)) rfl rfl
theorem x_382_45  : exG TB d 382 45 L (.int i2 :: .int i1 :: st) A = ck (decide (¬ i2 = nI 0)) (exG TB d 382 46 L (.int (i1 / i2) :: st) A) := x_gd (op := o_iopz (fun x y => x / y)) rfl rfl
theorem x_382_46  : exG TB d 382 46 L (.int i2 :: .int i1 :: st) A = exG TB d 382 47 L (.int (i1 - i2) :: st) A := x_nx (op := o_iop (fun x y => x - y)) rfl rfl
theorem x_382_47  : exG TB d 382 47 (some v :: r9) st A = rg v (exG TB d 382 48 (some v :: r9) (v :: st) A) := x_rg (op := o_aload 0 1) rfl rfl
theorem x_382_48  : exG TB d 382 48 L st A = exG TB d 382 50 L (.int (nI 6) :: st) A := x_nx (op := o_push 2 (.int 6)) rfl rfl
theorem x_382_50  : exG TB d 382 50 L [b0, .ref p, w0] A = kw (sel (gc A p) [(30, 328)]) [.ref p, b0] d 382 53 L [w0] A := x_cvb (op := o_cv [(30, 328)] 1 3 false none) rfl rfl x_noh rfl
theorem x_382_53  : exG TB d 382 53 (some v :: r9) st A = rg v (exG TB d 382 54 (some v :: r9) (v :: st) A) := x_rg (op := o_aload 0 1) rfl rfl
theorem x_382_54  : exG TB d 382 54 (a0 :: a1 :: some (.int i1) :: r9) st A = exG TB d 382 55 (a0 :: a1 :: some (.int i1) :: r9) (.int i1 :: st) A := x_nx (op := o_iload 2 1) rfl rfl
theorem x_382_55  : exG TB d 382 55 L st A = exG TB d 382 56 L (.int (nI 1) :: st) A := x_nx (op := o_push 1 (.int 1)) rfl rfl
theorem x_382_56  : exG TB d 382 56 L [b1, b0, .ref p, w0, w1] A = kw (sel (gc A p) [(30, 372)]) [.ref p, b0, b1] d 382 59 L [w0, w1] A := x_cvb (op := o_cv [(30, 372)] 2 3 false none) rfl rfl x_noh rfl
theorem x_382_59  : exG TB d 382 59 L (.int i2 :: .int i1 :: st) A = exG TB d 382 60 L (.int (i1 * i2) :: st) A := x_nx (op := o_iop (fun x y => x * y)) rfl rfl
theorem x_382_60  : exG TB d 382 60 L (.int i2 :: .int i1 :: st) A = exG TB d 382 61 L (.int (i1 + i2) :: st) A := x_nx (op := o_iop (fun x y => x + y)) rfl rfl
theorem x_382_61  : exG TB d 382 61 (a0 :: a1 :: a2 :: a3 :: a4 :: some (.int i1) :: r9) st A = exG TB d 382 63 (a0 :: a1 :: a2 :: a3 :: a4 :: some (.int i1) :: r9) (.int i1 :: st) A := x_nx (op := o_iload 5 2) rfl rfl
theorem x_382_63  : exG TB d 382 63 L (.int i2 :: .int i1 :: st) A = exG TB d 382 64 L (.int (i1 + i2) :: st) A := x_nx (op := o_iop (fun x y => x + y)) rfl rfl
theorem x_382_64  : exG TB d 382 64 L [v] A = ck (okv 1 v) (some (.inl (some v), A)) := x_outg (op := o_ret 1) rfl rfl
theorem e_383 {j1 : Int32} {j2 : Int32} {j3 : Int32} : evG TB (d + 1) 383 [.ref p, .int j1, .int j2, .int j3] A = exG TB d 383 0 [some (.ref p), some (.int j1), some (.int j2), some (.int j3)] [] A := evG_eq TB d 383 _ A
theorem x_383_0  : exG TB d 383 0 (some v :: r9) st A = rg v (exG TB d 383 1 (some v :: r9) (v :: st) A) := x_rg (op := o_aload 0 1) rfl rfl
theorem x_383_1  : exG TB d 383 1 L (.ref p :: st) A = kv (gf A p 148) d 383 4 L st A := x_bd (op := o_get 148) rfl rfl (fun _ => rfl)
theorem x_383_4  : exG TB d 383 4 L st A = exG TB d 383 7 L (.int (nI 1120) :: st) A := x_nx (op := o_push 3 (.int 1120)) rfl rfl
theorem x_383_7  : exG TB d 383 7 L st A = exG TB d 383 9 L (.int (nI 18) :: st) A := x_nx (op := o_push 2 (.int 18)) rfl rfl
theorem x_383_9  : exG TB d 383 9 (a0 :: some (.int i1) :: r9) st A = exG TB d 383 10 (a0 :: some (.int i1) :: r9) (.int i1 :: st) A := x_nx (op := o_iload 1 1) rfl rfl
theorem x_383_10  : exG TB d 383 10 L (.int i2 :: .int i1 :: st) A = exG TB d 383 11 L (.int (i1 * i2) :: st) A := x_nx (op := o_iop (fun x y => x * y)) rfl rfl
theorem x_383_11  : exG TB d 383 11 L (.int i2 :: .int i1 :: st) A = exG TB d 383 12 L (.int (i1 + i2) :: st) A := x_nx (op := o_iop (fun x y => x + y)) rfl rfl
theorem x_383_12  : exG TB d 383 12 (a0 :: a1 :: some (.int i1) :: r9) st A = exG TB d 383 13 (a0 :: a1 :: some (.int i1) :: r9) (.int i1 :: st) A := x_nx (op := o_iload 2 1) rfl rfl
theorem x_383_13  : exG TB d 383 13 L (.int i2 :: .int i1 :: st) A = exG TB d 383 14 L (.int (i1 + i2) :: st) A := x_nx (op := o_iop (fun x y => x + y)) rfl rfl
theorem x_383_14  : exG TB d 383 14 (a0 :: a1 :: a2 :: some (.int i1) :: r9) st A = exG TB d 383 15 (a0 :: a1 :: a2 :: some (.int i1) :: r9) (.int i1 :: st) A := x_nx (op := o_iload 3 1) rfl rfl
theorem x_383_15  : exG TB d 383 15 L (.int i2 :: .int i1 :: .ref p :: st) A = ka (wrI 0 (ga A p) i1 i2) p d 383 16 L st A := x_bd (op := o_wrI 0) rfl rfl (fun _ => rfl)
theorem x_383_16  : exG TB d 383 16 L [] A = some (.inl none, A) := x_out (op := o_vret) rfl rfl
theorem e_384 {j1 : Int32} {j2 : Int32} : evG TB (d + 1) 384 [.ref p, .int j1, .int j2] A = exG TB d 384 0 [some (.ref p), some (.int j1), some (.int j2), none] [] A := evG_eq TB d 384 _ A
theorem x_384_0  : exG TB d 384 0 (some v :: r9) st A = rg v (exG TB d 384 1 (some v :: r9) (v :: st) A) := x_rg (op := o_aload 0 1) rfl rfl
theorem x_384_1  : exG TB d 384 1 (a0 :: some (.int i1) :: r9) st A = exG TB d 384 2 (a0 :: some (.int i1) :: r9) (.int i1 :: st) A := x_nx (op := o_iload 1 1) rfl rfl
theorem x_384_2  : exG TB d 384 2 L st A = exG TB d 384 4 L (.int (nI 15) :: st) A := x_nx (op := o_push 2 (.int 15)) rfl rfl
theorem x_384_4  : exG TB d 384 4 (some v :: r9) st A = rg v (exG TB d 384 5 (some v :: r9) (v :: st) A) := x_rg (op := o_aload 0 1) rfl rfl
theorem x_384_5  : exG TB d 384 5 L (.ref p :: st) A = kv (gf A p 148) d 384 8 L st A := x_bd (op := o_get 148) rfl rfl (fun _ => rfl)
theorem x_384_8  : exG TB d 384 8 L st A = exG TB d 384 10 L (.int (nI 14) :: st) A := x_nx (op := o_push 2 (.int 14)) rfl rfl
theorem x_384_10  : exG TB d 384 10 L (.int i1 :: .ref p :: st) A = ki (rdI 0 (ga A p) i1) d 384 11 L st A := x_bd (op := o_rdI 0) rfl rfl (fun _ => rfl)
theorem x_384_11  : exG TB d 384 11 L [b2, b1, b0, .ref p] A = kw0 (sel (gc A p) [(30, 383)]) [.ref p, b0, b1, b2] d 384 14 L [] A := x_c0b (op := o_cv [(30, 383)] 3 3 true none) rfl rfl x_noh rfl
theorem x_384_14  : exG TB d 384 14 (some v :: r9) st A = rg v (exG TB d 384 15 (some v :: r9) (v :: st) A) := x_rg (op := o_aload 0 1) rfl rfl
theorem x_384_15  : exG TB d 384 15 L (.ref p :: st) A = kv (gf A p 179) d 384 18 L st A := x_bd (op := o_get 179) rfl rfl (fun _ => rfl)
theorem x_384_18  : exG TB d 384 18 (a0 :: a1 :: some (.int i1) :: r9) st A = exG TB d 384 19 (a0 :: a1 :: some (.int i1) :: r9) (.int i1 :: st) A := x_nx (op := o_iload 2 1) rfl rfl
theorem x_384_19  : exG TB d 384 19 L (.int i1 :: .ref p :: st) A = ki (rdI 0 (ga A p) i1) d 384 20 L st A := x_bd (op := o_rdI 0) rfl rfl (fun _ => rfl)
theorem x_384_20  : exG TB d 384 20 (a0 :: a1 :: a2 :: a3 :: r9) (.int i1 :: st) A = exG TB d 384 21 (a0 :: a1 :: a2 :: some (.int i1) :: r9) st A := x_nx (op := o_istore 3 1) rfl rfl
theorem x_384_21  : exG TB d 384 21 (a0 :: a1 :: a2 :: some (.int i1) :: r9) st A = exG TB d 384 22 (a0 :: a1 :: a2 :: some (.int i1) :: r9) (.int i1 :: st) A := x_nx (op := o_iload 3 1) rfl rfl
theorem x_384_22  : exG TB d 384 22 (some v :: r9) st A = rg v (exG TB d 384 23 (some v :: r9) (v :: st) A) := x_rg (op := o_aload 0 1) rfl rfl
theorem x_384_23  : exG TB d 384 23 L (.ref p :: st) A = kv (gf A p 179) d 384 26 L st A := x_bd (op := o_get 179) rfl rfl (fun _ => rfl)
theorem x_384_26  : exG TB d 384 26 (a0 :: a1 :: some (.int i1) :: r9) st A = exG TB d 384 27 (a0 :: a1 :: some (.int i1) :: r9) (.int i1 :: st) A := x_nx (op := o_iload 2 1) rfl rfl
theorem x_384_27  : exG TB d 384 27 L st A = exG TB d 384 28 L (.int (nI 1) :: st) A := x_nx (op := o_push 1 (.int 1)) rfl rfl
theorem x_384_28  : exG TB d 384 28 L (.int i2 :: .int i1 :: st) A = exG TB d 384 29 L (.int (i1 + i2) :: st) A := x_nx (op := o_iop (fun x y => x + y)) rfl rfl
theorem x_384_29  : exG TB d 384 29 L (.int i1 :: .ref p :: st) A = ki (rdI 0 (ga A p) i1) d 384 30 L st A := x_bd (op := o_rdI 0) rfl rfl (fun _ => rfl)
theorem x_384_30  : exG TB d 384 30 L (.int i2 :: .int i1 :: st) A = if i2 ≤ i1 then exG TB d 384 88 L st A else exG TB d 384 33 L st A := x_if (op := o_icmp (fun x y => decide (y ≤ x)) 88) rfl rfl rfl
theorem x_384_33  : exG TB d 384 33 (some v :: r9) st A = rg v (exG TB d 384 34 (some v :: r9) (v :: st) A) := x_rg (op := o_aload 0 1) rfl rfl
theorem x_384_34  : exG TB d 384 34 L (.ref p :: st) A = kv (gf A p 148) d 384 37 L st A := x_bd (op := o_get 148) rfl rfl (fun _ => rfl)
theorem x_384_37  : exG TB d 384 37 L st A = exG TB d 384 40 L (.int (nI 2200) :: st) A := x_nx (op := o_push 3 (.int 2200)) rfl rfl
theorem x_384_40  : exG TB d 384 40 (some v :: r9) st A = rg v (exG TB d 384 41 (some v :: r9) (v :: st) A) := x_rg (op := o_aload 0 1) rfl rfl
theorem x_384_41  : exG TB d 384 41 L (.ref p :: st) A = kv (gf A p 148) d 384 44 L st A := x_bd (op := o_get 148) rfl rfl (fun _ => rfl)
theorem x_384_44  : exG TB d 384 44 L st A = exG TB d 384 46 L (.int (nI 14) :: st) A := x_nx (op := o_push 2 (.int 14)) rfl rfl
theorem x_384_46  : exG TB d 384 46 L (.int i1 :: .ref p :: st) A = ki (rdI 0 (ga A p) i1) d 384 47 L st A := x_bd (op := o_rdI 0) rfl rfl (fun _ => rfl)
theorem x_384_47  : exG TB d 384 47 L (.int i2 :: .int i1 :: st) A = exG TB d 384 48 L (.int (i1 + i2) :: st) A := x_nx (op := o_iop (fun x y => x + y)) rfl rfl
theorem x_384_48  : exG TB d 384 48 (some v :: r9) st A = rg v (exG TB d 384 49 (some v :: r9) (v :: st) A) := x_rg (op := o_aload 0 1) rfl rfl
theorem x_384_49  : exG TB d 384 49 L (.ref p :: st) A = kv (gf A p 182) d 384 52 L st A := x_bd (op := o_get 182) rfl rfl (fun _ => rfl)
theorem x_384_52  : exG TB d 384 52 (a0 :: a1 :: a2 :: some (.int i1) :: r9) st A = exG TB d 384 53 (a0 :: a1 :: a2 :: some (.int i1) :: r9) (.int i1 :: st) A := x_nx (op := o_iload 3 1) rfl rfl
theorem x_384_53  : exG TB d 384 53 L (.int i1 :: .ref p :: st) A = ki (rdI 0 (ga A p) i1) d 384 54 L st A := x_bd (op := o_rdI 0) rfl rfl (fun _ => rfl)
theorem x_384_54  : exG TB d 384 54 (some v :: r9) st A = rg v (exG TB d 384 55 (some v :: r9) (v :: st) A) := x_rg (op := o_aload 0 1) rfl rfl
theorem x_384_55  : exG TB d 384 55 L (.ref p :: st) A = kv (gf A p 183) d 384 58 L st A := x_bd (op := o_get 183) rfl rfl (fun _ => rfl)
theorem x_384_58  : exG TB d 384 58 (a0 :: a1 :: a2 :: some (.int i1) :: r9) st A = exG TB d 384 59 (a0 :: a1 :: a2 :: some (.int i1) :: r9) (.int i1 :: st) A := x_nx (op := o_iload 3 1) rfl rfl
theorem x_384_59  : exG TB d 384 59 L (.int i1 :: .ref p :: st) A = ki (rdI 2 (ga A p) i1) d 384 60 L st A := x_bd (op := o_rdI 2) rfl rfl (fun _ => rfl)
theorem x_384_60  : exG TB d 384 60 L (.int i1 :: st) A = if i1 = nI 0 then exG TB d 384 68 L st A else exG TB d 384 63 L st A := x_if (op := o_if (fun x => decide (x = 0)) 68) rfl rfl rfl
theorem x_384_63  : exG TB d 384 63 L st A = exG TB d 384 65 L (.int (nI 16) :: st) A := x_nx (op := o_push 2 (.int 16)) rfl rfl
theorem x_384_65  : exG TB d 384 65 L st A = exG TB d 384 69 L st A := x_nx (op := o_goto 69) rfl rfl
theorem x_384_68  : exG TB d 384 68 L st A = exG TB d 384 69 L (.int (nI 0) :: st) A := x_nx (op := o_push 1 (.int 0)) rfl rfl
theorem x_384_69  : exG TB d 384 69 L (.int i2 :: .int i1 :: st) A = exG TB d 384 70 L (.int (i1 + i2) :: st) A := x_nx (op := o_iop (fun x y => x + y)) rfl rfl
theorem x_384_70  : exG TB d 384 70 L (.int i2 :: .int i1 :: .ref p :: st) A = ka (wrI 0 (ga A p) i1 i2) p d 384 71 L st A := x_bd (op := o_wrI 0) rfl rfl (fun _ => rfl)
theorem x_384_71  : exG TB d 384 71 (some v :: r9) st A = rg v (exG TB d 384 72 (some v :: r9) (v :: st) A) := x_rg (op := o_aload 0 1) rfl rfl
theorem x_384_72  : exG TB d 384 72 L (.ref p :: st) A = kv (gf A p 148) d 384 75 L st A := x_bd (op := o_get 148) rfl rfl (fun _ => rfl)
theorem x_384_75  : exG TB d 384 75 L st A = exG TB d 384 77 L (.int (nI 14) :: st) A := x_nx (op := o_push 2 (.int 14)) rfl rfl
theorem x_384_77  : exG TB d 384 77 L (v :: v2 :: st) A = ck (c1 v && c1 v2) (exG TB d 384 78 L (v :: v2 :: v :: v2 :: st) A) := x_gd (op := o_dup2) rfl rfl
theorem x_384_78  : exG TB d 384 78 L (.int i1 :: .ref p :: st) A = ki (rdI 0 (ga A p) i1) d 384 79 L st A := x_bd (op := o_rdI 0) rfl rfl (fun _ => rfl)
theorem x_384_79  : exG TB d 384 79 L st A = exG TB d 384 80 L (.int (nI 1) :: st) A := x_nx (op := o_push 1 (.int 1)) rfl rfl
theorem x_384_80  : exG TB d 384 80 L (.int i2 :: .int i1 :: st) A = exG TB d 384 81 L (.int (i1 + i2) :: st) A := x_nx (op := o_iop (fun x y => x + y)) rfl rfl
theorem x_384_81  : exG TB d 384 81 L (.int i2 :: .int i1 :: .ref p :: st) A = ka (wrI 0 (ga A p) i1 i2) p d 384 82 L st A := x_bd (op := o_wrI 0) rfl rfl (fun _ => rfl)
theorem x_384_82  : exG TB d 384 82 (a0 :: a1 :: a2 :: some (.int i1) :: r9) st A = exG TB d 384 85 (a0 :: a1 :: a2 :: some (.int (i1 + (nI 1))) :: r9) st A := x_nx (op := o_iinc 3 1) rfl rfl
theorem x_384_85  : exG TB d 384 85 L st A = exG TB d 384 21 L st A := x_nx (op := o_goto 21) rfl rfl
theorem x_384_88  : exG TB d 384 88 L [] A = some (.inl none, A) := x_out (op := o_vret) rfl rfl
theorem e_385 {j1 : Int32} {j2 : Int32} {j3 : Int32} : evG TB (d + 1) 385 [.ref p, .int j1, .int j2, .int j3] A = exG TB d 385 0 [some (.ref p), some (.int j1), some (.int j2), some (.int j3)] [] A := evG_eq TB d 385 _ A
theorem x_385_0  : exG TB d 385 0 (a0 :: a1 :: some (.int i1) :: r9) st A = exG TB d 385 1 (a0 :: a1 :: some (.int i1) :: r9) (.int i1 :: st) A := x_nx (op := o_iload 2 1) rfl rfl
theorem x_385_1  : exG TB d 385 1 L st A = exG TB d 385 2 L (.int nN :: st) A := x_nx (op := o_push 1 (.int (-1))) rfl rfl
theorem x_385_2  : exG TB d 385 2 L (.int i2 :: .int i1 :: st) A = if ¬ i1 = i2 then exG TB d 385 24 L st A else exG TB d 385 5 L st A := x_if (op := o_icmp (fun x y => decide (¬ x = y)) 24) rfl rfl rfl
theorem x_385_5  : exG TB d 385 5 (some v :: r9) st A = rg v (exG TB d 385 6 (some v :: r9) (v :: st) A) := x_rg (op := o_aload 0 1) rfl rfl
theorem x_385_6  : exG TB d 385 6 L (.ref p :: st) A = kv (gf A p 148) d 385 9 L st A := x_bd (op := o_get 148) rfl rfl (fun _ => rfl)
theorem x_385_9  : exG TB d 385 9 L st A = exG TB d 385 12 L (.int (nI 235) :: st) A := x_nx (op := o_push 3 (.int 235)) rfl rfl
theorem x_385_12  : exG TB d 385 12 L st A = exG TB d 385 13 L (.int (nI 3) :: st) A := x_nx (op := o_push 1 (.int 3)) rfl rfl
theorem x_385_13  : exG TB d 385 13 (a0 :: some (.int i1) :: r9) st A = exG TB d 385 14 (a0 :: some (.int i1) :: r9) (.int i1 :: st) A := x_nx (op := o_iload 1 1) rfl rfl
theorem x_385_14  : exG TB d 385 14 L (.int i2 :: .int i1 :: st) A = exG TB d 385 15 L (.int (i1 * i2) :: st) A := x_nx (op := o_iop (fun x y => x * y)) rfl rfl
theorem x_385_15  : exG TB d 385 15 L (.int i2 :: .int i1 :: st) A = exG TB d 385 16 L (.int (i1 + i2) :: st) A := x_nx (op := o_iop (fun x y => x + y)) rfl rfl
theorem x_385_16  : exG TB d 385 16 L st A = exG TB d 385 17 L (.int (nI 2) :: st) A := x_nx (op := o_push 1 (.int 2)) rfl rfl
theorem x_385_17  : exG TB d 385 17 L (.int i2 :: .int i1 :: st) A = exG TB d 385 18 L (.int (i1 + i2) :: st) A := x_nx (op := o_iop (fun x y => x + y)) rfl rfl
theorem x_385_18  : exG TB d 385 18 L (v :: v2 :: st) A = ck (c1 v && c1 v2) (exG TB d 385 19 L (v :: v2 :: v :: v2 :: st) A) := x_gd (op := o_dup2) rfl rfl
theorem x_385_19  : exG TB d 385 19 L (.int i1 :: .ref p :: st) A = ki (rdI 0 (ga A p) i1) d 385 20 L st A := x_bd (op := o_rdI 0) rfl rfl (fun _ => rfl)
theorem x_385_20  : exG TB d 385 20 (a0 :: a1 :: a2 :: some (.int i1) :: r9) st A = exG TB d 385 21 (a0 :: a1 :: a2 :: some (.int i1) :: r9) (.int i1 :: st) A := x_nx (op := o_iload 3 1) rfl rfl
theorem x_385_21  : exG TB d 385 21 L (.int i2 :: .int i1 :: st) A = exG TB d 385 22 L (.int (i1 + i2) :: st) A := x_nx (op := o_iop (fun x y => x + y)) rfl rfl
theorem x_385_22  : exG TB d 385 22 L (.int i2 :: .int i1 :: .ref p :: st) A = ka (wrI 0 (ga A p) i1 i2) p d 385 23 L st A := x_bd (op := o_wrI 0) rfl rfl (fun _ => rfl)
theorem x_385_23  : exG TB d 385 23 L [] A = some (.inl none, A) := x_out (op := o_vret) rfl rfl
theorem x_385_24  : exG TB d 385 24 (some v :: r9) st A = rg v (exG TB d 385 25 (some v :: r9) (v :: st) A) := x_rg (op := o_aload 0 1) rfl rfl
theorem x_385_25  : exG TB d 385 25 (a0 :: a1 :: some (.int i1) :: r9) st A = exG TB d 385 26 (a0 :: a1 :: some (.int i1) :: r9) (.int i1 :: st) A := x_nx (op := o_iload 2 1) rfl rfl
theorem x_385_26  : exG TB d 385 26 L st A = exG TB d 385 27 L (.int (nI 0) :: st) A := x_nx (op := o_push 1 (.int 0)) rfl rfl
theorem x_385_27  : exG TB d 385 27 (a0 :: a1 :: a2 :: some (.int i1) :: r9) st A = exG TB d 385 28 (a0 :: a1 :: a2 :: some (.int i1) :: r9) (.int i1 :: st) A := x_nx (op := o_iload 3 1) rfl rfl
theorem x_385_28  : exG TB d 385 28 L (.int i1 :: st) A = exG TB d 385 29 L (.int (-i1) :: st) A := x_nx (op := o_ii (fun x => -x)) rfl rfl
theorem x_385_29  : exG TB d 385 29 L [b2, b1, b0, .ref p] A = kw0 (sel (gc A p) [(30, 314)]) [.ref p, b0, b1, b2] d 385 32 L [] A := x_c0b (op := o_cv [(30, 314)] 3 3 true none) rfl rfl x_noh rfl
theorem x_385_32  : exG TB d 385 32 (some v :: r9) st A = rg v (exG TB d 385 33 (some v :: r9) (v :: st) A) := x_rg (op := o_aload 0 1) rfl rfl
theorem x_385_33  : exG TB d 385 33 (a0 :: a1 :: some (.int i1) :: r9) st A = exG TB d 385 34 (a0 :: a1 :: some (.int i1) :: r9) (.int i1 :: st) A := x_nx (op := o_iload 2 1) rfl rfl
theorem x_385_34  : exG TB d 385 34 L st A = exG TB d 385 35 L (.int (nI 3) :: st) A := x_nx (op := o_push 1 (.int 3)) rfl rfl
theorem x_385_35  : exG TB d 385 35 L st A = exG TB d 385 36 L (.int (nI 1) :: st) A := x_nx (op := o_push 1 (.int 1)) rfl rfl
theorem x_385_36  : exG TB d 385 36 L [b2, b1, b0, .ref p] A = kw0 (sel (gc A p) [(30, 314)]) [.ref p, b0, b1, b2] d 385 39 L [] A := x_c0b (op := o_cv [(30, 314)] 3 3 true none) rfl rfl x_noh rfl
theorem x_385_39  : exG TB d 385 39 (some v :: r9) st A = rg v (exG TB d 385 40 (some v :: r9) (v :: st) A) := x_rg (op := o_aload 0 1) rfl rfl
theorem x_385_40  : exG TB d 385 40 (a0 :: a1 :: some (.int i1) :: r9) st A = exG TB d 385 41 (a0 :: a1 :: some (.int i1) :: r9) (.int i1 :: st) A := x_nx (op := o_iload 2 1) rfl rfl
theorem x_385_41  : exG TB d 385 41 L st A = exG TB d 385 42 L (.int (nI 4) :: st) A := x_nx (op := o_push 1 (.int 4)) rfl rfl
theorem x_385_42  : exG TB d 385 42 (a0 :: a1 :: a2 :: some (.int i1) :: r9) st A = exG TB d 385 43 (a0 :: a1 :: a2 :: some (.int i1) :: r9) (.int i1 :: st) A := x_nx (op := o_iload 3 1) rfl rfl
theorem x_385_43  : exG TB d 385 43 L [b2, b1, b0, .ref p] A = kw0 (sel (gc A p) [(30, 314)]) [.ref p, b0, b1, b2] d 385 46 L [] A := x_c0b (op := o_cv [(30, 314)] 3 3 true none) rfl rfl x_noh rfl
theorem x_385_46  : exG TB d 385 46 L [] A = some (.inl none, A) := x_out (op := o_vret) rfl rfl
theorem e_386 {j1 : Int32} : evG TB (d + 1) 386 [.ref p, .int j1] A = exG TB d 386 0 [some (.ref p), some (.int j1), none, none] [] A := evG_eq TB d 386 _ A
theorem x_386_0  : exG TB d 386 0 (some v :: r9) st A = rg v (exG TB d 386 1 (some v :: r9) (v :: st) A) := x_rg (op := o_aload 0 1) rfl rfl
theorem x_386_1  : exG TB d 386 1 L st A = exG TB d 386 2 L (.int (nI 0) :: st) A := x_nx (op := o_push 1 (.int 0)) rfl rfl
theorem x_386_2  : exG TB d 386 2 L (v :: .ref p :: st) A = ck ((gf A p 155).isSome && okv 1 v) (exG TB d 386 5 L st (setf A p 155 v)) := x_gd (op := o_put 155 1) rfl rfl
theorem x_386_5  : exG TB d 386 5 (a0 :: some (.int i1) :: r9) st A = exG TB d 386 6 (a0 :: some (.int i1) :: r9) (.int i1 :: st) A := x_nx (op := o_iload 1 1) rfl rfl
theorem x_386_6  : exG TB d 386 6 L st A = exG TB d 386 7 L (.int (nI 0) :: st) A := x_nx (op := o_push 1 (.int 0)) rfl rfl
theorem x_386_7  : exG TB d 386 7 L st A = exG TB d 386 10 L (.int (nI 200000) :: st) A := x_nx (op := o_push 3 (.int 200000)) rfl rfl
theorem x_386_10  : exG TB d 386 10 L [b2, b1, b0] A = kc (evG TB d 293 [b0, b1, b2] A) d 386 13 L [] := x_cv (op := o_cs 293 3 false none) rfl rfl x_noh rfl
theorem x_386_13  : exG TB d 386 13 L (.int i1 :: st) A = if ¬ i1 = nI 0 then exG TB d 386 22 L st A else exG TB d 386 16 L st A := x_if (op := o_if (fun x => decide (¬ x = 0)) 22) rfl rfl rfl
theorem x_386_16  : exG TB d 386 16 (some v :: r9) st A = rg v (exG TB d 386 17 (some v :: r9) (v :: st) A) := x_rg (op := o_aload 0 1) rfl rfl
theorem x_386_17  : exG TB d 386 17 L st A = exG TB d 386 18 L (.int (nI 1) :: st) A := x_nx (op := o_push 1 (.int 1)) rfl rfl
theorem x_386_18  : exG TB d 386 18 L [b0, .ref p] A = kw (sel (gc A p) [(30, 291)]) [.ref p, b0] d 386 21 L [] A := x_cvb (op := o_cv [(30, 291)] 1 3 false none) rfl rfl x_noh rfl
theorem x_386_21  : exG TB d 386 21 L [v] A = ck (okv 1 v) (some (.inl (some v), A)) := x_outg (op := o_ret 1) rfl rfl
theorem x_386_22  : exG TB d 386 22 L st A = exG TB d 386 23 L (.int (nI 0) :: st) A := x_nx (op := o_push 1 (.int 0)) rfl rfl
theorem x_386_23  : exG TB d 386 23 (a0 :: a1 :: a2 :: r9) (.int i1 :: st) A = exG TB d 386 24 (a0 :: a1 :: some (.int i1) :: r9) st A := x_nx (op := o_istore 2 1) rfl rfl
theorem x_386_24  : exG TB d 386 24 L st A = exG TB d 386 25 L (.int (nI 0) :: st) A := x_nx (op := o_push 1 (.int 0)) rfl rfl
theorem x_386_25  : exG TB d 386 25 (a0 :: a1 :: a2 :: a3 :: r9) (.int i1 :: st) A = exG TB d 386 26 (a0 :: a1 :: a2 :: some (.int i1) :: r9) st A := x_nx (op := o_istore 3 1) rfl rfl
theorem x_386_26  : exG TB d 386 26 (a0 :: a1 :: a2 :: some (.int i1) :: r9) st A = exG TB d 386 27 (a0 :: a1 :: a2 :: some (.int i1) :: r9) (.int i1 :: st) A := x_nx (op := o_iload 3 1) rfl rfl
theorem x_386_27  : exG TB d 386 27 (some v :: r9) st A = rg v (exG TB d 386 28 (some v :: r9) (v :: st) A) := x_rg (op := o_aload 0 1) rfl rfl
theorem x_386_28  : exG TB d 386 28 L (.ref p :: st) A = kv (gf A p 148) d 386 31 L st A := x_bd (op := o_get 148) rfl rfl (fun _ => rfl)
theorem x_386_31  : exG TB d 386 31 L st A = exG TB d 386 33 L (.int (nI 11) :: st) A := x_nx (op := o_push 2 (.int 11)) rfl rfl
theorem x_386_33  : exG TB d 386 33 L (.int i1 :: .ref p :: st) A = ki (rdI 0 (ga A p) i1) d 386 34 L st A := x_bd (op := o_rdI 0) rfl rfl (fun _ => rfl)
theorem x_386_34  : exG TB d 386 34 L (.int i2 :: .int i1 :: st) A = if i2 ≤ i1 then exG TB d 386 52 L st A else exG TB d 386 37 L st A := x_if (op := o_icmp (fun x y => decide (y ≤ x)) 52) rfl rfl rfl
theorem x_386_37  : exG TB d 386 37 (a0 :: a1 :: some (.int i1) :: r9) st A = exG TB d 386 38 (a0 :: a1 :: some (.int i1) :: r9) (.int i1 :: st) A := x_nx (op := o_iload 2 1) rfl rfl
theorem x_386_38  : exG TB d 386 38 (some v :: r9) st A = rg v (exG TB d 386 39 (some v :: r9) (v :: st) A) := x_rg (op := o_aload 0 1) rfl rfl
theorem x_386_39  : exG TB d 386 39 (a0 :: a1 :: a2 :: some (.int i1) :: r9) st A = exG TB d 386 40 (a0 :: a1 :: a2 :: some (.int i1) :: r9) (.int i1 :: st) A := x_nx (op := o_iload 3 1) rfl rfl
theorem x_386_40  : exG TB d 386 40 (a0 :: some (.int i1) :: r9) st A = exG TB d 386 41 (a0 :: some (.int i1) :: r9) (.int i1 :: st) A := x_nx (op := o_iload 1 1) rfl rfl
theorem x_386_41  : exG TB d 386 41 L [b1, b0, .ref p, w0] A = kw (sel (gc A p) [(30, 377)]) [.ref p, b0, b1] d 386 44 L [w0] A := x_cvb (op := o_cv [(30, 377)] 2 3 false none) rfl rfl x_noh rfl
theorem x_386_44  : exG TB d 386 44 L (.int i2 :: .int i1 :: st) A = exG TB d 386 45 L (.int (i1 + i2) :: st) A := x_nx (op := o_iop (fun x y => x + y)) rfl rfl
theorem x_386_45  : exG TB d 386 45 (a0 :: a1 :: a2 :: r9) (.int i1 :: st) A = exG TB d 386 46 (a0 :: a1 :: some (.int i1) :: r9) st A := x_nx (op := o_istore 2 1) rfl rfl
theorem x_386_46  : exG TB d 386 46 (a0 :: a1 :: a2 :: some (.int i1) :: r9) st A = exG TB d 386 49 (a0 :: a1 :: a2 :: some (.int (i1 + (nI 1))) :: r9) st A := x_nx (op := o_iinc 3 1) rfl rfl
theorem x_386_49  : exG TB d 386 49 L st A = exG TB d 386 26 L st A := x_nx (op := o_goto 26) rfl rfl
theorem x_386_52  : exG TB d 386 52 (a0 :: a1 :: some (.int i1) :: r9) st A = exG TB d 386 53 (a0 :: a1 :: some (.int i1) :: r9) (.int i1 :: st) A := x_nx (op := o_iload 2 1) rfl rfl
theorem x_386_53  : exG TB d 386 53 L [v] A = ck (okv 1 v) (some (.inl (some v), A)) := x_outg (op := o_ret 1) rfl rfl
theorem e_387 {j1 : Int32} {j2 : Int32} : evG TB (d + 1) 387 [.ref p, .int j1, .int j2] A = exG TB d 387 0 [some (.ref p), some (.int j1), some (.int j2), none, none] [] A := evG_eq TB d 387 _ A
theorem x_387_0  : exG TB d 387 0 (some v :: r9) st A = rg v (exG TB d 387 1 (some v :: r9) (v :: st) A) := x_rg (op := o_aload 0 1) rfl rfl
theorem x_387_1  : exG TB d 387 1 L st A = exG TB d 387 2 L (.int (nI 0) :: st) A := x_nx (op := o_push 1 (.int 0)) rfl rfl
theorem x_387_2  : exG TB d 387 2 L (v :: .ref p :: st) A = ck ((gf A p 155).isSome && okv 1 v) (exG TB d 387 5 L st (setf A p 155 v)) := x_gd (op := o_put 155 1) rfl rfl
theorem x_387_5  : exG TB d 387 5 (some v :: r9) st A = rg v (exG TB d 387 6 (some v :: r9) (v :: st) A) := x_rg (op := o_aload 0 1) rfl rfl
theorem x_387_6  : exG TB d 387 6 (a0 :: some (.int i1) :: r9) st A = exG TB d 387 7 (a0 :: some (.int i1) :: r9) (.int i1 :: st) A := x_nx (op := o_iload 1 1) rfl rfl
theorem x_387_7  : exG TB d 387 7 L [b0, .ref p] A = kw (sel (gc A p) [(30, 338)]) [.ref p, b0] d 387 10 L [] A := x_cvb (op := o_cv [(30, 338)] 1 3 false none) rfl rfl x_noh rfl
theorem x_387_10  : exG TB d 387 10 L (.int i1 :: st) A = if ¬ i1 = nI 0 then exG TB d 387 19 L st A else exG TB d 387 13 L st A := x_if (op := o_if (fun x => decide (¬ x = 0)) 19) rfl rfl rfl
theorem x_387_13  : exG TB d 387 13 (some v :: r9) st A = rg v (exG TB d 387 14 (some v :: r9) (v :: st) A) := x_rg (op := o_aload 0 1) rfl rfl
theorem x_387_14  : exG TB d 387 14 L st A = exG TB d 387 15 L (.int (nI 1) :: st) A := x_nx (op := o_push 1 (.int 1)) rfl rfl
theorem x_387_15  : exG TB d 387 15 L [b0, .ref p] A = kw (sel (gc A p) [(30, 291)]) [.ref p, b0] d 387 18 L [] A := x_cvb (op := o_cv [(30, 291)] 1 3 false none) rfl rfl x_noh rfl
theorem x_387_18  : exG TB d 387 18 L [v] A = ck (okv 1 v) (some (.inl (some v), A)) := x_outg (op := o_ret 1) rfl rfl
theorem x_387_19  : exG TB d 387 19 (a0 :: a1 :: some (.int i1) :: r9) st A = exG TB d 387 20 (a0 :: a1 :: some (.int i1) :: r9) (.int i1 :: st) A := x_nx (op := o_iload 2 1) rfl rfl
theorem x_387_20  : exG TB d 387 20 L st A = exG TB d 387 21 L (.int (nI 0) :: st) A := x_nx (op := o_push 1 (.int 0)) rfl rfl
theorem x_387_21  : exG TB d 387 21 L st A = exG TB d 387 24 L (.int (nI 200000) :: st) A := x_nx (op := o_push 3 (.int 200000)) rfl rfl
theorem x_387_24  : exG TB d 387 24 L [b2, b1, b0] A = kc (evG TB d 293 [b0, b1, b2] A) d 387 27 L [] := x_cv (op := o_cs 293 3 false none) rfl rfl x_noh rfl
theorem x_387_27  : exG TB d 387 27 L (.int i1 :: st) A = if ¬ i1 = nI 0 then exG TB d 387 36 L st A else exG TB d 387 30 L st A := x_if (op := o_if (fun x => decide (¬ x = 0)) 36) rfl rfl rfl
theorem x_387_30  : exG TB d 387 30 (some v :: r9) st A = rg v (exG TB d 387 31 (some v :: r9) (v :: st) A) := x_rg (op := o_aload 0 1) rfl rfl
theorem x_387_31  : exG TB d 387 31 L st A = exG TB d 387 32 L (.int (nI 2) :: st) A := x_nx (op := o_push 1 (.int 2)) rfl rfl
theorem x_387_32  : exG TB d 387 32 L [b0, .ref p] A = kw (sel (gc A p) [(30, 291)]) [.ref p, b0] d 387 35 L [] A := x_cvb (op := o_cv [(30, 291)] 1 3 false none) rfl rfl x_noh rfl
theorem x_387_35  : exG TB d 387 35 L [v] A = ck (okv 1 v) (some (.inl (some v), A)) := x_outg (op := o_ret 1) rfl rfl
theorem x_387_36  : exG TB d 387 36 (some v :: r9) st A = rg v (exG TB d 387 37 (some v :: r9) (v :: st) A) := x_rg (op := o_aload 0 1) rfl rfl
theorem x_387_37  : exG TB d 387 37 (a0 :: some (.int i1) :: r9) st A = exG TB d 387 38 (a0 :: some (.int i1) :: r9) (.int i1 :: st) A := x_nx (op := o_iload 1 1) rfl rfl
theorem x_387_38  : exG TB d 387 38 L [b0, .ref p] A = kw0 (sel (gc A p) [(30, 364)]) [.ref p, b0] d 387 41 L [] A := x_c0b (op := o_cv [(30, 364)] 1 3 true none) rfl rfl x_noh rfl
theorem x_387_41  : exG TB d 387 41 L st A = exG TB d 387 42 L (.int (nI 0) :: st) A := x_nx (op := o_push 1 (.int 0)) rfl rfl
theorem x_387_42  : exG TB d 387 42 (a0 :: a1 :: a2 :: a3 :: r9) (.int i1 :: st) A = exG TB d 387 43 (a0 :: a1 :: a2 :: some (.int i1) :: r9) st A := x_nx (op := o_istore 3 1) rfl rfl
theorem x_387_43  : exG TB d 387 43 L st A = exG TB d 387 44 L (.int (nI 0) :: st) A := x_nx (op := o_push 1 (.int 0)) rfl rfl
theorem x_387_44  : exG TB d 387 44 (a0 :: a1 :: a2 :: a3 :: a4 :: r9) (.int i1 :: st) A = exG TB d 387 46 (a0 :: a1 :: a2 :: a3 :: some (.int i1) :: r9) st A := x_nx (op := o_istore 4 2) rfl rfl
theorem x_387_46  : exG TB d 387 46 (a0 :: a1 :: a2 :: a3 :: some (.int i1) :: r9) st A = exG TB d 387 48 (a0 :: a1 :: a2 :: a3 :: some (.int i1) :: r9) (.int i1 :: st) A := x_nx (op := o_iload 4 2) rfl rfl
theorem x_387_48  : exG TB d 387 48 (some v :: r9) st A = rg v (exG TB d 387 49 (some v :: r9) (v :: st) A) := x_rg (op := o_aload 0 1) rfl rfl
theorem x_387_49  : exG TB d 387 49 L (.ref p :: st) A = kv (gf A p 185) d 387 52 L st A := x_bd (op := o_get 185) rfl rfl (fun _ => rfl)
theorem x_387_52  : exG TB d 387 52 L (.int i2 :: .int i1 :: st) A = if i2 ≤ i1 then exG TB d 387 109 L st A else exG TB d 387 55 L st A := x_if (op := o_icmp (fun x y => decide (y ≤ x)) 109) rfl rfl rfl
theorem x_387_55  : exG TB d 387 55 (some v :: r9) st A = rg v (exG TB d 387 56 (some v :: r9) (v :: st) A) := x_rg (op := o_aload 0 1) rfl rfl
theorem x_387_56  : exG TB d 387 56 L (.ref p :: st) A = kv (gf A p 148) d 387 59 L st A := x_bd (op := o_get 148) rfl rfl (fun _ => rfl)
theorem x_387_59  : exG TB d 387 59 L st A = exG TB d 387 61 L (.int (nI 13) :: st) A := x_nx (op := o_push 2 (.int 13)) rfl rfl
theorem x_387_61  : exG TB d 387 61 L (.int i1 :: .ref p :: st) A = ki (rdI 0 (ga A p) i1) d 387 62 L st A := x_bd (op := o_rdI 0) rfl rfl (fun _ => rfl)
theorem x_387_62  : exG TB d 387 62 (a0 :: a1 :: a2 :: a3 :: some (.int i1) :: r9) st A = exG TB d 387 64 (a0 :: a1 :: a2 :: a3 :: some (.int i1) :: r9) (.int i1 :: st) A := x_nx (op := o_iload 4 2) rfl rfl
theorem x_387_64  : exG TB d 387 64 L (.int i2 :: .int i1 :: st) A = exG TB d 387 65 L (.int (i1 + i2) :: st) A := x_nx (op := o_iop (fun x y => x + y)) rfl rfl
theorem x_387_65  : exG TB d 387 65 L st A = exG TB d 387 67 L (.int (nI 60) :: st) A := x_nx (op := o_push 2 (.int 60)) rfl rfl
theorem x_387_67  : exG TB d 387 67 L (.int i2 :: .int i1 :: st) A = if i2 ≤ i1 then exG TB d 387 109 L st A else exG TB d 387 70 L st A := x_if (op := o_icmp (fun x y => decide (y ≤ x)) 109) rfl rfl rfl
theorem x_387_70  : exG TB d 387 70 (some v :: r9) st A = rg v (exG TB d 387 71 (some v :: r9) (v :: st) A) := x_rg (op := o_aload 0 1) rfl rfl
theorem x_387_71  : exG TB d 387 71 (a0 :: a1 :: a2 :: a3 :: some (.int i1) :: r9) st A = exG TB d 387 73 (a0 :: a1 :: a2 :: a3 :: some (.int i1) :: r9) (.int i1 :: st) A := x_nx (op := o_iload 4 2) rfl rfl
theorem x_387_73  : exG TB d 387 73 (a0 :: a1 :: some (.int i1) :: r9) st A = exG TB d 387 74 (a0 :: a1 :: some (.int i1) :: r9) (.int i1 :: st) A := x_nx (op := o_iload 2 1) rfl rfl
theorem x_387_74  : exG TB d 387 74 L [b1, b0, .ref p] A = kw (sel (gc A p) [(30, 378)]) [.ref p, b0, b1] d 387 77 L [] A := x_cvb (op := o_cv [(30, 378)] 2 3 false none) rfl rfl x_noh rfl
theorem x_387_77  : exG TB d 387 77 L (.int i1 :: st) A = if i1 = nI 0 then exG TB d 387 109 L st A else exG TB d 387 80 L st A := x_if (op := o_if (fun x => decide (x = 0)) 109) rfl rfl rfl
theorem x_387_80  : exG TB d 387 80 (a0 :: a1 :: a2 :: some (.int i1) :: r9) st A = exG TB d 387 81 (a0 :: a1 :: a2 :: some (.int i1) :: r9) (.int i1 :: st) A := x_nx (op := o_iload 3 1) rfl rfl
theorem x_387_81  : exG TB d 387 81 (some v :: r9) st A = rg v (exG TB d 387 82 (some v :: r9) (v :: st) A) := x_rg (op := o_aload 0 1) rfl rfl
theorem x_387_82  : exG TB d 387 82 (a0 :: some (.int i1) :: r9) st A = exG TB d 387 83 (a0 :: some (.int i1) :: r9) (.int i1 :: st) A := x_nx (op := o_iload 1 1) rfl rfl
theorem x_387_83  : exG TB d 387 83 (a0 :: a1 :: a2 :: a3 :: some (.int i1) :: r9) st A = exG TB d 387 85 (a0 :: a1 :: a2 :: a3 :: some (.int i1) :: r9) (.int i1 :: st) A := x_nx (op := o_iload 4 2) rfl rfl
theorem x_387_85  : exG TB d 387 85 (some v :: r9) st A = rg v (exG TB d 387 86 (some v :: r9) (v :: st) A) := x_rg (op := o_aload 0 1) rfl rfl
theorem x_387_86  : exG TB d 387 86 (a0 :: some (.int i1) :: r9) st A = exG TB d 387 87 (a0 :: some (.int i1) :: r9) (.int i1 :: st) A := x_nx (op := o_iload 1 1) rfl rfl
theorem x_387_87  : exG TB d 387 87 (some v :: r9) st A = rg v (exG TB d 387 88 (some v :: r9) (v :: st) A) := x_rg (op := o_aload 0 1) rfl rfl
theorem x_387_88  : exG TB d 387 88 (a0 :: some (.int i1) :: r9) st A = exG TB d 387 89 (a0 :: some (.int i1) :: r9) (.int i1 :: st) A := x_nx (op := o_iload 1 1) rfl rfl
theorem x_387_89  : exG TB d 387 89 L [b0, .ref p, .int i1, .ref q, .int i2, .int i3, .ref n9, .int i4] A = kw (sel (gc A p) [(30, 380)]) [.ref p, b0] d 387 92 L [.int i1, .ref q, .int i2, .int i3, .ref n9, .int i4] A := x_cvb (op := o_cv [(30, 380)] 1 3 false none) rfl rfl x_noh rfl
theorem x_387_92  : exG TB d 387 92 (a0 :: a1 :: a2 :: a3 :: some (.int i1) :: r9) st A = exG TB d 387 94 (a0 :: a1 :: a2 :: a3 :: some (.int i1) :: r9) (.int i1 :: st) A := x_nx (op := o_iload 4 2) rfl rfl
theorem x_387_94  : exG TB d 387 94 L (.int i2 :: .int i1 :: st) A = exG TB d 387 95 L (.int (i1 + i2) :: st) A := x_nx (op := o_iop (fun x y => x + y)) rfl rfl
theorem x_387_95  : exG TB d 387 95 L [b1, b0, .ref p, w0, w1, w2, w3] A = kw (sel (gc A p) [(30, 381)]) [.ref p, b0, b1] d 387 98 L [w0, w1, w2, w3] A := x_cvb (op := o_cv [(30, 381)] 2 3 false none) rfl rfl x_noh rfl
theorem x_387_98  : exG TB d 387 98 L [b2, b1, b0, .ref p, w0] A = kw (sel (gc A p) [(30, 382)]) [.ref p, b0, b1, b2] d 387 101 L [w0] A := x_cvb (op := o_cv [(30, 382)] 3 3 false none) rfl rfl x_noh rfl
theorem x_387_101  : exG TB d 387 101 L (.int i2 :: .int i1 :: st) A = exG TB d 387 102 L (.int (i1 + i2) :: st) A := x_nx (op := o_iop (fun x y => x + y)) rfl rfl
theorem x_387_102  : exG TB d 387 102 (a0 :: a1 :: a2 :: a3 :: r9) (.int i1 :: st) A = exG TB d 387 103 (a0 :: a1 :: a2 :: some (.int i1) :: r9) st A := x_nx (op := o_istore 3 1) rfl rfl
theorem x_387_103  : exG TB d 387 103 (a0 :: a1 :: a2 :: a3 :: some (.int i1) :: r9) st A = exG TB d 387 106 (a0 :: a1 :: a2 :: a3 :: some (.int (i1 + (nI 1))) :: r9) st A := x_nx (op := o_iinc 4 1) rfl rfl
theorem x_387_106  : exG TB d 387 106 L st A = exG TB d 387 46 L st A := x_nx (op := o_goto 46) rfl rfl
theorem x_387_109  : exG TB d 387 109 (a0 :: a1 :: a2 :: some (.int i1) :: r9) st A = exG TB d 387 110 (a0 :: a1 :: a2 :: some (.int i1) :: r9) (.int i1 :: st) A := x_nx (op := o_iload 3 1) rfl rfl
theorem x_387_110  : exG TB d 387 110 L [v] A = ck (okv 1 v) (some (.inl (some v), A)) := x_outg (op := o_ret 1) rfl rfl
end
