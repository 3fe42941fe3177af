set_option maxRecDepth 100000
/-! what each instruction does, as an equation -/
section
variable {d p q n9 : Nat} {L r9 : Lc} {st : List Value} {A : Hp} {g9 : Nat → Int32} {v v2 v3 w0 w1 w2 w3 w4 w5 w6 w7 w8 w9 w10 w11 b0 b1 b2 b3 b4 b5 b6 b7 b8 b9 b10 b11 : Value} {i1 i2 i3 i4 : Int32} {l1 l2 : Int64} {f1 f2 : UInt32} {d1 d2 : UInt64} {a0 a1 a2 a3 a4 a5 a6 a7 a8 a9 a10 a11 a12 a13 a14 a15 a16 a17 a18 a19 a20 a21 a22 a23 a24 a25 a26 a27 a28 a29 a30 a31 a32 a33 a34 a35 a36 a37 a38 a39 a40 a41 a42 a43 : Option Value}
theorem e_388 {j1 : Int32} {j2 : Int32} : evG TB (d + 1) 388 [.ref p, .int j1, .int j2] A = exG TB d 388 0 [some (.ref p), some (.int j1), some (.int j2)] [] A := evG_eq TB d 388 _ A
theorem x_388_0  : exG TB d 388 0 (some v :: r9) st A = rg v (exG TB d 388 1 (some v :: r9) (v :: st) A) := x_rg (op := o_aload 0 1) rfl rfl
theorem x_388_1  : exG TB d 388 1 L st A = exG TB d 388 2 L (.int (nI 0) :: st) A := x_nx (op := o_push 1 (.int 0)) rfl rfl
theorem x_388_2  : exG TB d 388 2 L (v :: .ref p :: st) A = ck ((gf A p 155).isSome && okv 1 v) (exG TB d 388 5 L st (setf A p 155 v)) := x_gd (op := o_put 155 1) rfl rfl
theorem x_388_5  : exG TB d 388 5 (some v :: r9) st A = rg v (exG TB d 388 6 (some v :: r9) (v :: st) A) := x_rg (op := o_aload 0 1) rfl rfl
theorem x_388_6  : exG TB d 388 6 (a0 :: some (.int i1) :: r9) st A = exG TB d 388 7 (a0 :: some (.int i1) :: r9) (.int i1 :: st) A := x_nx (op := o_iload 1 1) rfl rfl
theorem x_388_7  : exG TB d 388 7 L [b0, .ref p] A = kw (sel (gc A p) [(30, 389)]) [.ref p, b0] d 388 10 L [] A := x_cvb (op := o_cv [(30, 389)] 1 3 false none) rfl rfl x_noh rfl
theorem x_388_10  : exG TB d 388 10 L (.int i1 :: st) A = if ¬ i1 = nI 0 then exG TB d 388 19 L st A else exG TB d 388 13 L st A := x_if (op := o_if (fun x => decide (¬ x = 0)) 19) rfl rfl rfl
theorem x_388_13  : exG TB d 388 13 (some v :: r9) st A = rg v (exG TB d 388 14 (some v :: r9) (v :: st) A) := x_rg (op := o_aload 0 1) rfl rfl
theorem x_388_14  : exG TB d 388 14 L st A = exG TB d 388 15 L (.int (nI 1) :: st) A := x_nx (op := o_push 1 (.int 1)) rfl rfl
theorem x_388_15  : exG TB d 388 15 L [b0, .ref p] A = kw (sel (gc A p) [(30, 291)]) [.ref p, b0] d 388 18 L [] A := x_cvb (op := o_cv [(30, 291)] 1 3 false none) rfl rfl x_noh rfl
theorem x_388_18  : exG TB d 388 18 L [v] A = ck (okv 1 v) (some (.inl (some v), A)) := x_outg (op := o_ret 1) rfl rfl
theorem x_388_19  : exG TB d 388 19 (a0 :: a1 :: some (.int i1) :: r9) st A = exG TB d 388 20 (a0 :: a1 :: some (.int i1) :: r9) (.int i1 :: st) A := x_nx (op := o_iload 2 1) rfl rfl
theorem x_388_20  : exG TB d 388 20 L st A = exG TB d 388 21 L (.int (nI 0) :: st) A := x_nx (op := o_push 1 (.int 0)) rfl rfl
theorem x_388_21  : exG TB d 388 21 L st A = exG TB d 388 23 L (.int (nI 12) :: st) A := x_nx (op := o_push 2 (.int 12)) rfl rfl
theorem x_388_23  : exG TB d 388 23 L [b2, b1, b0] A = kc (evG TB d 293 [b0, b1, b2] A) d 388 26 L [] := x_cv (op := o_cs 293 3 false none) rfl rfl x_noh rfl
theorem x_388_26  : exG TB d 388 26 L (.int i1 :: st) A = if i1 = nI 0 then exG TB d 388 38 L st A else exG TB d 388 29 L st A := x_if (op := o_if (fun x => decide (x = 0)) 38) rfl rfl rfl
theorem x_388_29  : exG TB d 388 29 (some v :: r9) st A = rg v (exG TB d 388 30 (some v :: r9) (v :: st) A) := x_rg (op := o_aload 0 1) rfl rfl
theorem x_388_30  : exG TB d 388 30 (a0 :: some (.int i1) :: r9) st A = exG TB d 388 31 (a0 :: some (.int i1) :: r9) (.int i1 :: st) A := x_nx (op := o_iload 1 1) rfl rfl
theorem x_388_31  : exG TB d 388 31 (a0 :: a1 :: some (.int i1) :: r9) st A = exG TB d 388 32 (a0 :: a1 :: some (.int i1) :: r9) (.int i1 :: st) A := x_nx (op := o_iload 2 1) rfl rfl
theorem x_388_32  : exG TB d 388 32 L [b1, b0, .ref p] A = kw (sel (gc A p) [(30, 333)]) [.ref p, b0, b1] d 388 35 L [] A := x_cvb (op := o_cv [(30, 333)] 2 3 false none) rfl rfl x_noh rfl
theorem x_388_35  : exG TB d 388 35 L st A = exG TB d 388 43 L st A := x_nx (op := o_goto 43) rfl rfl
theorem x_388_38  : exG TB d 388 38 (some v :: r9) st A = rg v (exG TB d 388 39 (some v :: r9) (v :: st) A) := x_rg (op := o_aload 0 1) rfl rfl
theorem x_388_39  : exG TB d 388 39 L st A = exG TB d 388 40 L (.int (nI 2) :: st) A := x_nx (op := o_push 1 (.int 2)) rfl rfl
theorem x_388_40  : exG TB d 388 40 L [b0, .ref p] A = kw (sel (gc A p) [(30, 291)]) [.ref p, b0] d 388 43 L [] A := x_cvb (op := o_cv [(30, 291)] 1 3 false none) rfl rfl x_noh rfl
theorem x_388_43  : exG TB d 388 43 L [v] A = ck (okv 1 v) (some (.inl (some v), A)) := x_outg (op := o_ret 1) rfl rfl
theorem e_389 {j1 : Int32} : evG TB (d + 1) 389 [.ref p, .int j1] A = exG TB d 389 0 [some (.ref p), some (.int j1)] [] A := evG_eq TB d 389 _ A
theorem x_389_0  : exG TB d 389 0 (a0 :: some (.int i1) :: r9) st A = exG TB d 389 1 (a0 :: some (.int i1) :: r9) (.int i1 :: st) A := x_nx (op := o_iload 1 1) rfl rfl
theorem x_389_1  : exG TB d 389 1 L st A = exG TB d 389 2 L (.int (nI 0) :: st) A := x_nx (op := o_push 1 (.int 0)) rfl rfl
theorem x_389_2  : exG TB d 389 2 (some v :: r9) st A = rg v (exG TB d 389 3 (some v :: r9) (v :: st) A) := x_rg (op := o_aload 0 1) rfl rfl
theorem x_389_3  : exG TB d 389 3 L (.ref p :: st) A = kv (gf A p 148) d 389 6 L st A := x_bd (op := o_get 148) rfl rfl (fun _ => rfl)
theorem x_389_6  : exG TB d 389 6 L st A = exG TB d 389 8 L (.int (nI 13) :: st) A := x_nx (op := o_push 2 (.int 13)) rfl rfl
theorem x_389_8  : exG TB d 389 8 L (.int i1 :: .ref p :: st) A = ki (rdI 0 (ga A p) i1) d 389 9 L st A := x_bd (op := o_rdI 0) rfl rfl (fun _ => rfl)
theorem x_389_9  : exG TB d 389 9 L st A = exG TB d 389 10 L (.int (nI 1) :: st) A := x_nx (op := o_push 1 (.int 1)) rfl rfl
theorem x_389_10  : exG TB d 389 10 L (.int i2 :: .int i1 :: st) A = exG TB d 389 11 L (.int (i1 - i2) :: st) A := x_nx (op := o_iop (fun x y => x - y)) rfl rfl
theorem x_389_11  : exG TB d 389 11 L [b2, b1, b0] A = kc (evG TB d 293 [b0, b1, b2] A) d 389 14 L [] := x_cv (op := o_cs 293 3 false none) rfl rfl x_noh rfl
theorem x_389_14  : exG TB d 389 14 L [v] A = ck (okv 5 v) (some (.inl (some v), A)) := x_outg (op := o_ret 5) rfl rfl
theorem e_390 {j1 : Int32} {j2 : Int32} : evG TB (d + 1) 390 [.ref p, .int j1, .int j2] A = exG TB d 390 0 [some (.ref p), some (.int j1), some (.int j2)] [] A := evG_eq TB d 390 _ A
theorem x_390_0  : exG TB d 390 0 (some v :: r9) st A = rg v (exG TB d 390 1 (some v :: r9) (v :: st) A) := x_rg (op := o_aload 0 1) rfl rfl
theorem x_390_1  : exG TB d 390 1 L st A = exG TB d 390 2 L (.int (nI 0) :: st) A := x_nx (op := o_push 1 (.int 0)) rfl rfl
theorem x_390_2  : exG TB d 390 2 L (v :: .ref p :: st) A = ck ((gf A p 155).isSome && okv 1 v) (exG TB d 390 5 L st (setf A p 155 v)) := x_gd (op := o_put 155 1) rfl rfl
theorem x_390_5  : exG TB d 390 5 (some v :: r9) st A = rg v (exG TB d 390 6 (some v :: r9) (v :: st) A) := x_rg (op := o_aload 0 1) rfl rfl
theorem x_390_6  : exG TB d 390 6 (a0 :: some (.int i1) :: r9) st A = exG TB d 390 7 (a0 :: some (.int i1) :: r9) (.int i1 :: st) A := x_nx (op := o_iload 1 1) rfl rfl
theorem x_390_7  : exG TB d 390 7 L [b0, .ref p] A = kw (sel (gc A p) [(30, 389)]) [.ref p, b0] d 390 10 L [] A := x_cvb (op := o_cv [(30, 389)] 1 3 false none) rfl rfl x_noh rfl
theorem x_390_10  : exG TB d 390 10 L (.int i1 :: st) A = if i1 = nI 0 then exG TB d 390 30 L st A else exG TB d 390 13 L st A := x_if (op := o_if (fun x => decide (x = 0)) 30) rfl rfl rfl
theorem x_390_13  : exG TB d 390 13 (a0 :: a1 :: some (.int i1) :: r9) st A = exG TB d 390 14 (a0 :: a1 :: some (.int i1) :: r9) (.int i1 :: st) A := x_nx (op := o_iload 2 1) rfl rfl
theorem x_390_14  : exG TB d 390 14 L st A = exG TB d 390 15 L (.int (nI 0) :: st) A := x_nx (op := o_push 1 (.int 0)) rfl rfl
theorem x_390_15  : exG TB d 390 15 (some v :: r9) st A = rg v (exG TB d 390 16 (some v :: r9) (v :: st) A) := x_rg (op := o_aload 0 1) rfl rfl
theorem x_390_16  : exG TB d 390 16 (a0 :: some (.int i1) :: r9) st A = exG TB d 390 17 (a0 :: some (.int i1) :: r9) (.int i1 :: st) A := x_nx (op := o_iload 1 1) rfl rfl
theorem x_390_17  : exG TB d 390 17 L st A = exG TB d 390 19 L (.int (nI 8) :: st) A := x_nx (op := o_push 2 (.int 8)) rfl rfl
theorem x_390_19  : exG TB d 390 19 L [b1, b0, .ref p, w0, w1] A = kw (sel (gc A p) [(30, 333)]) [.ref p, b0, b1] d 390 22 L [w0, w1] A := x_cvb (op := o_cv [(30, 333)] 2 3 false none) rfl rfl x_noh rfl
theorem x_390_22  : exG TB d 390 22 L st A = exG TB d 390 23 L (.int (nI 1) :: st) A := x_nx (op := o_push 1 (.int 1)) rfl rfl
theorem x_390_23  : exG TB d 390 23 L (.int i2 :: .int i1 :: st) A = exG TB d 390 24 L (.int (i1 - i2) :: st) A := x_nx (op := o_iop (fun x y => x - y)) rfl rfl
theorem x_390_24  : exG TB d 390 24 L [b2, b1, b0] A = kc (evG TB d 293 [b0, b1, b2] A) d 390 27 L [] := x_cv (op := o_cs 293 3 false none) rfl rfl x_noh rfl
theorem x_390_27  : exG TB d 390 27 L (.int i1 :: st) A = if ¬ i1 = nI 0 then exG TB d 390 36 L st A else exG TB d 390 30 L st A := x_if (op := o_if (fun x => decide (¬ x = 0)) 36) rfl rfl rfl
theorem x_390_30  : exG TB d 390 30 (some v :: r9) st A = rg v (exG TB d 390 31 (some v :: r9) (v :: st) A) := x_rg (op := o_aload 0 1) rfl rfl
theorem x_390_31  : exG TB d 390 31 L st A = exG TB d 390 32 L (.int (nI 1) :: st) A := x_nx (op := o_push 1 (.int 1)) rfl rfl
theorem x_390_32  : exG TB d 390 32 L [b0, .ref p] A = kw (sel (gc A p) [(30, 291)]) [.ref p, b0] d 390 35 L [] A := x_cvb (op := o_cv [(30, 291)] 1 3 false none) rfl rfl x_noh rfl
theorem x_390_35  : exG TB d 390 35 L [v] A = ck (okv 1 v) (some (.inl (some v), A)) := x_outg (op := o_ret 1) rfl rfl
theorem x_390_36  : exG TB d 390 36 (some v :: r9) st A = rg v (exG TB d 390 37 (some v :: r9) (v :: st) A) := x_rg (op := o_aload 0 1) rfl rfl
theorem x_390_37  : exG TB d 390 37 L (.ref p :: st) A = kv (gf A p 148) d 390 40 L st A := x_bd (op := o_get 148) rfl rfl (fun _ => rfl)
theorem x_390_40  : exG TB d 390 40 L st A = exG TB d 390 43 L (.int (nI 2200) :: st) A := x_nx (op := o_push 3 (.int 2200)) rfl rfl
theorem x_390_43  : exG TB d 390 43 (some v :: r9) st A = rg v (exG TB d 390 44 (some v :: r9) (v :: st) A) := x_rg (op := o_aload 0 1) rfl rfl
theorem x_390_44  : exG TB d 390 44 (a0 :: some (.int i1) :: r9) st A = exG TB d 390 45 (a0 :: some (.int i1) :: r9) (.int i1 :: st) A := x_nx (op := o_iload 1 1) rfl rfl
theorem x_390_45  : exG TB d 390 45 L st A = exG TB d 390 47 L (.int (nI 15) :: st) A := x_nx (op := o_push 2 (.int 15)) rfl rfl
theorem x_390_47  : exG TB d 390 47 L [b1, b0, .ref p, w0, w1] A = kw (sel (gc A p) [(30, 333)]) [.ref p, b0, b1] d 390 50 L [w0, w1] A := x_cvb (op := o_cv [(30, 333)] 2 3 false none) rfl rfl x_noh rfl
theorem x_390_50  : exG TB d 390 50 L (.int i2 :: .int i1 :: st) A = exG TB d 390 51 L (.int (i1 + i2) :: st) A := x_nx (op := o_iop (fun x y => x + y)) rfl rfl
theorem x_390_51  : exG TB d 390 51 (a0 :: a1 :: some (.int i1) :: r9) st A = exG TB d 390 52 (a0 :: a1 :: some (.int i1) :: r9) (.int i1 :: st) A := x_nx (op := o_iload 2 1) rfl rfl
theorem x_390_52  : exG TB d 390 52 L (.int i2 :: .int i1 :: st) A = exG TB d 390 53 L (.int (i1 + i2) :: st) A := x_nx (op := o_iop (fun x y => x + y)) rfl rfl
theorem x_390_53  : exG TB d 390 53 L (.int i1 :: .ref p :: st) A = ki (rdI 0 (ga A p) i1) d 390 54 L st A := x_bd (op := o_rdI 0) rfl rfl (fun _ => rfl)
theorem x_390_54  : exG TB d 390 54 L st A = exG TB d 390 56 L (.int (nI 16) :: st) A := x_nx (op := o_push 2 (.int 16)) rfl rfl
theorem x_390_56  : exG TB d 390 56 L (.int i2 :: .int i1 :: st) A = ck (decide (¬ i2 = nI 0)) (exG TB d 390 57 L (.int (i1 - i1 / i2 * i2) :: st) A) := x_gd (op := o_iopz (fun x y => x - x / y * y)) rfl rfl
theorem x_390_57  : exG TB d 390 57 L [v] A = ck (okv 1 v) (some (.inl (some v), A)) := x_outg (op := o_ret 1) rfl rfl
theorem e_391 {j1 : Int32} {j2 : Int32} : evG TB (d + 1) 391 [.ref p, .int j1, .int j2] A = exG TB d 391 0 [some (.ref p), some (.int j1), some (.int j2), none, none] [] A := evG_eq TB d 391 _ A
theorem x_391_0  : exG TB d 391 0 (some v :: r9) st A = rg v (exG TB d 391 1 (some v :: r9) (v :: st) A) := x_rg (op := o_aload 0 1) rfl rfl
theorem x_391_1  : exG TB d 391 1 L st A = exG TB d 391 2 L (.int (nI 0) :: st) A := x_nx (op := o_push 1 (.int 0)) rfl rfl
theorem x_391_2  : exG TB d 391 2 L (v :: .ref p :: st) A = ck ((gf A p 155).isSome && okv 1 v) (exG TB d 391 5 L st (setf A p 155 v)) := x_gd (op := o_put 155 1) rfl rfl
theorem x_391_5  : exG TB d 391 5 (some v :: r9) st A = rg v (exG TB d 391 6 (some v :: r9) (v :: st) A) := x_rg (op := o_aload 0 1) rfl rfl
theorem x_391_6  : exG TB d 391 6 (a0 :: some (.int i1) :: r9) st A = exG TB d 391 7 (a0 :: some (.int i1) :: r9) (.int i1 :: st) A := x_nx (op := o_iload 1 1) rfl rfl
theorem x_391_7  : exG TB d 391 7 L [b0, .ref p] A = kw (sel (gc A p) [(30, 389)]) [.ref p, b0] d 391 10 L [] A := x_cvb (op := o_cv [(30, 389)] 1 3 false none) rfl rfl x_noh rfl
theorem x_391_10  : exG TB d 391 10 L (.int i1 :: st) A = if ¬ i1 = nI 0 then exG TB d 391 19 L st A else exG TB d 391 13 L st A := x_if (op := o_if (fun x => decide (¬ x = 0)) 19) rfl rfl rfl
theorem x_391_13  : exG TB d 391 13 (some v :: r9) st A = rg v (exG TB d 391 14 (some v :: r9) (v :: st) A) := x_rg (op := o_aload 0 1) rfl rfl
theorem x_391_14  : exG TB d 391 14 L st A = exG TB d 391 15 L (.int (nI 1) :: st) A := x_nx (op := o_push 1 (.int 1)) rfl rfl
theorem x_391_15  : exG TB d 391 15 L [b0, .ref p] A = kw (sel (gc A p) [(30, 291)]) [.ref p, b0] d 391 18 L [] A := x_cvb (op := o_cv [(30, 291)] 1 3 false none) rfl rfl x_noh rfl
theorem x_391_18  : exG TB d 391 18 L [v] A = ck (okv 1 v) (some (.inl (some v), A)) := x_outg (op := o_ret 1) rfl rfl
theorem x_391_19  : exG TB d 391 19 (a0 :: a1 :: some (.int i1) :: r9) st A = exG TB d 391 20 (a0 :: a1 :: some (.int i1) :: r9) (.int i1 :: st) A := x_nx (op := o_iload 2 1) rfl rfl
theorem x_391_20  : exG TB d 391 20 L st A = exG TB d 391 21 L (.int (nI 0) :: st) A := x_nx (op := o_push 1 (.int 0)) rfl rfl
theorem x_391_21  : exG TB d 391 21 L st A = exG TB d 391 22 L (.int (nI 2) :: st) A := x_nx (op := o_push 1 (.int 2)) rfl rfl
theorem x_391_22  : exG TB d 391 22 L [b2, b1, b0] A = kc (evG TB d 293 [b0, b1, b2] A) d 391 25 L [] := x_cv (op := o_cs 293 3 false none) rfl rfl x_noh rfl
theorem x_391_25  : exG TB d 391 25 L (.int i1 :: st) A = if ¬ i1 = nI 0 then exG TB d 391 34 L st A else exG TB d 391 28 L st A := x_if (op := o_if (fun x => decide (¬ x = 0)) 34) rfl rfl rfl
theorem x_391_28  : exG TB d 391 28 (some v :: r9) st A = rg v (exG TB d 391 29 (some v :: r9) (v :: st) A) := x_rg (op := o_aload 0 1) rfl rfl
theorem x_391_29  : exG TB d 391 29 L st A = exG TB d 391 30 L (.int (nI 2) :: st) A := x_nx (op := o_push 1 (.int 2)) rfl rfl
theorem x_391_30  : exG TB d 391 30 L [b0, .ref p] A = kw (sel (gc A p) [(30, 291)]) [.ref p, b0] d 391 33 L [] A := x_cvb (op := o_cv [(30, 291)] 1 3 false none) rfl rfl x_noh rfl
theorem x_391_33  : exG TB d 391 33 L [v] A = ck (okv 1 v) (some (.inl (some v), A)) := x_outg (op := o_ret 1) rfl rfl
theorem x_391_34  : exG TB d 391 34 (some v :: r9) st A = rg v (exG TB d 391 35 (some v :: r9) (v :: st) A) := x_rg (op := o_aload 0 1) rfl rfl
theorem x_391_35  : exG TB d 391 35 (a0 :: some (.int i1) :: r9) st A = exG TB d 391 36 (a0 :: some (.int i1) :: r9) (.int i1 :: st) A := x_nx (op := o_iload 1 1) rfl rfl
theorem x_391_36  : exG TB d 391 36 L st A = exG TB d 391 38 L (.int (nI 11) :: st) A := x_nx (op := o_push 2 (.int 11)) rfl rfl
theorem x_391_38  : exG TB d 391 38 L [b1, b0, .ref p] A = kw (sel (gc A p) [(30, 333)]) [.ref p, b0, b1] d 391 41 L [] A := x_cvb (op := o_cv [(30, 333)] 2 3 false none) rfl rfl x_noh rfl
theorem x_391_41  : exG TB d 391 41 L (.int i1 :: st) A = if i1 = nI 0 then exG TB d 391 50 L st A else exG TB d 391 44 L st A := x_if (op := o_if (fun x => decide (x = 0)) 50) rfl rfl rfl
theorem x_391_44  : exG TB d 391 44 (some v :: r9) st A = rg v (exG TB d 391 45 (some v :: r9) (v :: st) A) := x_rg (op := o_aload 0 1) rfl rfl
theorem x_391_45  : exG TB d 391 45 L st A = exG TB d 391 46 L (.int (nI 3) :: st) A := x_nx (op := o_push 1 (.int 3)) rfl rfl
theorem x_391_46  : exG TB d 391 46 L [b0, .ref p] A = kw (sel (gc A p) [(30, 291)]) [.ref p, b0] d 391 49 L [] A := x_cvb (op := o_cv [(30, 291)] 1 3 false none) rfl rfl x_noh rfl
theorem x_391_49  : exG TB d 391 49 L [v] A = ck (okv 1 v) (some (.inl (some v), A)) := x_outg (op := o_ret 1) rfl rfl
theorem x_391_50  : exG TB d 391 50 (some v :: r9) st A = rg v (exG TB d 391 51 (some v :: r9) (v :: st) A) := x_rg (op := o_aload 0 1) rfl rfl
theorem x_391_51  : exG TB d 391 51 (a0 :: some (.int i1) :: r9) st A = exG TB d 391 52 (a0 :: some (.int i1) :: r9) (.int i1 :: st) A := x_nx (op := o_iload 1 1) rfl rfl
theorem x_391_52  : exG TB d 391 52 (a0 :: a1 :: some (.int i1) :: r9) st A = exG TB d 391 53 (a0 :: a1 :: some (.int i1) :: r9) (.int i1 :: st) A := x_nx (op := o_iload 2 1) rfl rfl
theorem x_391_53  : exG TB d 391 53 L [b1, b0, .ref p] A = kw (sel (gc A p) [(30, 392)]) [.ref p, b0, b1] d 391 56 L [] A := x_cvb (op := o_cv [(30, 392)] 2 3 false none) rfl rfl x_noh rfl
theorem x_391_56  : exG TB d 391 56 (a0 :: a1 :: a2 :: a3 :: r9) (.int i1 :: st) A = exG TB d 391 57 (a0 :: a1 :: a2 :: some (.int i1) :: r9) st A := x_nx (op := o_istore 3 1) rfl rfl
theorem x_391_57  : exG TB d 391 57 (some v :: r9) st A = rg v (exG TB d 391 58 (some v :: r9) (v :: st) A) := x_rg (op := o_aload 0 1) rfl rfl
theorem x_391_58  : exG TB d 391 58 (a0 :: some (.int i1) :: r9) st A = exG TB d 391 59 (a0 :: some (.int i1) :: r9) (.int i1 :: st) A := x_nx (op := o_iload 1 1) rfl rfl
theorem x_391_59  : exG TB d 391 59 L st A = exG TB d 391 61 L (.int (nI 11) :: st) A := x_nx (op := o_push 2 (.int 11)) rfl rfl
theorem x_391_61  : exG TB d 391 61 (a0 :: a1 :: a2 :: some (.int i1) :: r9) st A = exG TB d 391 62 (a0 :: a1 :: a2 :: some (.int i1) :: r9) (.int i1 :: st) A := x_nx (op := o_iload 3 1) rfl rfl
theorem x_391_62  : exG TB d 391 62 L (.int i1 :: st) A = if i1 = nI 0 then exG TB d 391 69 L st A else exG TB d 391 65 L st A := x_if (op := o_if (fun x => decide (x = 0)) 69) rfl rfl rfl
theorem x_391_65  : exG TB d 391 65 L st A = exG TB d 391 66 L (.int (nI 1) :: st) A := x_nx (op := o_push 1 (.int 1)) rfl rfl
theorem x_391_66  : exG TB d 391 66 L st A = exG TB d 391 70 L st A := x_nx (op := o_goto 70) rfl rfl
theorem x_391_69  : exG TB d 391 69 L st A = exG TB d 391 70 L (.int (nI 2) :: st) A := x_nx (op := o_push 1 (.int 2)) rfl rfl
theorem x_391_70  : exG TB d 391 70 L [b2, b1, b0, .ref p] A = kw0 (sel (gc A p) [(30, 383)]) [.ref p, b0, b1, b2] d 391 73 L [] A := x_c0b (op := o_cv [(30, 383)] 3 3 true none) rfl rfl x_noh rfl
theorem x_391_73  : exG TB d 391 73 (some v :: r9) st A = rg v (exG TB d 391 74 (some v :: r9) (v :: st) A) := x_rg (op := o_aload 0 1) rfl rfl
theorem x_391_74  : exG TB d 391 74 (a0 :: some (.int i1) :: r9) st A = exG TB d 391 75 (a0 :: some (.int i1) :: r9) (.int i1 :: st) A := x_nx (op := o_iload 1 1) rfl rfl
theorem x_391_75  : exG TB d 391 75 L st A = exG TB d 391 77 L (.int (nI 12) :: st) A := x_nx (op := o_push 2 (.int 12)) rfl rfl
theorem x_391_77  : exG TB d 391 77 (a0 :: a1 :: a2 :: some (.int i1) :: r9) st A = exG TB d 391 78 (a0 :: a1 :: a2 :: some (.int i1) :: r9) (.int i1 :: st) A := x_nx (op := o_iload 3 1) rfl rfl
theorem x_391_78  : exG TB d 391 78 L [b2, b1, b0, .ref p] A = kw0 (sel (gc A p) [(30, 383)]) [.ref p, b0, b1, b2] d 391 81 L [] A := x_c0b (op := o_cv [(30, 383)] 3 3 true none) rfl rfl x_noh rfl
theorem x_391_81  : exG TB d 391 81 (some v :: r9) st A = rg v (exG TB d 391 82 (some v :: r9) (v :: st) A) := x_rg (op := o_aload 0 1) rfl rfl
theorem x_391_82  : exG TB d 391 82 (a0 :: some (.int i1) :: r9) st A = exG TB d 391 83 (a0 :: some (.int i1) :: r9) (.int i1 :: st) A := x_nx (op := o_iload 1 1) rfl rfl
theorem x_391_83  : exG TB d 391 83 L st A = exG TB d 391 84 L (.int (nI 1) :: st) A := x_nx (op := o_push 1 (.int 1)) rfl rfl
theorem x_391_84  : exG TB d 391 84 L [b1, b0, .ref p] A = kw (sel (gc A p) [(30, 333)]) [.ref p, b0, b1] d 391 87 L [] A := x_cvb (op := o_cv [(30, 333)] 2 3 false none) rfl rfl x_noh rfl
theorem x_391_87  : exG TB d 391 87 (a0 :: a1 :: a2 :: a3 :: a4 :: r9) (.int i1 :: st) A = exG TB d 391 89 (a0 :: a1 :: a2 :: a3 :: some (.int i1) :: r9) st A := x_nx (op := o_istore 4 2) rfl rfl
theorem x_391_89  : exG TB d 391 89 (a0 :: a1 :: a2 :: a3 :: some (.int i1) :: r9) st A = exG TB d 391 91 (a0 :: a1 :: a2 :: a3 :: some (.int i1) :: r9) (.int i1 :: st) A := x_nx (op := o_iload 4 2) rfl rfl
theorem x_391_91  : exG TB d 391 91 L st A = exG TB d 391 92 L (.int nN :: st) A := x_nx (op := o_push 1 (.int (-1))) rfl rfl
theorem x_391_92  : exG TB d 391 92 L (.int i2 :: .int i1 :: st) A = if ¬ i1 = i2 then exG TB d 391 121 L st A else exG TB d 391 95 L st A := x_if (op := o_icmp (fun x y => decide (¬ x = y)) 121) rfl rfl rfl
theorem x_391_95  : exG TB d 391 95 (some v :: r9) st A = rg v (exG TB d 391 96 (some v :: r9) (v :: st) A) := x_rg (op := o_aload 0 1) rfl rfl
theorem x_391_96  : exG TB d 391 96 L (.ref p :: st) A = kv (gf A p 148) d 391 99 L st A := x_bd (op := o_get 148) rfl rfl (fun _ => rfl)
theorem x_391_99  : exG TB d 391 99 L st A = exG TB d 391 102 L (.int (nI 235) :: st) A := x_nx (op := o_push 3 (.int 235)) rfl rfl
theorem x_391_102  : exG TB d 391 102 L st A = exG TB d 391 103 L (.int (nI 3) :: st) A := x_nx (op := o_push 1 (.int 3)) rfl rfl
theorem x_391_103  : exG TB d 391 103 (some v :: r9) st A = rg v (exG TB d 391 104 (some v :: r9) (v :: st) A) := x_rg (op := o_aload 0 1) rfl rfl
theorem x_391_104  : exG TB d 391 104 (a0 :: some (.int i1) :: r9) st A = exG TB d 391 105 (a0 :: some (.int i1) :: r9) (.int i1 :: st) A := x_nx (op := o_iload 1 1) rfl rfl
theorem x_391_105  : exG TB d 391 105 L st A = exG TB d 391 106 L (.int (nI 0) :: st) A := x_nx (op := o_push 1 (.int 0)) rfl rfl
theorem x_391_106  : exG TB d 391 106 L [b1, b0, .ref p, w0, w1, w2] A = kw (sel (gc A p) [(30, 333)]) [.ref p, b0, b1] d 391 109 L [w0, w1, w2] A := x_cvb (op := o_cv [(30, 333)] 2 3 false none) rfl rfl x_noh rfl
theorem x_391_109  : exG TB d 391 109 L (.int i2 :: .int i1 :: st) A = exG TB d 391 110 L (.int (i1 * i2) :: st) A := x_nx (op := o_iop (fun x y => x * y)) rfl rfl
theorem x_391_110  : exG TB d 391 110 L (.int i2 :: .int i1 :: st) A = exG TB d 391 111 L (.int (i1 + i2) :: st) A := x_nx (op := o_iop (fun x y => x + y)) rfl rfl
theorem x_391_111  : exG TB d 391 111 L st A = exG TB d 391 112 L (.int (nI 2) :: st) A := x_nx (op := o_push 1 (.int 2)) rfl rfl
theorem x_391_112  : exG TB d 391 112 L (.int i2 :: .int i1 :: st) A = exG TB d 391 113 L (.int (i1 + i2) :: st) A := x_nx (op := o_iop (fun x y => x + y)) rfl rfl
theorem x_391_113  : exG TB d 391 113 L (v :: v2 :: st) A = ck (c1 v && c1 v2) (exG TB d 391 114 L (v :: v2 :: v :: v2 :: st) A) := x_gd (op := o_dup2) rfl rfl
theorem x_391_114  : exG TB d 391 114 L (.int i1 :: .ref p :: st) A = ki (rdI 0 (ga A p) i1) d 391 115 L st A := x_bd (op := o_rdI 0) rfl rfl (fun _ => rfl)
theorem x_391_115  : exG TB d 391 115 (a0 :: a1 :: a2 :: some (.int i1) :: r9) st A = exG TB d 391 116 (a0 :: a1 :: a2 :: some (.int i1) :: r9) (.int i1 :: st) A := x_nx (op := o_iload 3 1) rfl rfl
theorem x_391_116  : exG TB d 391 116 L (.int i2 :: .int i1 :: st) A = exG TB d 391 117 L (.int (i1 - i2) :: st) A := x_nx (op := o_iop (fun x y => x - y)) rfl rfl
theorem x_391_117  : exG TB d 391 117 L (.int i2 :: .int i1 :: .ref p :: st) A = ka (wrI 0 (ga A p) i1 i2) p d 391 118 L st A := x_bd (op := o_wrI 0) rfl rfl (fun _ => rfl)
theorem x_391_118  : exG TB d 391 118 L st A = exG TB d 391 137 L st A := x_nx (op := o_goto 137) rfl rfl
theorem x_391_121  : exG TB d 391 121 (some v :: r9) st A = rg v (exG TB d 391 122 (some v :: r9) (v :: st) A) := x_rg (op := o_aload 0 1) rfl rfl
theorem x_391_122  : exG TB d 391 122 (a0 :: a1 :: a2 :: a3 :: some (.int i1) :: r9) st A = exG TB d 391 124 (a0 :: a1 :: a2 :: a3 :: some (.int i1) :: r9) (.int i1 :: st) A := x_nx (op := o_iload 4 2) rfl rfl
theorem x_391_124  : exG TB d 391 124 L st A = exG TB d 391 125 L (.int (nI 0) :: st) A := x_nx (op := o_push 1 (.int 0)) rfl rfl
theorem x_391_125  : exG TB d 391 125 (a0 :: a1 :: a2 :: some (.int i1) :: r9) st A = exG TB d 391 126 (a0 :: a1 :: a2 :: some (.int i1) :: r9) (.int i1 :: st) A := x_nx (op := o_iload 3 1) rfl rfl
theorem x_391_126  : exG TB d 391 126 L [b2, b1, b0, .ref p] A = kw0 (sel (gc A p) [(30, 314)]) [.ref p, b0, b1, b2] d 391 129 L [] A := x_c0b (op := o_cv [(30, 314)] 3 3 true none) rfl rfl x_noh rfl
theorem x_391_129  : exG TB d 391 129 (some v :: r9) st A = rg v (exG TB d 391 130 (some v :: r9) (v :: st) A) := x_rg (op := o_aload 0 1) rfl rfl
theorem x_391_130  : exG TB d 391 130 (a0 :: a1 :: a2 :: a3 :: some (.int i1) :: r9) st A = exG TB d 391 132 (a0 :: a1 :: a2 :: a3 :: some (.int i1) :: r9) (.int i1 :: st) A := x_nx (op := o_iload 4 2) rfl rfl
theorem x_391_132  : exG TB d 391 132 L st A = exG TB d 391 133 L (.int (nI 5) :: st) A := x_nx (op := o_push 1 (.int 5)) rfl rfl
theorem x_391_133  : exG TB d 391 133 (a0 :: a1 :: a2 :: some (.int i1) :: r9) st A = exG TB d 391 134 (a0 :: a1 :: a2 :: some (.int i1) :: r9) (.int i1 :: st) A := x_nx (op := o_iload 3 1) rfl rfl
theorem x_391_134  : exG TB d 391 134 L [b2, b1, b0, .ref p] A = kw0 (sel (gc A p) [(30, 314)]) [.ref p, b0, b1, b2] d 391 137 L [] A := x_c0b (op := o_cv [(30, 314)] 3 3 true none) rfl rfl x_noh rfl
theorem x_391_137  : exG TB d 391 137 (a0 :: a1 :: a2 :: some (.int i1) :: r9) st A = exG TB d 391 138 (a0 :: a1 :: a2 :: some (.int i1) :: r9) (.int i1 :: st) A := x_nx (op := o_iload 3 1) rfl rfl
theorem x_391_138  : exG TB d 391 138 L [v] A = ck (okv 1 v) (some (.inl (some v), A)) := x_outg (op := o_ret 1) rfl rfl
theorem e_392 {j1 : Int32} {j2 : Int32} : evG TB (d + 1) 392 [.ref p, .int j1, .int j2] A = exG TB d 392 0 [some (.ref p), some (.int j1), some (.int j2), none, none] [] A := evG_eq TB d 392 _ A
theorem x_392_0  : exG TB d 392 0 (some v :: r9) st A = rg v (exG TB d 392 1 (some v :: r9) (v :: st) A) := x_rg (op := o_aload 0 1) rfl rfl
theorem x_392_1  : exG TB d 392 1 (a0 :: some (.int i1) :: r9) st A = exG TB d 392 2 (a0 :: some (.int i1) :: r9) (.int i1 :: st) A := x_nx (op := o_iload 1 1) rfl rfl
theorem x_392_2  : exG TB d 392 2 L st A = exG TB d 392 4 L (.int (nI 17) :: st) A := x_nx (op := o_push 2 (.int 17)) rfl rfl
theorem x_392_4  : exG TB d 392 4 L [b1, b0, .ref p] A = kw (sel (gc A p) [(30, 333)]) [.ref p, b0, b1] d 392 7 L [] A := x_cvb (op := o_cv [(30, 333)] 2 3 false none) rfl rfl x_noh rfl
theorem x_392_7  : exG TB d 392 7 (a0 :: a1 :: a2 :: a3 :: r9) (.int i1 :: st) A = exG TB d 392 8 (a0 :: a1 :: a2 :: some (.int i1) :: r9) st A := x_nx (op := o_istore 3 1) rfl rfl
theorem x_392_8  : exG TB d 392 8 (a0 :: a1 :: a2 :: some (.int i1) :: r9) st A = exG TB d 392 9 (a0 :: a1 :: a2 :: some (.int i1) :: r9) (.int i1 :: st) A := x_nx (op := o_iload 3 1) rfl rfl
theorem x_392_9  : exG TB d 392 9 (some v :: r9) st A = rg v (exG TB d 392 10 (some v :: r9) (v :: st) A) := x_rg (op := o_aload 0 1) rfl rfl
theorem x_392_10  : exG TB d 392 10 (a0 :: some (.int i1) :: r9) st A = exG TB d 392 11 (a0 :: some (.int i1) :: r9) (.int i1 :: st) A := x_nx (op := o_iload 1 1) rfl rfl
theorem x_392_11  : exG TB d 392 11 L st A = exG TB d 392 13 L (.int (nI 10) :: st) A := x_nx (op := o_push 2 (.int 10)) rfl rfl
theorem x_392_13  : exG TB d 392 13 L [b1, b0, .ref p, w0] A = kw (sel (gc A p) [(30, 333)]) [.ref p, b0, b1] d 392 16 L [w0] A := x_cvb (op := o_cv [(30, 333)] 2 3 false none) rfl rfl x_noh rfl
theorem x_392_16  : exG TB d 392 16 L (.int i2 :: .int i1 :: st) A = if ¬ i1 = i2 then exG TB d 392 23 L st A else exG TB d 392 19 L st A := x_if (op := o_icmp (fun x y => decide (¬ x = y)) 23) rfl rfl rfl
theorem x_392_19  : exG TB d 392 19 L st A = exG TB d 392 20 L (.int (nI 1) :: st) A := x_nx (op := o_push 1 (.int 1)) rfl rfl
theorem x_392_20  : exG TB d 392 20 L st A = exG TB d 392 24 L st A := x_nx (op := o_goto 24) rfl rfl
theorem x_392_23  : exG TB d 392 23 L st A = exG TB d 392 24 L (.int (nI 0) :: st) A := x_nx (op := o_push 1 (.int 0)) rfl rfl
theorem x_392_24  : exG TB d 392 24 (a0 :: a1 :: a2 :: a3 :: a4 :: r9) (.int i1 :: st) A = exG TB d 392 26 (a0 :: a1 :: a2 :: a3 :: some (.int i1) :: r9) st A := x_nx (op := o_istore 4 2) rfl rfl
theorem x_392_26  : exG TB d 392 26 (a0 :: a1 :: some (.int i1) :: r9) st A = exG TB d 392 27 (a0 :: a1 :: some (.int i1) :: r9) (.int i1 :: st) A := x_nx (op := o_iload 2 1) rfl rfl
theorem x_392_27  : exG TB d 392 27 L (.int i1 :: st) A = if ¬ i1 = nI 0 then exG TB d 392 59 L st A else exG TB d 392 30 L st A := x_if (op := o_if (fun x => decide (¬ x = 0)) 59) rfl rfl rfl
theorem x_392_30  : exG TB d 392 30 (a0 :: a1 :: a2 :: a3 :: some (.int i1) :: r9) st A = exG TB d 392 32 (a0 :: a1 :: a2 :: a3 :: some (.int i1) :: r9) (.int i1 :: st) A := x_nx (op := o_iload 4 2) rfl rfl
theorem x_392_32  : exG TB d 392 32 L (.int i1 :: st) A = if i1 = nI 0 then exG TB d 392 57 L st A else exG TB d 392 35 L st A := x_if (op := o_if (fun x => decide (x = 0)) 57) rfl rfl rfl
theorem x_392_35  : exG TB d 392 35 (some v :: r9) st A = rg v (exG TB d 392 36 (some v :: r9) (v :: st) A) := x_rg (op := o_aload 0 1) rfl rfl
theorem x_392_36  : exG TB d 392 36 (a0 :: some (.int i1) :: r9) st A = exG TB d 392 37 (a0 :: some (.int i1) :: r9) (.int i1 :: st) A := x_nx (op := o_iload 1 1) rfl rfl
theorem x_392_37  : exG TB d 392 37 L [b0, .ref p] A = kw (sel (gc A p) [(30, 393)]) [.ref p, b0] d 392 40 L [] A := x_cvb (op := o_cv [(30, 393)] 1 3 false none) rfl rfl x_noh rfl
theorem x_392_40  : exG TB d 392 40 (some v :: r9) st A = rg v (exG TB d 392 41 (some v :: r9) (v :: st) A) := x_rg (op := o_aload 0 1) rfl rfl
theorem x_392_41  : exG TB d 392 41 L st A = exG TB d 392 42 L (.int (nI 5) :: st) A := x_nx (op := o_push 1 (.int 5)) rfl rfl
theorem x_392_42  : exG TB d 392 42 L [b0, .ref p, w0] A = kw (sel (gc A p) [(30, 328)]) [.ref p, b0] d 392 45 L [w0] A := x_cvb (op := o_cv [(30, 328)] 1 3 false none) rfl rfl x_noh rfl
theorem x_392_45  : exG TB d 392 45 L (.int i2 :: .int i1 :: st) A = if i2 ≤ i1 then exG TB d 392 57 L st A else exG TB d 392 48 L st A := x_if (op := o_icmp (fun x y => decide (y ≤ x)) 57) rfl rfl rfl
theorem x_392_48  : exG TB d 392 48 (some v :: r9) st A = rg v (exG TB d 392 49 (some v :: r9) (v :: st) A) := x_rg (op := o_aload 0 1) rfl rfl
theorem x_392_49  : exG TB d 392 49 (a0 :: some (.int i1) :: r9) st A = exG TB d 392 50 (a0 :: some (.int i1) :: r9) (.int i1 :: st) A := x_nx (op := o_iload 1 1) rfl rfl
theorem x_392_50  : exG TB d 392 50 L st A = exG TB d 392 51 L (.int (nI 2) :: st) A := x_nx (op := o_push 1 (.int 2)) rfl rfl
theorem x_392_51  : exG TB d 392 51 L [b1, b0, .ref p] A = kw (sel (gc A p) [(30, 333)]) [.ref p, b0, b1] d 392 54 L [] A := x_cvb (op := o_cv [(30, 333)] 2 3 false none) rfl rfl x_noh rfl
theorem x_392_54  : exG TB d 392 54 L st A = exG TB d 392 58 L st A := x_nx (op := o_goto 58) rfl rfl
theorem x_392_57  : exG TB d 392 57 L st A = exG TB d 392 58 L (.int (nI 0) :: st) A := x_nx (op := o_push 1 (.int 0)) rfl rfl
theorem x_392_58  : exG TB d 392 58 L [v] A = ck (okv 1 v) (some (.inl (some v), A)) := x_outg (op := o_ret 1) rfl rfl
theorem x_392_59  : exG TB d 392 59 (a0 :: a1 :: some (.int i1) :: r9) st A = exG TB d 392 60 (a0 :: a1 :: some (.int i1) :: r9) (.int i1 :: st) A := x_nx (op := o_iload 2 1) rfl rfl
theorem x_392_60  : exG TB d 392 60 L st A = exG TB d 392 61 L (.int (nI 1) :: st) A := x_nx (op := o_push 1 (.int 1)) rfl rfl
theorem x_392_61  : exG TB d 392 61 L (.int i2 :: .int i1 :: st) A = if ¬ i1 = i2 then exG TB d 392 70 L st A else exG TB d 392 64 L st A := x_if (op := o_icmp (fun x y => decide (¬ x = y)) 70) rfl rfl rfl
theorem x_392_64  : exG TB d 392 64 (some v :: r9) st A = rg v (exG TB d 392 65 (some v :: r9) (v :: st) A) := x_rg (op := o_aload 0 1) rfl rfl
theorem x_392_65  : exG TB d 392 65 (a0 :: some (.int i1) :: r9) st A = exG TB d 392 66 (a0 :: some (.int i1) :: r9) (.int i1 :: st) A := x_nx (op := o_iload 1 1) rfl rfl
theorem x_392_66  : exG TB d 392 66 L [b0, .ref p] A = kw (sel (gc A p) [(30, 394)]) [.ref p, b0] d 392 69 L [] A := x_cvb (op := o_cv [(30, 394)] 1 3 false none) rfl rfl x_noh rfl
theorem x_392_69  : exG TB d 392 69 L [v] A = ck (okv 1 v) (some (.inl (some v), A)) := x_outg (op := o_ret 1) rfl rfl
theorem x_392_70  : exG TB d 392 70 (a0 :: a1 :: a2 :: some (.int i1) :: r9) st A = exG TB d 392 71 (a0 :: a1 :: a2 :: some (.int i1) :: r9) (.int i1 :: st) A := x_nx (op := o_iload 3 1) rfl rfl
theorem x_392_71  : exG TB d 392 71 L (.int i1 :: st) A = if i1 ≤ nI 0 then exG TB d 392 88 L st A else exG TB d 392 74 L st A := x_if (op := o_if (fun x => decide (x ≤ 0)) 88) rfl rfl rfl
theorem x_392_74  : exG TB d 392 74 (a0 :: a1 :: a2 :: a3 :: some (.int i1) :: r9) st A = exG TB d 392 76 (a0 :: a1 :: a2 :: a3 :: some (.int i1) :: r9) (.int i1 :: st) A := x_nx (op := o_iload 4 2) rfl rfl
theorem x_392_76  : exG TB d 392 76 L (.int i1 :: st) A = if ¬ i1 = nI 0 then exG TB d 392 88 L st A else exG TB d 392 79 L st A := x_if (op := o_if (fun x => decide (¬ x = 0)) 88) rfl rfl rfl
theorem x_392_79  : exG TB d 392 79 (some v :: r9) st A = rg v (exG TB d 392 80 (some v :: r9) (v :: st) A) := x_rg (op := o_aload 0 1) rfl rfl
theorem x_392_80  : exG TB d 392 80 (a0 :: some (.int i1) :: r9) st A = exG TB d 392 81 (a0 :: some (.int i1) :: r9) (.int i1 :: st) A := x_nx (op := o_iload 1 1) rfl rfl
theorem x_392_81  : exG TB d 392 81 L st A = exG TB d 392 82 L (.int (nI 5) :: st) A := x_nx (op := o_push 1 (.int 5)) rfl rfl
theorem x_392_82  : exG TB d 392 82 L [b1, b0, .ref p] A = kw (sel (gc A p) [(30, 333)]) [.ref p, b0, b1] d 392 85 L [] A := x_cvb (op := o_cv [(30, 333)] 2 3 false none) rfl rfl x_noh rfl
theorem x_392_85  : exG TB d 392 85 L st A = exG TB d 392 89 L st A := x_nx (op := o_goto 89) rfl rfl
theorem x_392_88  : exG TB d 392 88 L st A = exG TB d 392 89 L (.int (nI 0) :: st) A := x_nx (op := o_push 1 (.int 0)) rfl rfl
theorem x_392_89  : exG TB d 392 89 L [v] A = ck (okv 1 v) (some (.inl (some v), A)) := x_outg (op := o_ret 1) rfl rfl
theorem e_393 {j1 : Int32} : evG TB (d + 1) 393 [.ref p, .int j1] A = exG TB d 393 0 [some (.ref p), some (.int j1), none, none] [] A := evG_eq TB d 393 _ A
theorem x_393_0  : exG TB d 393 0 L st A = exG TB d 393 2 L (.int (nI 101) :: st) A := x_nx (op := o_push 2 (.int 101)) rfl rfl
theorem x_393_2  : exG TB d 393 2 (a0 :: a1 :: a2 :: r9) (.int i1 :: st) A = exG TB d 393 3 (a0 :: a1 :: some (.int i1) :: r9) st A := x_nx (op := o_istore 2 1) rfl rfl
theorem x_393_3  : exG TB d 393 3 L st A = exG TB d 393 4 L (.int (nI 0) :: st) A := x_nx (op := o_push 1 (.int 0)) rfl rfl
theorem x_393_4  : exG TB d 393 4 (a0 :: a1 :: a2 :: a3 :: r9) (.int i1 :: st) A = exG TB d 393 5 (a0 :: a1 :: a2 :: some (.int i1) :: r9) st A := x_nx (op := o_istore 3 1) rfl rfl
theorem x_393_5  : exG TB d 393 5 (a0 :: a1 :: a2 :: some (.int i1) :: r9) st A = exG TB d 393 6 (a0 :: a1 :: a2 :: some (.int i1) :: r9) (.int i1 :: st) A := x_nx (op := o_iload 3 1) rfl rfl
theorem x_393_6  : exG TB d 393 6 (some v :: r9) st A = rg v (exG TB d 393 7 (some v :: r9) (v :: st) A) := x_rg (op := o_aload 0 1) rfl rfl
theorem x_393_7  : exG TB d 393 7 L (.ref p :: st) A = kv (gf A p 148) d 393 10 L st A := x_bd (op := o_get 148) rfl rfl (fun _ => rfl)
theorem x_393_10  : exG TB d 393 10 L st A = exG TB d 393 12 L (.int (nI 12) :: st) A := x_nx (op := o_push 2 (.int 12)) rfl rfl
theorem x_393_12  : exG TB d 393 12 L (.int i1 :: .ref p :: st) A = ki (rdI 0 (ga A p) i1) d 393 13 L st A := x_bd (op := o_rdI 0) rfl rfl (fun _ => rfl)
theorem x_393_13  : exG TB d 393 13 L (.int i2 :: .int i1 :: st) A = if i2 ≤ i1 then exG TB d 393 48 L st A else exG TB d 393 16 L st A := x_if (op := o_icmp (fun x y => decide (y ≤ x)) 48) rfl rfl rfl
theorem x_393_16  : exG TB d 393 16 (some v :: r9) st A = rg v (exG TB d 393 17 (some v :: r9) (v :: st) A) := x_rg (op := o_aload 0 1) rfl rfl
theorem x_393_17  : exG TB d 393 17 (a0 :: a1 :: a2 :: some (.int i1) :: r9) st A = exG TB d 393 18 (a0 :: a1 :: a2 :: some (.int i1) :: r9) (.int i1 :: st) A := x_nx (op := o_iload 3 1) rfl rfl
theorem x_393_18  : exG TB d 393 18 L st A = exG TB d 393 20 L (.int (nI 6) :: st) A := x_nx (op := o_push 2 (.int 6)) rfl rfl
theorem x_393_20  : exG TB d 393 20 L [b1, b0, .ref p] A = kw (sel (gc A p) [(30, 331)]) [.ref p, b0, b1] d 393 23 L [] A := x_cvb (op := o_cv [(30, 331)] 2 3 false none) rfl rfl x_noh rfl
theorem x_393_23  : exG TB d 393 23 (a0 :: some (.int i1) :: r9) st A = exG TB d 393 24 (a0 :: some (.int i1) :: r9) (.int i1 :: st) A := x_nx (op := o_iload 1 1) rfl rfl
theorem x_393_24  : exG TB d 393 24 L (.int i2 :: .int i1 :: st) A = if ¬ i1 = i2 then exG TB d 393 40 L st A else exG TB d 393 27 L st A := x_if (op := o_icmp (fun x y => decide (¬ x = y)) 40) rfl rfl rfl
theorem x_393_27  : exG TB d 393 27 (a0 :: a1 :: some (.int i1) :: r9) st A = exG TB d 393 28 (a0 :: a1 :: some (.int i1) :: r9) (.int i1 :: st) A := x_nx (op := o_iload 2 1) rfl rfl
theorem x_393_28  : exG TB d 393 28 (some v :: r9) st A = rg v (exG TB d 393 29 (some v :: r9) (v :: st) A) := x_rg (op := o_aload 0 1) rfl rfl
theorem x_393_29  : exG TB d 393 29 (a0 :: a1 :: a2 :: some (.int i1) :: r9) st A = exG TB d 393 30 (a0 :: a1 :: a2 :: some (.int i1) :: r9) (.int i1 :: st) A := x_nx (op := o_iload 3 1) rfl rfl
theorem x_393_30  : exG TB d 393 30 L st A = exG TB d 393 31 L (.int (nI 4) :: st) A := x_nx (op := o_push 1 (.int 4)) rfl rfl
theorem x_393_31  : exG TB d 393 31 L [b1, b0, .ref p, w0] A = kw (sel (gc A p) [(30, 331)]) [.ref p, b0, b1] d 393 34 L [w0] A := x_cvb (op := o_cv [(30, 331)] 2 3 false none) rfl rfl x_noh rfl
theorem x_393_34  : exG TB d 393 34 L [b1, b0] A = kc (evG TB d 7 [b0, b1] A) d 393 37 L [] := x_cv (op := o_cs 7 2 false none) rfl rfl x_noh rfl
theorem x_393_37  : exG TB d 393 37 L st A = exG TB d 393 41 L st A := x_nx (op := o_goto 41) rfl rfl
theorem x_393_40  : exG TB d 393 40 (a0 :: a1 :: some (.int i1) :: r9) st A = exG TB d 393 41 (a0 :: a1 :: some (.int i1) :: r9) (.int i1 :: st) A := x_nx (op := o_iload 2 1) rfl rfl
theorem x_393_41  : exG TB d 393 41 (a0 :: a1 :: a2 :: r9) (.int i1 :: st) A = exG TB d 393 42 (a0 :: a1 :: some (.int i1) :: r9) st A := x_nx (op := o_istore 2 1) rfl rfl
theorem x_393_42  : exG TB d 393 42 (a0 :: a1 :: a2 :: some (.int i1) :: r9) st A = exG TB d 393 45 (a0 :: a1 :: a2 :: some (.int (i1 + (nI 1))) :: r9) st A := x_nx (op := o_iinc 3 1) rfl rfl
theorem x_393_45  : exG TB d 393 45 L st A = exG TB d 393 5 L st A := x_nx (op := o_goto 5) rfl rfl
theorem x_393_48  : exG TB d 393 48 (a0 :: a1 :: some (.int i1) :: r9) st A = exG TB d 393 49 (a0 :: a1 :: some (.int i1) :: r9) (.int i1 :: st) A := x_nx (op := o_iload 2 1) rfl rfl
theorem x_393_49  : exG TB d 393 49 L [v] A = ck (okv 1 v) (some (.inl (some v), A)) := x_outg (op := o_ret 1) rfl rfl
theorem e_394 {j1 : Int32} : evG TB (d + 1) 394 [.ref p, .int j1] A = exG TB d 394 0 [some (.ref p), some (.int j1), none, none, none, none] [] A := evG_eq TB d 394 _ A
theorem x_394_0  : exG TB d 394 0 L st A = exG TB d 394 3 L (.int (nI 2200) :: st) A := x_nx (op := o_push 3 (.int 2200)) rfl rfl
theorem x_394_3  : exG TB d 394 3 (some v :: r9) st A = rg v (exG TB d 394 4 (some v :: r9) (v :: st) A) := x_rg (op := o_aload 0 1) rfl rfl
theorem x_394_4  : exG TB d 394 4 (a0 :: some (.int i1) :: r9) st A = exG TB d 394 5 (a0 :: some (.int i1) :: r9) (.int i1 :: st) A := x_nx (op := o_iload 1 1) rfl rfl
theorem x_394_5  : exG TB d 394 5 L st A = exG TB d 394 7 L (.int (nI 15) :: st) A := x_nx (op := o_push 2 (.int 15)) rfl rfl
theorem x_394_7  : exG TB d 394 7 L [b1, b0, .ref p, w0] A = kw (sel (gc A p) [(30, 333)]) [.ref p, b0, b1] d 394 10 L [w0] A := x_cvb (op := o_cv [(30, 333)] 2 3 false none) rfl rfl x_noh rfl
theorem x_394_10  : exG TB d 394 10 L (.int i2 :: .int i1 :: st) A = exG TB d 394 11 L (.int (i1 + i2) :: st) A := x_nx (op := o_iop (fun x y => x + y)) rfl rfl
theorem x_394_11  : exG TB d 394 11 (a0 :: a1 :: a2 :: r9) (.int i1 :: st) A = exG TB d 394 12 (a0 :: a1 :: some (.int i1) :: r9) st A := x_nx (op := o_istore 2 1) rfl rfl
theorem x_394_12  : exG TB d 394 12 (some v :: r9) st A = rg v (exG TB d 394 13 (some v :: r9) (v :: st) A) := x_rg (op := o_aload 0 1) rfl rfl
theorem x_394_13  : exG TB d 394 13 (some v :: r9) st A = rg v (exG TB d 394 14 (some v :: r9) (v :: st) A) := x_rg (op := o_aload 0 1) rfl rfl
theorem x_394_14  : exG TB d 394 14 L (.ref p :: st) A = kv (gf A p 148) d 394 17 L st A := x_bd (op := o_get 148) rfl rfl (fun _ => rfl)
theorem x_394_17  : exG TB d 394 17 (a0 :: a1 :: some (.int i1) :: r9) st A = exG TB d 394 18 (a0 :: a1 :: some (.int i1) :: r9) (.int i1 :: st) A := x_nx (op := o_iload 2 1) rfl rfl
theorem x_394_18  : exG TB d 394 18 L (.int i1 :: .ref p :: st) A = ki (rdI 0 (ga A p) i1) d 394 19 L st A := x_bd (op := o_rdI 0) rfl rfl (fun _ => rfl)
theorem x_394_19  : exG TB d 394 19 L st A = exG TB d 394 21 L (.int (nI 16) :: st) A := x_nx (op := o_push 2 (.int 16)) rfl rfl
theorem x_394_21  : exG TB d 394 21 L (.int i2 :: .int i1 :: st) A = ck (decide (¬ i2 = nI 0)) (exG TB d 394 22 L (.int (i1 - i1 / i2 * i2) :: st) A) := x_gd (op := o_iopz (fun x y => x - x / y * y)) rfl rfl
theorem x_394_22  : exG TB d 394 22 (some v :: r9) st A = rg v (exG TB d 394 23 (some v :: r9) (v :: st) A) := x_rg (op := o_aload 0 1) rfl rfl
theorem x_394_23  : exG TB d 394 23 L (.ref p :: st) A = kv (gf A p 148) d 394 26 L st A := x_bd (op := o_get 148) rfl rfl (fun _ => rfl)
theorem x_394_26  : exG TB d 394 26 (a0 :: a1 :: some (.int i1) :: r9) st A = exG TB d 394 27 (a0 :: a1 :: some (.int i1) :: r9) (.int i1 :: st) A := x_nx (op := o_iload 2 1) rfl rfl
theorem x_394_27  : exG TB d 394 27 (some v :: r9) st A = rg v (exG TB d 394 28 (some v :: r9) (v :: st) A) := x_rg (op := o_aload 0 1) rfl rfl
theorem x_394_28  : exG TB d 394 28 (a0 :: some (.int i1) :: r9) st A = exG TB d 394 29 (a0 :: some (.int i1) :: r9) (.int i1 :: st) A := x_nx (op := o_iload 1 1) rfl rfl
theorem x_394_29  : exG TB d 394 29 L st A = exG TB d 394 31 L (.int (nI 8) :: st) A := x_nx (op := o_push 2 (.int 8)) rfl rfl
theorem x_394_31  : exG TB d 394 31 L [b1, b0, .ref p, w0, w1, w2, w3] A = kw (sel (gc A p) [(30, 333)]) [.ref p, b0, b1] d 394 34 L [w0, w1, w2, w3] A := x_cvb (op := o_cv [(30, 333)] 2 3 false none) rfl rfl x_noh rfl
theorem x_394_34  : exG TB d 394 34 L (.int i2 :: .int i1 :: st) A = exG TB d 394 35 L (.int (i1 + i2) :: st) A := x_nx (op := o_iop (fun x y => x + y)) rfl rfl
theorem x_394_35  : exG TB d 394 35 L st A = exG TB d 394 36 L (.int (nI 1) :: st) A := x_nx (op := o_push 1 (.int 1)) rfl rfl
theorem x_394_36  : exG TB d 394 36 L (.int i2 :: .int i1 :: st) A = exG TB d 394 37 L (.int (i1 - i2) :: st) A := x_nx (op := o_iop (fun x y => x - y)) rfl rfl
theorem x_394_37  : exG TB d 394 37 L (.int i1 :: .ref p :: st) A = ki (rdI 0 (ga A p) i1) d 394 38 L st A := x_bd (op := o_rdI 0) rfl rfl (fun _ => rfl)
theorem x_394_38  : exG TB d 394 38 L st A = exG TB d 394 40 L (.int (nI 16) :: st) A := x_nx (op := o_push 2 (.int 16)) rfl rfl
theorem x_394_40  : exG TB d 394 40 L (.int i2 :: .int i1 :: st) A = ck (decide (¬ i2 = nI 0)) (exG TB d 394 41 L (.int (i1 - i1 / i2 * i2) :: st) A) := x_gd (op := o_iopz (fun x y => x - x / y * y)) rfl rfl
theorem x_394_41  : exG TB d 394 41 L [b1, b0, .ref p] A = kw (sel (gc A p) [(30, 350)]) [.ref p, b0, b1] d 394 44 L [] A := x_cvb (op := o_cv [(30, 350)] 2 3 false none) rfl rfl x_noh rfl
theorem x_394_44  : exG TB d 394 44 (a0 :: a1 :: a2 :: a3 :: r9) (.int i1 :: st) A = exG TB d 394 45 (a0 :: a1 :: a2 :: some (.int i1) :: r9) st A := x_nx (op := o_istore 3 1) rfl rfl
theorem x_394_45  : exG TB d 394 45 (a0 :: a1 :: a2 :: some (.int i1) :: r9) st A = exG TB d 394 46 (a0 :: a1 :: a2 :: some (.int i1) :: r9) (.int i1 :: st) A := x_nx (op := o_iload 3 1) rfl rfl
theorem x_394_46  : exG TB d 394 46 (some v :: r9) st A = rg v (exG TB d 394 47 (some v :: r9) (v :: st) A) := x_rg (op := o_aload 0 1) rfl rfl
theorem x_394_47  : exG TB d 394 47 (a0 :: some (.int i1) :: r9) st A = exG TB d 394 48 (a0 :: some (.int i1) :: r9) (.int i1 :: st) A := x_nx (op := o_iload 1 1) rfl rfl
theorem x_394_48  : exG TB d 394 48 L st A = exG TB d 394 50 L (.int (nI 13) :: st) A := x_nx (op := o_push 2 (.int 13)) rfl rfl
theorem x_394_50  : exG TB d 394 50 L [b1, b0, .ref p, w0] A = kw (sel (gc A p) [(30, 333)]) [.ref p, b0, b1] d 394 53 L [w0] A := x_cvb (op := o_cv [(30, 333)] 2 3 false none) rfl rfl x_noh rfl
theorem x_394_53  : exG TB d 394 53 L (.int i2 :: .int i1 :: st) A = exG TB d 394 54 L (.int (i1 * i2) :: st) A := x_nx (op := o_iop (fun x y => x * y)) rfl rfl
theorem x_394_54  : exG TB d 394 54 (a0 :: a1 :: a2 :: a3 :: a4 :: r9) (.int i1 :: st) A = exG TB d 394 56 (a0 :: a1 :: a2 :: a3 :: some (.int i1) :: r9) st A := x_nx (op := o_istore 4 2) rfl rfl
theorem x_394_56  : exG TB d 394 56 (some v :: r9) st A = rg v (exG TB d 394 57 (some v :: r9) (v :: st) A) := x_rg (op := o_aload 0 1) rfl rfl
theorem x_394_57  : exG TB d 394 57 (a0 :: some (.int i1) :: r9) st A = exG TB d 394 58 (a0 :: some (.int i1) :: r9) (.int i1 :: st) A := x_nx (op := o_iload 1 1) rfl rfl
theorem x_394_58  : exG TB d 394 58 L st A = exG TB d 394 60 L (.int (nI 9) :: st) A := x_nx (op := o_push 2 (.int 9)) rfl rfl
theorem x_394_60  : exG TB d 394 60 L [b1, b0, .ref p] A = kw (sel (gc A p) [(30, 333)]) [.ref p, b0, b1] d 394 63 L [] A := x_cvb (op := o_cv [(30, 333)] 2 3 false none) rfl rfl x_noh rfl
theorem x_394_63  : exG TB d 394 63 L (.int i1 :: st) A = if i1 ≤ nI 0 then exG TB d 394 86 L st A else exG TB d 394 66 L st A := x_if (op := o_if (fun x => decide (x ≤ 0)) 86) rfl rfl rfl
theorem x_394_66  : exG TB d 394 66 (a0 :: a1 :: a2 :: some (.int i1) :: r9) st A = exG TB d 394 67 (a0 :: a1 :: a2 :: some (.int i1) :: r9) (.int i1 :: st) A := x_nx (op := o_iload 3 1) rfl rfl
theorem x_394_67  : exG TB d 394 67 L st A = exG TB d 394 68 L (.int nN :: st) A := x_nx (op := o_push 1 (.int (-1))) rfl rfl
theorem x_394_68  : exG TB d 394 68 L (.int i2 :: .int i1 :: st) A = if i1 = i2 then exG TB d 394 86 L st A else exG TB d 394 71 L st A := x_if (op := o_icmp (fun x y => decide (x = y)) 86) rfl rfl rfl
theorem x_394_71  : exG TB d 394 71 (a0 :: a1 :: a2 :: a3 :: some (.int i1) :: r9) st A = exG TB d 394 73 (a0 :: a1 :: a2 :: a3 :: some (.int i1) :: r9) (.int i1 :: st) A := x_nx (op := o_iload 4 2) rfl rfl
theorem x_394_73  : exG TB d 394 73 (some v :: r9) st A = rg v (exG TB d 394 74 (some v :: r9) (v :: st) A) := x_rg (op := o_aload 0 1) rfl rfl
theorem x_394_74  : exG TB d 394 74 (a0 :: some (.int i1) :: r9) st A = exG TB d 394 75 (a0 :: some (.int i1) :: r9) (.int i1 :: st) A := x_nx (op := o_iload 1 1) rfl rfl
theorem x_394_75  : exG TB d 394 75 L st A = exG TB d 394 76 L (.int (nI 3) :: st) A := x_nx (op := o_push 1 (.int 3)) rfl rfl
theorem x_394_76  : exG TB d 394 76 L [b1, b0, .ref p, w0] A = kw (sel (gc A p) [(30, 333)]) [.ref p, b0, b1] d 394 79 L [w0] A := x_cvb (op := o_cv [(30, 333)] 2 3 false none) rfl rfl x_noh rfl
theorem x_394_79  : exG TB d 394 79 L (.int i2 :: .int i1 :: st) A = if i2 ≤ i1 then exG TB d 394 86 L st A else exG TB d 394 82 L st A := x_if (op := o_icmp (fun x y => decide (y ≤ x)) 86) rfl rfl rfl
theorem x_394_82  : exG TB d 394 82 L st A = exG TB d 394 83 L (.int (nI 1) :: st) A := x_nx (op := o_push 1 (.int 1)) rfl rfl
theorem x_394_83  : exG TB d 394 83 L st A = exG TB d 394 87 L st A := x_nx (op := o_goto 87) rfl rfl
theorem x_394_86  : exG TB d 394 86 L st A = exG TB d 394 87 L (.int (nI 0) :: st) A := x_nx (op := o_push 1 (.int 0)) rfl rfl
theorem x_394_87  : exG TB d 394 87 (a0 :: a1 :: a2 :: a3 :: a4 :: a5 :: r9) (.int i1 :: st) A = exG TB d 394 89 (a0 :: a1 :: a2 :: a3 :: a4 :: some (.int i1) :: r9) st A := x_nx (op := o_istore 5 2) rfl rfl
theorem x_394_89  : exG TB d 394 89 (a0 :: a1 :: a2 :: a3 :: a4 :: some (.int i1) :: r9) st A = exG TB d 394 91 (a0 :: a1 :: a2 :: a3 :: a4 :: some (.int i1) :: r9) (.int i1 :: st) A := x_nx (op := o_iload 5 2) rfl rfl
theorem x_394_91  : exG TB d 394 91 L (.int i1 :: st) A = if i1 = nI 0 then exG TB d 394 111 L st A else exG TB d 394 94 L st A := x_if (op := o_if (fun x => decide (x = 0)) 111) rfl rfl rfl
theorem x_394_94  : exG TB d 394 94 (some v :: r9) st A = rg v (exG TB d 394 95 (some v :: r9) (v :: st) A) := x_rg (op := o_aload 0 1) rfl rfl
theorem x_394_95  : exG TB d 394 95 (a0 :: some (.int i1) :: r9) st A = exG TB d 394 96 (a0 :: some (.int i1) :: r9) (.int i1 :: st) A := x_nx (op := o_iload 1 1) rfl rfl
theorem x_394_96  : exG TB d 394 96 L st A = exG TB d 394 97 L (.int (nI 2) :: st) A := x_nx (op := o_push 1 (.int 2)) rfl rfl
theorem x_394_97  : exG TB d 394 97 L [b1, b0, .ref p] A = kw (sel (gc A p) [(30, 333)]) [.ref p, b0, b1] d 394 100 L [] A := x_cvb (op := o_cv [(30, 333)] 2 3 false none) rfl rfl x_noh rfl
theorem x_394_100  : exG TB d 394 100 (some v :: r9) st A = rg v (exG TB d 394 101 (some v :: r9) (v :: st) A) := x_rg (op := o_aload 0 1) rfl rfl
theorem x_394_101  : exG TB d 394 101 (a0 :: some (.int i1) :: r9) st A = exG TB d 394 102 (a0 :: some (.int i1) :: r9) (.int i1 :: st) A := x_nx (op := o_iload 1 1) rfl rfl
theorem x_394_102  : exG TB d 394 102 (a0 :: a1 :: a2 :: a3 :: some (.int i1) :: r9) st A = exG TB d 394 104 (a0 :: a1 :: a2 :: a3 :: some (.int i1) :: r9) (.int i1 :: st) A := x_nx (op := o_iload 4 2) rfl rfl
theorem x_394_104  : exG TB d 394 104 L [b1, b0, .ref p, w0] A = kw (sel (gc A p) [(30, 395)]) [.ref p, b0, b1] d 394 107 L [w0] A := x_cvb (op := o_cv [(30, 395)] 2 3 false none) rfl rfl x_noh rfl
theorem x_394_107  : exG TB d 394 107 L (.int i2 :: .int i1 :: st) A = exG TB d 394 108 L (.int (i1 - i2) :: st) A := x_nx (op := o_iop (fun x y => x - y)) rfl rfl
theorem x_394_108  : exG TB d 394 108 L st A = exG TB d 394 112 L st A := x_nx (op := o_goto 112) rfl rfl
theorem x_394_111  : exG TB d 394 111 L st A = exG TB d 394 112 L (.int (nI 0) :: st) A := x_nx (op := o_push 1 (.int 0)) rfl rfl
theorem x_394_112  : exG TB d 394 112 L [v] A = ck (okv 1 v) (some (.inl (some v), A)) := x_outg (op := o_ret 1) rfl rfl
theorem e_395 {j1 : Int32} {j2 : Int32} : evG TB (d + 1) 395 [.ref p, .int j1, .int j2] A = exG TB d 395 0 [some (.ref p), some (.int j1), some (.int j2)] [] A := evG_eq TB d 395 _ A
theorem x_395_0  : exG TB d 395 0 (a0 :: a1 :: some (.int i1) :: r9) st A = exG TB d 395 1 (a0 :: a1 :: some (.int i1) :: r9) (.int i1 :: st) A := x_nx (op := o_iload 2 1) rfl rfl
theorem x_395_1  : exG TB d 395 1 (a0 :: a1 :: some (.int i1) :: r9) st A = exG TB d 395 2 (a0 :: a1 :: some (.int i1) :: r9) (.int i1 :: st) A := x_nx (op := o_iload 2 1) rfl rfl
theorem x_395_2  : exG TB d 395 2 (some v :: r9) st A = rg v (exG TB d 395 3 (some v :: r9) (v :: st) A) := x_rg (op := o_aload 0 1) rfl rfl
theorem x_395_3  : exG TB d 395 3 (a0 :: some (.int i1) :: r9) st A = exG TB d 395 4 (a0 :: some (.int i1) :: r9) (.int i1 :: st) A := x_nx (op := o_iload 1 1) rfl rfl
theorem x_395_4  : exG TB d 395 4 L st A = exG TB d 395 6 L (.int (nI 14) :: st) A := x_nx (op := o_push 2 (.int 14)) rfl rfl
theorem x_395_6  : exG TB d 395 6 L [b1, b0, .ref p, w0, w1] A = kw (sel (gc A p) [(30, 333)]) [.ref p, b0, b1] d 395 9 L [w0, w1] A := x_cvb (op := o_cv [(30, 333)] 2 3 false none) rfl rfl x_noh rfl
theorem x_395_9  : exG TB d 395 9 L (.int i2 :: .int i1 :: st) A = exG TB d 395 10 L (.int (i1 * i2) :: st) A := x_nx (op := o_iop (fun x y => x * y)) rfl rfl
theorem x_395_10  : exG TB d 395 10 L st A = exG TB d 395 12 L (.int (nI 100) :: st) A := x_nx (op := o_push 2 (.int 100)) rfl rfl
theorem x_395_12  : exG TB d 395 12 L (.int i2 :: .int i1 :: st) A = ck (decide (¬ i2 = nI 0)) (exG TB d 395 13 L (.int (i1 / i2) :: st) A) := x_gd (op := o_iopz (fun x y => x / y)) rfl rfl
theorem x_395_13  : exG TB d 395 13 L (.int i2 :: .int i1 :: st) A = exG TB d 395 14 L (.int (i1 - i2) :: st) A := x_nx (op := o_iop (fun x y => x - y)) rfl rfl
theorem x_395_14  : exG TB d 395 14 (some v :: r9) st A = rg v (exG TB d 395 15 (some v :: r9) (v :: st) A) := x_rg (op := o_aload 0 1) rfl rfl
theorem x_395_15  : exG TB d 395 15 (a0 :: some (.int i1) :: r9) st A = exG TB d 395 16 (a0 :: some (.int i1) :: r9) (.int i1 :: st) A := x_nx (op := o_iload 1 1) rfl rfl
theorem x_395_16  : exG TB d 395 16 L st A = exG TB d 395 17 L (.int (nI 5) :: st) A := x_nx (op := o_push 1 (.int 5)) rfl rfl
theorem x_395_17  : exG TB d 395 17 L [b1, b0, .ref p, w0] A = kw (sel (gc A p) [(30, 333)]) [.ref p, b0, b1] d 395 20 L [w0] A := x_cvb (op := o_cv [(30, 333)] 2 3 false none) rfl rfl x_noh rfl
theorem x_395_20  : exG TB d 395 20 L (.int i2 :: .int i1 :: st) A = exG TB d 395 21 L (.int (i1 + i2) :: st) A := x_nx (op := o_iop (fun x y => x + y)) rfl rfl
theorem x_395_21  : exG TB d 395 21 (some v :: r9) st A = rg v (exG TB d 395 22 (some v :: r9) (v :: st) A) := x_rg (op := o_aload 0 1) rfl rfl
theorem x_395_22  : exG TB d 395 22 (a0 :: some (.int i1) :: r9) st A = exG TB d 395 23 (a0 :: some (.int i1) :: r9) (.int i1 :: st) A := x_nx (op := o_iload 1 1) rfl rfl
theorem x_395_23  : exG TB d 395 23 L st A = exG TB d 395 25 L (.int (nI 16) :: st) A := x_nx (op := o_push 2 (.int 16)) rfl rfl
theorem x_395_25  : exG TB d 395 25 L [b1, b0, .ref p, w0] A = kw (sel (gc A p) [(30, 333)]) [.ref p, b0, b1] d 395 28 L [w0] A := x_cvb (op := o_cv [(30, 333)] 2 3 false none) rfl rfl x_noh rfl
theorem x_395_28  : exG TB d 395 28 L (.int i2 :: .int i1 :: st) A = exG TB d 395 29 L (.int (i1 + i2) :: st) A := x_nx (op := o_iop (fun x y => x + y)) rfl rfl
theorem x_395_29  : exG TB d 395 29 L [v] A = ck (okv 1 v) (some (.inl (some v), A)) := x_outg (op := o_ret 1) rfl rfl
theorem e_396 {j1 : Int32} : evG TB (d + 1) 396 [.ref p, .int j1] A = exG TB d 396 0 [some (.ref p), some (.int j1), none, none] [] A := evG_eq TB d 396 _ A
theorem x_396_0  : exG TB d 396 0 (some v :: r9) st A = rg v (exG TB d 396 1 (some v :: r9) (v :: st) A) := x_rg (op := o_aload 0 1) rfl rfl
theorem x_396_1  : exG TB d 396 1 L st A = exG TB d 396 2 L (.int (nI 0) :: st) A := x_nx (op := o_push 1 (.int 0)) rfl rfl
theorem x_396_2  : exG TB d 396 2 L (v :: .ref p :: st) A = ck ((gf A p 155).isSome && okv 1 v) (exG TB d 396 5 L st (setf A p 155 v)) := x_gd (op := o_put 155 1) rfl rfl
theorem x_396_5  : exG TB d 396 5 (a0 :: some (.int i1) :: r9) st A = exG TB d 396 6 (a0 :: some (.int i1) :: r9) (.int i1 :: st) A := x_nx (op := o_iload 1 1) rfl rfl
theorem x_396_6  : exG TB d 396 6 L st A = exG TB d 396 7 L (.int (nI 0) :: st) A := x_nx (op := o_push 1 (.int 0)) rfl rfl
theorem x_396_7  : exG TB d 396 7 L st A = exG TB d 396 8 L (.int (nI 2) :: st) A := x_nx (op := o_push 1 (.int 2)) rfl rfl
theorem x_396_8  : exG TB d 396 8 L [b2, b1, b0] A = kc (evG TB d 293 [b0, b1, b2] A) d 396 11 L [] := x_cv (op := o_cs 293 3 false none) rfl rfl x_noh rfl
theorem x_396_11  : exG TB d 396 11 L (.int i1 :: st) A = if ¬ i1 = nI 0 then exG TB d 396 20 L st A else exG TB d 396 14 L st A := x_if (op := o_if (fun x => decide (¬ x = 0)) 20) rfl rfl rfl
theorem x_396_14  : exG TB d 396 14 (some v :: r9) st A = rg v (exG TB d 396 15 (some v :: r9) (v :: st) A) := x_rg (op := o_aload 0 1) rfl rfl
theorem x_396_15  : exG TB d 396 15 L st A = exG TB d 396 16 L (.int (nI 1) :: st) A := x_nx (op := o_push 1 (.int 1)) rfl rfl
theorem x_396_16  : exG TB d 396 16 L [b0, .ref p] A = kw (sel (gc A p) [(30, 291)]) [.ref p, b0] d 396 19 L [] A := x_cvb (op := o_cv [(30, 291)] 1 3 false none) rfl rfl x_noh rfl
theorem x_396_19  : exG TB d 396 19 L [v] A = ck (okv 1 v) (some (.inl (some v), A)) := x_outg (op := o_ret 1) rfl rfl
theorem x_396_20  : exG TB d 396 20 L st A = exG TB d 396 21 L (.int (nI 0) :: st) A := x_nx (op := o_push 1 (.int 0)) rfl rfl
theorem x_396_21  : exG TB d 396 21 (a0 :: a1 :: a2 :: r9) (.int i1 :: st) A = exG TB d 396 22 (a0 :: a1 :: some (.int i1) :: r9) st A := x_nx (op := o_istore 2 1) rfl rfl
theorem x_396_22  : exG TB d 396 22 L st A = exG TB d 396 23 L (.int (nI 0) :: st) A := x_nx (op := o_push 1 (.int 0)) rfl rfl
theorem x_396_23  : exG TB d 396 23 (a0 :: a1 :: a2 :: a3 :: r9) (.int i1 :: st) A = exG TB d 396 24 (a0 :: a1 :: a2 :: some (.int i1) :: r9) st A := x_nx (op := o_istore 3 1) rfl rfl
theorem x_396_24  : exG TB d 396 24 (a0 :: a1 :: a2 :: some (.int i1) :: r9) st A = exG TB d 396 25 (a0 :: a1 :: a2 :: some (.int i1) :: r9) (.int i1 :: st) A := x_nx (op := o_iload 3 1) rfl rfl
theorem x_396_25  : exG TB d 396 25 (some v :: r9) st A = rg v (exG TB d 396 26 (some v :: r9) (v :: st) A) := x_rg (op := o_aload 0 1) rfl rfl
theorem x_396_26  : exG TB d 396 26 L (.ref p :: st) A = kv (gf A p 148) d 396 29 L st A := x_bd (op := o_get 148) rfl rfl (fun _ => rfl)
theorem x_396_29  : exG TB d 396 29 L st A = exG TB d 396 31 L (.int (nI 13) :: st) A := x_nx (op := o_push 2 (.int 13)) rfl rfl
theorem x_396_31  : exG TB d 396 31 L (.int i1 :: .ref p :: st) A = ki (rdI 0 (ga A p) i1) d 396 32 L st A := x_bd (op := o_rdI 0) rfl rfl (fun _ => rfl)
theorem x_396_32  : exG TB d 396 32 L (.int i2 :: .int i1 :: st) A = if i2 ≤ i1 then exG TB d 396 68 L st A else exG TB d 396 35 L st A := x_if (op := o_icmp (fun x y => decide (y ≤ x)) 68) rfl rfl rfl
theorem x_396_35  : exG TB d 396 35 (a0 :: a1 :: some (.int i1) :: r9) st A = exG TB d 396 36 (a0 :: a1 :: some (.int i1) :: r9) (.int i1 :: st) A := x_nx (op := o_iload 2 1) rfl rfl
theorem x_396_36  : exG TB d 396 36 (some v :: r9) st A = rg v (exG TB d 396 37 (some v :: r9) (v :: st) A) := x_rg (op := o_aload 0 1) rfl rfl
theorem x_396_37  : exG TB d 396 37 (a0 :: a1 :: a2 :: some (.int i1) :: r9) st A = exG TB d 396 38 (a0 :: a1 :: a2 :: some (.int i1) :: r9) (.int i1 :: st) A := x_nx (op := o_iload 3 1) rfl rfl
theorem x_396_38  : exG TB d 396 38 L st A = exG TB d 396 40 L (.int (nI 11) :: st) A := x_nx (op := o_push 2 (.int 11)) rfl rfl
theorem x_396_40  : exG TB d 396 40 L [b1, b0, .ref p, w0] A = kw (sel (gc A p) [(30, 333)]) [.ref p, b0, b1] d 396 43 L [w0] A := x_cvb (op := o_cv [(30, 333)] 2 3 false none) rfl rfl x_noh rfl
theorem x_396_43  : exG TB d 396 43 L (.int i1 :: st) A = if ¬ i1 = nI 0 then exG TB d 396 59 L st A else exG TB d 396 46 L st A := x_if (op := o_if (fun x => decide (¬ x = 0)) 59) rfl rfl rfl
theorem x_396_46  : exG TB d 396 46 (some v :: r9) st A = rg v (exG TB d 396 47 (some v :: r9) (v :: st) A) := x_rg (op := o_aload 0 1) rfl rfl
theorem x_396_47  : exG TB d 396 47 (a0 :: a1 :: a2 :: some (.int i1) :: r9) st A = exG TB d 396 48 (a0 :: a1 :: a2 :: some (.int i1) :: r9) (.int i1 :: st) A := x_nx (op := o_iload 3 1) rfl rfl
theorem x_396_48  : exG TB d 396 48 (a0 :: some (.int i1) :: r9) st A = exG TB d 396 49 (a0 :: some (.int i1) :: r9) (.int i1 :: st) A := x_nx (op := o_iload 1 1) rfl rfl
theorem x_396_49  : exG TB d 396 49 L [b1, b0, .ref p, w0] A = kw (sel (gc A p) [(30, 392)]) [.ref p, b0, b1] d 396 52 L [w0] A := x_cvb (op := o_cv [(30, 392)] 2 3 false none) rfl rfl x_noh rfl
theorem x_396_52  : exG TB d 396 52 L (.int i1 :: st) A = if i1 = nI 0 then exG TB d 396 59 L st A else exG TB d 396 55 L st A := x_if (op := o_if (fun x => decide (x = 0)) 59) rfl rfl rfl
theorem x_396_55  : exG TB d 396 55 L st A = exG TB d 396 56 L (.int (nI 1) :: st) A := x_nx (op := o_push 1 (.int 1)) rfl rfl
theorem x_396_56  : exG TB d 396 56 L st A = exG TB d 396 60 L st A := x_nx (op := o_goto 60) rfl rfl
theorem x_396_59  : exG TB d 396 59 L st A = exG TB d 396 60 L (.int (nI 0) :: st) A := x_nx (op := o_push 1 (.int 0)) rfl rfl
theorem x_396_60  : exG TB d 396 60 L (.int i2 :: .int i1 :: st) A = exG TB d 396 61 L (.int (i1 + i2) :: st) A := x_nx (op := o_iop (fun x y => x + y)) rfl rfl
theorem x_396_61  : exG TB d 396 61 (a0 :: a1 :: a2 :: r9) (.int i1 :: st) A = exG TB d 396 62 (a0 :: a1 :: some (.int i1) :: r9) st A := x_nx (op := o_istore 2 1) rfl rfl
theorem x_396_62  : exG TB d 396 62 (a0 :: a1 :: a2 :: some (.int i1) :: r9) st A = exG TB d 396 65 (a0 :: a1 :: a2 :: some (.int (i1 + (nI 1))) :: r9) st A := x_nx (op := o_iinc 3 1) rfl rfl
theorem x_396_65  : exG TB d 396 65 L st A = exG TB d 396 24 L st A := x_nx (op := o_goto 24) rfl rfl
theorem x_396_68  : exG TB d 396 68 (a0 :: a1 :: some (.int i1) :: r9) st A = exG TB d 396 69 (a0 :: a1 :: some (.int i1) :: r9) (.int i1 :: st) A := x_nx (op := o_iload 2 1) rfl rfl
theorem x_396_69  : exG TB d 396 69 L [v] A = ck (okv 1 v) (some (.inl (some v), A)) := x_outg (op := o_ret 1) rfl rfl
theorem e_397  : evG TB (d + 1) 397 [.ref p] A = exG TB d 397 0 [some (.ref p)] [] A := evG_eq TB d 397 _ A
theorem x_397_0  : exG TB d 397 0 (some v :: r9) st A = rg v (exG TB d 397 1 (some v :: r9) (v :: st) A) := x_rg (op := o_aload 0 1) rfl rfl
theorem x_397_1  : exG TB d 397 1 L st A = exG TB d 397 2 L (.int (nI 0) :: st) A := x_nx (op := o_push 1 (.int 0)) rfl rfl
theorem x_397_2  : exG TB d 397 2 L (v :: .ref p :: st) A = ck ((gf A p 155).isSome && okv 1 v) (exG TB d 397 5 L st (setf A p 155 v)) := x_gd (op := o_put 155 1) rfl rfl
theorem x_397_5  : exG TB d 397 5 (some v :: r9) st A = rg v (exG TB d 397 6 (some v :: r9) (v :: st) A) := x_rg (op := o_aload 0 1) rfl rfl
theorem x_397_6  : exG TB d 397 6 L st A = exG TB d 397 7 L (.int (nI 1) :: st) A := x_nx (op := o_push 1 (.int 1)) rfl rfl
theorem x_397_7  : exG TB d 397 7 L [b0, .ref p] A = kw (sel (gc A p) [(30, 398)]) [.ref p, b0] d 397 10 L [] A := x_cvb (op := o_cv [(30, 398)] 1 3 false none) rfl rfl x_noh rfl
theorem x_397_10  : exG TB d 397 10 L [v] A = ck (okv 2 v) (some (.inl (some v), A)) := x_outg (op := o_ret 2) rfl rfl
theorem e_398 {j1 : Int32} : evG TB (d + 1) 398 [.ref p, .int j1] A = exG TB d 398 0 [some (.ref p), some (.int j1), none, none, none] [] A := evG_eq TB d 398 _ A
theorem x_398_0  : exG TB d 398 0 L st A = exG TB d 398 1 L (.long 0 :: st) A := x_nx (op := o_push 1 (.long 0)) rfl rfl
theorem x_398_1  : exG TB d 398 1 (a0 :: a1 :: a2 :: a3 :: r9) (.long l1 :: st) A = exG TB d 398 2 (a0 :: a1 :: some (.long l1) :: none :: r9) st A := x_nx (op := o_lstore 2 1) rfl rfl
theorem x_398_2  : exG TB d 398 2 L st A = exG TB d 398 3 L (.int (nI 0) :: st) A := x_nx (op := o_push 1 (.int 0)) rfl rfl
theorem x_398_3  : exG TB d 398 3 (a0 :: a1 :: a2 :: a3 :: a4 :: r9) (.int i1 :: st) A = exG TB d 398 5 (a0 :: a1 :: a2 :: a3 :: some (.int i1) :: r9) st A := x_nx (op := o_istore 4 2) rfl rfl
theorem x_398_5  : exG TB d 398 5 (a0 :: a1 :: a2 :: a3 :: some (.int i1) :: r9) st A = exG TB d 398 7 (a0 :: a1 :: a2 :: a3 :: some (.int i1) :: r9) (.int i1 :: st) A := x_nx (op := o_iload 4 2) rfl rfl
theorem x_398_7  : exG TB d 398 7 (some v :: r9) st A = rg v (exG TB d 398 8 (some v :: r9) (v :: st) A) := x_rg (op := o_aload 0 1) rfl rfl
theorem x_398_8  : exG TB d 398 8 L (.ref p :: st) A = kv (gf A p 148) d 398 11 L st A := x_bd (op := o_get 148) rfl rfl (fun _ => rfl)
theorem x_398_11  : exG TB d 398 11 L st A = exG TB d 398 13 L (.int (nI 13) :: st) A := x_nx (op := o_push 2 (.int 13)) rfl rfl
theorem x_398_13  : exG TB d 398 13 L (.int i1 :: .ref p :: st) A = ki (rdI 0 (ga A p) i1) d 398 14 L st A := x_bd (op := o_rdI 0) rfl rfl (fun _ => rfl)
theorem x_398_14  : exG TB d 398 14 L (.int i2 :: .int i1 :: st) A = if i2 ≤ i1 then exG TB d 398 51 L st A else exG TB d 398 17 L st A := x_if (op := o_icmp (fun x y => decide (y ≤ x)) 51) rfl rfl rfl
theorem x_398_17  : exG TB d 398 17 (a0 :: a1 :: some (.long l1) :: none :: r9) st A = exG TB d 398 18 (a0 :: a1 :: some (.long l1) :: none :: r9) (.long l1 :: st) A := x_nx (op := o_lload 2 1) rfl rfl
theorem x_398_18  : exG TB d 398 18 (some v :: r9) st A = rg v (exG TB d 398 19 (some v :: r9) (v :: st) A) := x_rg (op := o_aload 0 1) rfl rfl
theorem x_398_19  : exG TB d 398 19 (a0 :: a1 :: a2 :: a3 :: some (.int i1) :: r9) st A = exG TB d 398 21 (a0 :: a1 :: a2 :: a3 :: some (.int i1) :: r9) (.int i1 :: st) A := x_nx (op := o_iload 4 2) rfl rfl
theorem x_398_21  : exG TB d 398 21 L st A = exG TB d 398 22 L (.int (nI 2) :: st) A := x_nx (op := o_push 1 (.int 2)) rfl rfl
theorem x_398_22  : exG TB d 398 22 L [b1, b0, .ref p, w0] A = kw (sel (gc A p) [(30, 333)]) [.ref p, b0, b1] d 398 25 L [w0] A := x_cvb (op := o_cv [(30, 333)] 2 3 false none) rfl rfl x_noh rfl
theorem x_398_25  : exG TB d 398 25 (a0 :: some (.int i1) :: r9) st A = exG TB d 398 26 (a0 :: some (.int i1) :: r9) (.int i1 :: st) A := x_nx (op := o_iload 1 1) rfl rfl
theorem x_398_26  : exG TB d 398 26 L (.int i1 :: st) A = if i1 = nI 0 then exG TB d 398 40 L st A else exG TB d 398 29 L st A := x_if (op := o_if (fun x => decide (x = 0)) 40) rfl rfl rfl
theorem x_398_29  : exG TB d 398 29 (some v :: r9) st A = rg v (exG TB d 398 30 (some v :: r9) (v :: st) A) := x_rg (op := o_aload 0 1) rfl rfl
theorem x_398_30  : exG TB d 398 30 (a0 :: a1 :: a2 :: a3 :: some (.int i1) :: r9) st A = exG TB d 398 32 (a0 :: a1 :: a2 :: a3 :: some (.int i1) :: r9) (.int i1 :: st) A := x_nx (op := o_iload 4 2) rfl rfl
theorem x_398_32  : exG TB d 398 32 L st A = exG TB d 398 34 L (.int (nI 12) :: st) A := x_nx (op := o_push 2 (.int 12)) rfl rfl
theorem x_398_34  : exG TB d 398 34 L [b1, b0, .ref p, w0, w1] A = kw (sel (gc A p) [(30, 333)]) [.ref p, b0, b1] d 398 37 L [w0, w1] A := x_cvb (op := o_cv [(30, 333)] 2 3 false none) rfl rfl x_noh rfl
theorem x_398_37  : exG TB d 398 37 L st A = exG TB d 398 41 L st A := x_nx (op := o_goto 41) rfl rfl
theorem x_398_40  : exG TB d 398 40 L st A = exG TB d 398 41 L (.int (nI 0) :: st) A := x_nx (op := o_push 1 (.int 0)) rfl rfl
theorem x_398_41  : exG TB d 398 41 L (.int i2 :: .int i1 :: st) A = exG TB d 398 42 L (.int (i1 - i2) :: st) A := x_nx (op := o_iop (fun x y => x - y)) rfl rfl
theorem x_398_42  : exG TB d 398 42 L (.int i1 :: st) A = exG TB d 398 43 L (.long i1.toInt64 :: st) A := x_nx (op := o_i2l) rfl rfl
theorem x_398_43  : exG TB d 398 43 L (.long l2 :: .long l1 :: st) A = exG TB d 398 44 L (.long (l1 + l2) :: st) A := x_nx (op := o_lop (fun x y => x + y)) rfl rfl
theorem x_398_44  : exG TB d 398 44 (a0 :: a1 :: a2 :: a3 :: r9) (.long l1 :: st) A = exG TB d 398 45 (a0 :: a1 :: some (.long l1) :: none :: r9) st A := x_nx (op := o_lstore 2 1) rfl rfl
theorem x_398_45  : exG TB d 398 45 (a0 :: a1 :: a2 :: a3 :: some (.int i1) :: r9) st A = exG TB d 398 48 (a0 :: a1 :: a2 :: a3 :: some (.int (i1 + (nI 1))) :: r9) st A := x_nx (op := o_iinc 4 1) rfl rfl
theorem x_398_48  : exG TB d 398 48 L st A = exG TB d 398 5 L st A := x_nx (op := o_goto 5) rfl rfl
theorem x_398_51  : exG TB d 398 51 (a0 :: a1 :: some (.long l1) :: none :: r9) st A = exG TB d 398 52 (a0 :: a1 :: some (.long l1) :: none :: r9) (.long l1 :: st) A := x_nx (op := o_lload 2 1) rfl rfl
theorem x_398_52  : exG TB d 398 52 L [v] A = ck (okv 2 v) (some (.inl (some v), A)) := x_outg (op := o_ret 2) rfl rfl
theorem e_399 {j1 : Int32} {j2 : Int32} : evG TB (d + 1) 399 [.ref p, .int j1, .int j2] A = exG TB d 399 0 [some (.ref p), some (.int j1), some (.int j2)] [] A := evG_eq TB d 399 _ A
theorem x_399_0  : exG TB d 399 0 (some v :: r9) st A = rg v (exG TB d 399 1 (some v :: r9) (v :: st) A) := x_rg (op := o_aload 0 1) rfl rfl
theorem x_399_1  : exG TB d 399 1 L st A = exG TB d 399 2 L (.int (nI 0) :: st) A := x_nx (op := o_push 1 (.int 0)) rfl rfl
theorem x_399_2  : exG TB d 399 2 L (v :: .ref p :: st) A = ck ((gf A p 155).isSome && okv 1 v) (exG TB d 399 5 L st (setf A p 155 v)) := x_gd (op := o_put 155 1) rfl rfl
theorem x_399_5  : exG TB d 399 5 (some v :: r9) st A = rg v (exG TB d 399 6 (some v :: r9) (v :: st) A) := x_rg (op := o_aload 0 1) rfl rfl
theorem x_399_6  : exG TB d 399 6 (a0 :: some (.int i1) :: r9) st A = exG TB d 399 7 (a0 :: some (.int i1) :: r9) (.int i1 :: st) A := x_nx (op := o_iload 1 1) rfl rfl
theorem x_399_7  : exG TB d 399 7 L [b0, .ref p] A = kw (sel (gc A p) [(30, 323)]) [.ref p, b0] d 399 10 L [] A := x_cvb (op := o_cv [(30, 323)] 1 3 false none) rfl rfl x_noh rfl
theorem x_399_10  : exG TB d 399 10 L (.int i1 :: st) A = if ¬ i1 = nI 0 then exG TB d 399 19 L st A else exG TB d 399 13 L st A := x_if (op := o_if (fun x => decide (¬ x = 0)) 19) rfl rfl rfl
theorem x_399_13  : exG TB d 399 13 (some v :: r9) st A = rg v (exG TB d 399 14 (some v :: r9) (v :: st) A) := x_rg (op := o_aload 0 1) rfl rfl
theorem x_399_14  : exG TB d 399 14 L st A = exG TB d 399 15 L (.int (nI 1) :: st) A := x_nx (op := o_push 1 (.int 1)) rfl rfl
theorem x_399_15  : exG TB d 399 15 L [b0, .ref p] A = kw (sel (gc A p) [(30, 291)]) [.ref p, b0] d 399 18 L [] A := x_cvb (op := o_cv [(30, 291)] 1 3 false none) rfl rfl x_noh rfl
theorem x_399_18  : exG TB d 399 18 L [v] A = ck (okv 1 v) (some (.inl (some v), A)) := x_outg (op := o_ret 1) rfl rfl
theorem x_399_19  : exG TB d 399 19 (a0 :: a1 :: some (.int i1) :: r9) st A = exG TB d 399 20 (a0 :: a1 :: some (.int i1) :: r9) (.int i1 :: st) A := x_nx (op := o_iload 2 1) rfl rfl
theorem x_399_20  : exG TB d 399 20 L (.int i1 :: st) A = exG TB d 399 (swt 0 [52, 62, 68, 75] 82 i1) L st A := x_nx (op := o_sw (swt 0 [52, 62, 68, 75] 82)) rfl rfl
theorem x_399_52  : exG TB d 399 52 (some v :: r9) st A = rg v (exG TB d 399 53 (some v :: r9) (v :: st) A) := x_rg (op := o_aload 0 1) rfl rfl
theorem x_399_53  : exG TB d 399 53 L (.ref p :: st) A = kv (gf A p 148) d 399 56 L st A := x_bd (op := o_get 148) rfl rfl (fun _ => rfl)
theorem x_399_56  : exG TB d 399 56 L st A = exG TB d 399 58 L (.int (nI 15) :: st) A := x_nx (op := o_push 2 (.int 15)) rfl rfl
theorem x_399_58  : exG TB d 399 58 (a0 :: some (.int i1) :: r9) st A = exG TB d 399 59 (a0 :: some (.int i1) :: r9) (.int i1 :: st) A := x_nx (op := o_iload 1 1) rfl rfl
theorem x_399_59  : exG TB d 399 59 L (.int i2 :: .int i1 :: st) A = exG TB d 399 60 L (.int (i1 + i2) :: st) A := x_nx (op := o_iop (fun x y => x + y)) rfl rfl
theorem x_399_60  : exG TB d 399 60 L (.int i1 :: .ref p :: st) A = ki (rdI 0 (ga A p) i1) d 399 61 L st A := x_bd (op := o_rdI 0) rfl rfl (fun _ => rfl)
theorem x_399_61  : exG TB d 399 61 L [v] A = ck (okv 1 v) (some (.inl (some v), A)) := x_outg (op := o_ret 1) rfl rfl
theorem x_399_62  : exG TB d 399 62 (some v :: r9) st A = rg v (exG TB d 399 63 (some v :: r9) (v :: st) A) := x_rg (op := o_aload 0 1) rfl rfl
theorem x_399_63  : exG TB d 399 63 (a0 :: some (.int i1) :: r9) st A = exG TB d 399 64 (a0 :: some (.int i1) :: r9) (.int i1 :: st) A := x_nx (op := o_iload 1 1) rfl rfl
theorem x_399_64  : exG TB d 399 64 L [b0, .ref p] A = kw (sel (gc A p) [(30, 400)]) [.ref p, b0] d 399 67 L [] A := x_cvb (op := o_cv [(30, 400)] 1 3 false none) rfl rfl x_noh rfl
theorem x_399_67  : exG TB d 399 67 L [v] A = ck (okv 1 v) (some (.inl (some v), A)) := x_outg (op := o_ret 1) rfl rfl
theorem x_399_68  : exG TB d 399 68 (some v :: r9) st A = rg v (exG TB d 399 69 (some v :: r9) (v :: st) A) := x_rg (op := o_aload 0 1) rfl rfl
theorem x_399_69  : exG TB d 399 69 (a0 :: some (.int i1) :: r9) st A = exG TB d 399 70 (a0 :: some (.int i1) :: r9) (.int i1 :: st) A := x_nx (op := o_iload 1 1) rfl rfl
theorem x_399_70  : exG TB d 399 70 L st A = exG TB d 399 71 L (.int (nI 0) :: st) A := x_nx (op := o_push 1 (.int 0)) rfl rfl
theorem x_399_71  : exG TB d 399 71 L [b1, b0, .ref p] A = kw (sel (gc A p) [(30, 401)]) [.ref p, b0, b1] d 399 74 L [] A := x_cvb (op := o_cv [(30, 401)] 2 3 false none) rfl rfl x_noh rfl
theorem x_399_74  : exG TB d 399 74 L [v] A = ck (okv 1 v) (some (.inl (some v), A)) := x_outg (op := o_ret 1) rfl rfl
theorem x_399_75  : exG TB d 399 75 (some v :: r9) st A = rg v (exG TB d 399 76 (some v :: r9) (v :: st) A) := x_rg (op := o_aload 0 1) rfl rfl
theorem x_399_76  : exG TB d 399 76 (a0 :: some (.int i1) :: r9) st A = exG TB d 399 77 (a0 :: some (.int i1) :: r9) (.int i1 :: st) A := x_nx (op := o_iload 1 1) rfl rfl
theorem x_399_77  : exG TB d 399 77 L st A = exG TB d 399 78 L (.int (nI 1) :: st) A := x_nx (op := o_push 1 (.int 1)) rfl rfl
theorem x_399_78  : exG TB d 399 78 L [b1, b0, .ref p] A = kw (sel (gc A p) [(30, 401)]) [.ref p, b0, b1] d 399 81 L [] A := x_cvb (op := o_cv [(30, 401)] 2 3 false none) rfl rfl x_noh rfl
theorem x_399_81  : exG TB d 399 81 L [v] A = ck (okv 1 v) (some (.inl (some v), A)) := x_outg (op := o_ret 1) rfl rfl
theorem x_399_82  : exG TB d 399 82 (some v :: r9) st A = rg v (exG TB d 399 83 (some v :: r9) (v :: st) A) := x_rg (op := o_aload 0 1) rfl rfl
theorem x_399_83  : exG TB d 399 83 L st A = exG TB d 399 84 L (.int (nI 2) :: st) A := x_nx (op := o_push 1 (.int 2)) rfl rfl
theorem x_399_84  : exG TB d 399 84 L [b0, .ref p] A = kw (sel (gc A p) [(30, 291)]) [.ref p, b0] d 399 87 L [] A := x_cvb (op := o_cv [(30, 291)] 1 3 false none) rfl rfl x_noh rfl
theorem x_399_87  : exG TB d 399 87 L [v] A = ck (okv 1 v) (some (.inl (some v), A)) := x_outg (op := o_ret 1) rfl rfl
theorem e_400 {j1 : Int32} : evG TB (d + 1) 400 [.ref p, .int j1] A = exG TB d 400 0 [some (.ref p), some (.int j1), none, none, none] [] A := evG_eq TB d 400 _ A
theorem x_400_0  : exG TB d 400 0 L st A = exG TB d 400 1 L (.int (nI 0) :: st) A := x_nx (op := o_push 1 (.int 0)) rfl rfl
theorem x_400_1  : exG TB d 400 1 (a0 :: a1 :: a2 :: r9) (.int i1 :: st) A = exG TB d 400 2 (a0 :: a1 :: some (.int i1) :: r9) st A := x_nx (op := o_istore 2 1) rfl rfl
theorem x_400_2  : exG TB d 400 2 L st A = exG TB d 400 3 L (.int (nI 0) :: st) A := x_nx (op := o_push 1 (.int 0)) rfl rfl
theorem x_400_3  : exG TB d 400 3 (a0 :: a1 :: a2 :: a3 :: r9) (.int i1 :: st) A = exG TB d 400 4 (a0 :: a1 :: a2 :: some (.int i1) :: r9) st A := x_nx (op := o_istore 3 1) rfl rfl
theorem x_400_4  : exG TB d 400 4 (a0 :: a1 :: a2 :: some (.int i1) :: r9) st A = exG TB d 400 5 (a0 :: a1 :: a2 :: some (.int i1) :: r9) (.int i1 :: st) A := x_nx (op := o_iload 3 1) rfl rfl
theorem x_400_5  : exG TB d 400 5 (some v :: r9) st A = rg v (exG TB d 400 6 (some v :: r9) (v :: st) A) := x_rg (op := o_aload 0 1) rfl rfl
theorem x_400_6  : exG TB d 400 6 L (.ref p :: st) A = kv (gf A p 148) d 400 9 L st A := x_bd (op := o_get 148) rfl rfl (fun _ => rfl)
theorem x_400_9  : exG TB d 400 9 L st A = exG TB d 400 11 L (.int (nI 12) :: st) A := x_nx (op := o_push 2 (.int 12)) rfl rfl
theorem x_400_11  : exG TB d 400 11 L (.int i1 :: .ref p :: st) A = ki (rdI 0 (ga A p) i1) d 400 12 L st A := x_bd (op := o_rdI 0) rfl rfl (fun _ => rfl)
theorem x_400_12  : exG TB d 400 12 L (.int i2 :: .int i1 :: st) A = if i2 ≤ i1 then exG TB d 400 71 L st A else exG TB d 400 15 L st A := x_if (op := o_icmp (fun x y => decide (y ≤ x)) 71) rfl rfl rfl
theorem x_400_15  : exG TB d 400 15 (some v :: r9) st A = rg v (exG TB d 400 16 (some v :: r9) (v :: st) A) := x_rg (op := o_aload 0 1) rfl rfl
theorem x_400_16  : exG TB d 400 16 (a0 :: a1 :: a2 :: some (.int i1) :: r9) st A = exG TB d 400 17 (a0 :: a1 :: a2 :: some (.int i1) :: r9) (.int i1 :: st) A := x_nx (op := o_iload 3 1) rfl rfl
theorem x_400_17  : exG TB d 400 17 L st A = exG TB d 400 18 L (.int (nI 5) :: st) A := x_nx (op := o_push 1 (.int 5)) rfl rfl
theorem x_400_18  : exG TB d 400 18 L [b1, b0, .ref p] A = kw (sel (gc A p) [(30, 331)]) [.ref p, b0, b1] d 400 21 L [] A := x_cvb (op := o_cv [(30, 331)] 2 3 false none) rfl rfl x_noh rfl
theorem x_400_21  : exG TB d 400 21 L st A = exG TB d 400 22 L (.int (nI 1) :: st) A := x_nx (op := o_push 1 (.int 1)) rfl rfl
theorem x_400_22  : exG TB d 400 22 L (.int i2 :: .int i1 :: st) A = if i1 = i2 then exG TB d 400 35 L st A else exG TB d 400 25 L st A := x_if (op := o_icmp (fun x y => decide (x = y)) 35) rfl rfl rfl
theorem x_400_25  : exG TB d 400 25 (some v :: r9) st A = rg v (exG TB d 400 26 (some v :: r9) (v :: st) A) := x_rg (op := o_aload 0 1) rfl rfl
theorem x_400_26  : exG TB d 400 26 (a0 :: a1 :: a2 :: some (.int i1) :: r9) st A = exG TB d 400 27 (a0 :: a1 :: a2 :: some (.int i1) :: r9) (.int i1 :: st) A := x_nx (op := o_iload 3 1) rfl rfl
theorem x_400_27  : exG TB d 400 27 L st A = exG TB d 400 28 L (.int (nI 5) :: st) A := x_nx (op := o_push 1 (.int 5)) rfl rfl
theorem x_400_28  : exG TB d 400 28 L [b1, b0, .ref p] A = kw (sel (gc A p) [(30, 331)]) [.ref p, b0, b1] d 400 31 L [] A := x_cvb (op := o_cv [(30, 331)] 2 3 false none) rfl rfl x_noh rfl
theorem x_400_31  : exG TB d 400 31 L st A = exG TB d 400 32 L (.int (nI 3) :: st) A := x_nx (op := o_push 1 (.int 3)) rfl rfl
theorem x_400_32  : exG TB d 400 32 L (.int i2 :: .int i1 :: st) A = if ¬ i1 = i2 then exG TB d 400 39 L st A else exG TB d 400 35 L st A := x_if (op := o_icmp (fun x y => decide (¬ x = y)) 39) rfl rfl rfl
theorem x_400_35  : exG TB d 400 35 L st A = exG TB d 400 36 L (.int (nI 1) :: st) A := x_nx (op := o_push 1 (.int 1)) rfl rfl
theorem x_400_36  : exG TB d 400 36 L st A = exG TB d 400 40 L st A := x_nx (op := o_goto 40) rfl rfl
theorem x_400_39  : exG TB d 400 39 L st A = exG TB d 400 40 L (.int (nI 0) :: st) A := x_nx (op := o_push 1 (.int 0)) rfl rfl
theorem x_400_40  : exG TB d 400 40 (a0 :: a1 :: a2 :: a3 :: a4 :: r9) (.int i1 :: st) A = exG TB d 400 42 (a0 :: a1 :: a2 :: a3 :: some (.int i1) :: r9) st A := x_nx (op := o_istore 4 2) rfl rfl
theorem x_400_42  : exG TB d 400 42 (a0 :: a1 :: some (.int i1) :: r9) st A = exG TB d 400 43 (a0 :: a1 :: some (.int i1) :: r9) (.int i1 :: st) A := x_nx (op := o_iload 2 1) rfl rfl
theorem x_400_43  : exG TB d 400 43 (a0 :: a1 :: a2 :: a3 :: some (.int i1) :: r9) st A = exG TB d 400 45 (a0 :: a1 :: a2 :: a3 :: some (.int i1) :: r9) (.int i1 :: st) A := x_nx (op := o_iload 4 2) rfl rfl
theorem x_400_45  : exG TB d 400 45 L (.int i1 :: st) A = if i1 = nI 0 then exG TB d 400 62 L st A else exG TB d 400 48 L st A := x_if (op := o_if (fun x => decide (x = 0)) 62) rfl rfl rfl
theorem x_400_48  : exG TB d 400 48 (some v :: r9) st A = rg v (exG TB d 400 49 (some v :: r9) (v :: st) A) := x_rg (op := o_aload 0 1) rfl rfl
theorem x_400_49  : exG TB d 400 49 (a0 :: a1 :: a2 :: some (.int i1) :: r9) st A = exG TB d 400 50 (a0 :: a1 :: a2 :: some (.int i1) :: r9) (.int i1 :: st) A := x_nx (op := o_iload 3 1) rfl rfl
theorem x_400_50  : exG TB d 400 50 L st A = exG TB d 400 51 L (.int (nI 1) :: st) A := x_nx (op := o_push 1 (.int 1)) rfl rfl
theorem x_400_51  : exG TB d 400 51 L [b1, b0, .ref p, w0] A = kw (sel (gc A p) [(30, 331)]) [.ref p, b0, b1] d 400 54 L [w0] A := x_cvb (op := o_cv [(30, 331)] 2 3 false none) rfl rfl x_noh rfl
theorem x_400_54  : exG TB d 400 54 (a0 :: some (.int i1) :: r9) st A = exG TB d 400 55 (a0 :: some (.int i1) :: r9) (.int i1 :: st) A := x_nx (op := o_iload 1 1) rfl rfl
theorem x_400_55  : exG TB d 400 55 L (.int i2 :: .int i1 :: st) A = if ¬ i1 = i2 then exG TB d 400 62 L st A else exG TB d 400 58 L st A := x_if (op := o_icmp (fun x y => decide (¬ x = y)) 62) rfl rfl rfl
theorem x_400_58  : exG TB d 400 58 L st A = exG TB d 400 59 L (.int (nI 1) :: st) A := x_nx (op := o_push 1 (.int 1)) rfl rfl
theorem x_400_59  : exG TB d 400 59 L st A = exG TB d 400 63 L st A := x_nx (op := o_goto 63) rfl rfl
theorem x_400_62  : exG TB d 400 62 L st A = exG TB d 400 63 L (.int (nI 0) :: st) A := x_nx (op := o_push 1 (.int 0)) rfl rfl
theorem x_400_63  : exG TB d 400 63 L (.int i2 :: .int i1 :: st) A = exG TB d 400 64 L (.int (i1 + i2) :: st) A := x_nx (op := o_iop (fun x y => x + y)) rfl rfl
theorem x_400_64  : exG TB d 400 64 (a0 :: a1 :: a2 :: r9) (.int i1 :: st) A = exG TB d 400 65 (a0 :: a1 :: some (.int i1) :: r9) st A := x_nx (op := o_istore 2 1) rfl rfl
theorem x_400_65  : exG TB d 400 65 (a0 :: a1 :: a2 :: some (.int i1) :: r9) st A = exG TB d 400 68 (a0 :: a1 :: a2 :: some (.int (i1 + (nI 1))) :: r9) st A := x_nx (op := o_iinc 3 1) rfl rfl
theorem x_400_68  : exG TB d 400 68 L st A = exG TB d 400 4 L st A := x_nx (op := o_goto 4) rfl rfl
theorem x_400_71  : exG TB d 400 71 (a0 :: a1 :: some (.int i1) :: r9) st A = exG TB d 400 72 (a0 :: a1 :: some (.int i1) :: r9) (.int i1 :: st) A := x_nx (op := o_iload 2 1) rfl rfl
theorem x_400_72  : exG TB d 400 72 L [v] A = ck (okv 1 v) (some (.inl (some v), A)) := x_outg (op := o_ret 1) rfl rfl
theorem e_401 {j1 : Int32} {j2 : Int32} : evG TB (d + 1) 401 [.ref p, .int j1, .int j2] A = exG TB d 401 0 [some (.ref p), some (.int j1), some (.int j2), none, none, none] [] A := evG_eq TB d 401 _ A
theorem x_401_0  : exG TB d 401 0 L st A = exG TB d 401 1 L (.int (nI 0) :: st) A := x_nx (op := o_push 1 (.int 0)) rfl rfl
theorem x_401_1  : exG TB d 401 1 (a0 :: a1 :: a2 :: a3 :: r9) (.int i1 :: st) A = exG TB d 401 2 (a0 :: a1 :: a2 :: some (.int i1) :: r9) st A := x_nx (op := o_istore 3 1) rfl rfl
theorem x_401_2  : exG TB d 401 2 L st A = exG TB d 401 3 L (.int (nI 0) :: st) A := x_nx (op := o_push 1 (.int 0)) rfl rfl
theorem x_401_3  : exG TB d 401 3 (a0 :: a1 :: a2 :: a3 :: a4 :: r9) (.int i1 :: st) A = exG TB d 401 5 (a0 :: a1 :: a2 :: a3 :: some (.int i1) :: r9) st A := x_nx (op := o_istore 4 2) rfl rfl
theorem x_401_5  : exG TB d 401 5 (a0 :: a1 :: a2 :: a3 :: some (.int i1) :: r9) st A = exG TB d 401 7 (a0 :: a1 :: a2 :: a3 :: some (.int i1) :: r9) (.int i1 :: st) A := x_nx (op := o_iload 4 2) rfl rfl
theorem x_401_7  : exG TB d 401 7 (some v :: r9) st A = rg v (exG TB d 401 8 (some v :: r9) (v :: st) A) := x_rg (op := o_aload 0 1) rfl rfl
theorem x_401_8  : exG TB d 401 8 L (.ref p :: st) A = kv (gf A p 148) d 401 11 L st A := x_bd (op := o_get 148) rfl rfl (fun _ => rfl)
theorem x_401_11  : exG TB d 401 11 L st A = exG TB d 401 13 L (.int (nI 14) :: st) A := x_nx (op := o_push 2 (.int 14)) rfl rfl
theorem x_401_13  : exG TB d 401 13 L (.int i1 :: .ref p :: st) A = ki (rdI 0 (ga A p) i1) d 401 14 L st A := x_bd (op := o_rdI 0) rfl rfl (fun _ => rfl)
theorem x_401_14  : exG TB d 401 14 L (.int i2 :: .int i1 :: st) A = if i2 ≤ i1 then exG TB d 401 63 L st A else exG TB d 401 17 L st A := x_if (op := o_icmp (fun x y => decide (y ≤ x)) 63) rfl rfl rfl
theorem x_401_17  : exG TB d 401 17 (some v :: r9) st A = rg v (exG TB d 401 18 (some v :: r9) (v :: st) A) := x_rg (op := o_aload 0 1) rfl rfl
theorem x_401_18  : exG TB d 401 18 L (.ref p :: st) A = kv (gf A p 148) d 401 21 L st A := x_bd (op := o_get 148) rfl rfl (fun _ => rfl)
theorem x_401_21  : exG TB d 401 21 L st A = exG TB d 401 24 L (.int (nI 2200) :: st) A := x_nx (op := o_push 3 (.int 2200)) rfl rfl
theorem x_401_24  : exG TB d 401 24 (a0 :: a1 :: a2 :: a3 :: some (.int i1) :: r9) st A = exG TB d 401 26 (a0 :: a1 :: a2 :: a3 :: some (.int i1) :: r9) (.int i1 :: st) A := x_nx (op := o_iload 4 2) rfl rfl
theorem x_401_26  : exG TB d 401 26 L (.int i2 :: .int i1 :: st) A = exG TB d 401 27 L (.int (i1 + i2) :: st) A := x_nx (op := o_iop (fun x y => x + y)) rfl rfl
theorem x_401_27  : exG TB d 401 27 L (.int i1 :: .ref p :: st) A = ki (rdI 0 (ga A p) i1) d 401 28 L st A := x_bd (op := o_rdI 0) rfl rfl (fun _ => rfl)
theorem x_401_28  : exG TB d 401 28 (a0 :: a1 :: a2 :: a3 :: a4 :: a5 :: r9) (.int i1 :: st) A = exG TB d 401 30 (a0 :: a1 :: a2 :: a3 :: a4 :: some (.int i1) :: r9) st A := x_nx (op := o_istore 5 2) rfl rfl
theorem x_401_30  : exG TB d 401 30 (a0 :: a1 :: a2 :: some (.int i1) :: r9) st A = exG TB d 401 31 (a0 :: a1 :: a2 :: some (.int i1) :: r9) (.int i1 :: st) A := x_nx (op := o_iload 3 1) rfl rfl
theorem x_401_31  : exG TB d 401 31 (a0 :: a1 :: a2 :: a3 :: a4 :: some (.int i1) :: r9) st A = exG TB d 401 33 (a0 :: a1 :: a2 :: a3 :: a4 :: some (.int i1) :: r9) (.int i1 :: st) A := x_nx (op := o_iload 5 2) rfl rfl
theorem x_401_33  : exG TB d 401 33 (a0 :: some (.int i1) :: r9) st A = exG TB d 401 34 (a0 :: some (.int i1) :: r9) (.int i1 :: st) A := x_nx (op := o_iload 1 1) rfl rfl
theorem x_401_34  : exG TB d 401 34 L st A = exG TB d 401 36 L (.int (nI 16) :: st) A := x_nx (op := o_push 2 (.int 16)) rfl rfl
theorem x_401_36  : exG TB d 401 36 L (.int i2 :: .int i1 :: st) A = exG TB d 401 37 L (.int (i1 + i2) :: st) A := x_nx (op := o_iop (fun x y => x + y)) rfl rfl
theorem x_401_37  : exG TB d 401 37 L (.int i2 :: .int i1 :: st) A = if i1 = i2 then exG TB d 401 50 L st A else exG TB d 401 40 L st A := x_if (op := o_icmp (fun x y => decide (x = y)) 50) rfl rfl rfl
theorem x_401_40  : exG TB d 401 40 (a0 :: a1 :: a2 :: a3 :: a4 :: some (.int i1) :: r9) st A = exG TB d 401 42 (a0 :: a1 :: a2 :: a3 :: a4 :: some (.int i1) :: r9) (.int i1 :: st) A := x_nx (op := o_iload 5 2) rfl rfl
theorem x_401_42  : exG TB d 401 42 (a0 :: some (.int i1) :: r9) st A = exG TB d 401 43 (a0 :: some (.int i1) :: r9) (.int i1 :: st) A := x_nx (op := o_iload 1 1) rfl rfl
theorem x_401_43  : exG TB d 401 43 L (.int i2 :: .int i1 :: st) A = if ¬ i1 = i2 then exG TB d 401 54 L st A else exG TB d 401 46 L st A := x_if (op := o_icmp (fun x y => decide (¬ x = y)) 54) rfl rfl rfl
theorem x_401_46  : exG TB d 401 46 (a0 :: a1 :: some (.int i1) :: r9) st A = exG TB d 401 47 (a0 :: a1 :: some (.int i1) :: r9) (.int i1 :: st) A := x_nx (op := o_iload 2 1) rfl rfl
theorem x_401_47  : exG TB d 401 47 L (.int i1 :: st) A = if ¬ i1 = nI 0 then exG TB d 401 54 L st A else exG TB d 401 50 L st A := x_if (op := o_if (fun x => decide (¬ x = 0)) 54) rfl rfl rfl
theorem x_401_50  : exG TB d 401 50 L st A = exG TB d 401 51 L (.int (nI 1) :: st) A := x_nx (op := o_push 1 (.int 1)) rfl rfl
theorem x_401_51  : exG TB d 401 51 L st A = exG TB d 401 55 L st A := x_nx (op := o_goto 55) rfl rfl
theorem x_401_54  : exG TB d 401 54 L st A = exG TB d 401 55 L (.int (nI 0) :: st) A := x_nx (op := o_push 1 (.int 0)) rfl rfl
theorem x_401_55  : exG TB d 401 55 L (.int i2 :: .int i1 :: st) A = exG TB d 401 56 L (.int (i1 + i2) :: st) A := x_nx (op := o_iop (fun x y => x + y)) rfl rfl
theorem x_401_56  : exG TB d 401 56 (a0 :: a1 :: a2 :: a3 :: r9) (.int i1 :: st) A = exG TB d 401 57 (a0 :: a1 :: a2 :: some (.int i1) :: r9) st A := x_nx (op := o_istore 3 1) rfl rfl
theorem x_401_57  : exG TB d 401 57 (a0 :: a1 :: a2 :: a3 :: some (.int i1) :: r9) st A = exG TB d 401 60 (a0 :: a1 :: a2 :: a3 :: some (.int (i1 + (nI 1))) :: r9) st A := x_nx (op := o_iinc 4 1) rfl rfl
theorem x_401_60  : exG TB d 401 60 L st A = exG TB d 401 5 L st A := x_nx (op := o_goto 5) rfl rfl
theorem x_401_63  : exG TB d 401 63 (a0 :: a1 :: a2 :: some (.int i1) :: r9) st A = exG TB d 401 64 (a0 :: a1 :: a2 :: some (.int i1) :: r9) (.int i1 :: st) A := x_nx (op := o_iload 3 1) rfl rfl
theorem x_401_64  : exG TB d 401 64 L [v] A = ck (okv 1 v) (some (.inl (some v), A)) := x_outg (op := o_ret 1) rfl rfl
theorem e_402 {j1 : Int32} : evG TB (d + 1) 402 [.ref p, .int j1] A = exG TB d 402 0 [some (.ref p), some (.int j1), none] [] A := evG_eq TB d 402 _ A
theorem x_402_0  : exG TB d 402 0 (some v :: r9) st A = rg v (exG TB d 402 1 (some v :: r9) (v :: st) A) := x_rg (op := o_aload 0 1) rfl rfl
theorem x_402_1  : exG TB d 402 1 (some v :: r9) st A = rg v (exG TB d 402 2 (some v :: r9) (v :: st) A) := x_rg (op := o_aload 0 1) rfl rfl
theorem x_402_2  : exG TB d 402 2 (a0 :: some (.int i1) :: r9) st A = exG TB d 402 3 (a0 :: some (.int i1) :: r9) (.int i1 :: st) A := x_nx (op := o_iload 1 1) rfl rfl
theorem x_402_3  : exG TB d 402 3 L [b0, .ref p, w0] A = kw (sel (gc A p) [(30, 323)]) [.ref p, b0] d 402 6 L [w0] A := x_cvb (op := o_cv [(30, 323)] 1 3 false none) rfl rfl x_noh rfl
theorem x_402_6  : exG TB d 402 6 L (.int i1 :: st) A = if i1 = nI 0 then exG TB d 402 13 L st A else exG TB d 402 9 L st A := x_if (op := o_if (fun x => decide (x = 0)) 13) rfl rfl rfl
theorem x_402_9  : exG TB d 402 9 L st A = exG TB d 402 10 L (.int (nI 0) :: st) A := x_nx (op := o_push 1 (.int 0)) rfl rfl
theorem x_402_10  : exG TB d 402 10 L st A = exG TB d 402 14 L st A := x_nx (op := o_goto 14) rfl rfl
theorem x_402_13  : exG TB d 402 13 L st A = exG TB d 402 14 L (.int (nI 1) :: st) A := x_nx (op := o_push 1 (.int 1)) rfl rfl
theorem x_402_14  : exG TB d 402 14 L (v :: .ref p :: st) A = ck ((gf A p 155).isSome && okv 1 v) (exG TB d 402 17 L st (setf A p 155 v)) := x_gd (op := o_put 155 1) rfl rfl
theorem x_402_17  : exG TB d 402 17 (some v :: r9) st A = rg v (exG TB d 402 18 (some v :: r9) (v :: st) A) := x_rg (op := o_aload 0 1) rfl rfl
theorem x_402_18  : exG TB d 402 18 L (.ref p :: st) A = kv (gf A p 155) d 402 21 L st A := x_bd (op := o_get 155) rfl rfl (fun _ => rfl)
theorem x_402_21  : exG TB d 402 21 L (.int i1 :: st) A = if i1 = nI 0 then exG TB d 402 26 L st A else exG TB d 402 24 L st A := x_if (op := o_if (fun x => decide (x = 0)) 26) rfl rfl rfl
theorem x_402_24  : exG TB d 402 24 L st A = exG TB d 402 25 L (.float FP.fconst0 :: st) A := x_nx (op := o_push 1 (.float FP.fconst0)) rfl rfl
theorem x_402_25  : exG TB d 402 25 L [v] A = ck (okv 3 v) (some (.inl (some v), A)) := x_outg (op := o_ret 3) rfl rfl
theorem x_402_26  : exG TB d 402 26 (some v :: r9) st A = rg v (exG TB d 402 27 (some v :: r9) (v :: st) A) := x_rg (op := o_aload 0 1) rfl rfl
theorem x_402_27  : exG TB d 402 27 (a0 :: some (.int i1) :: r9) st A = exG TB d 402 28 (a0 :: some (.int i1) :: r9) (.int i1 :: st) A := x_nx (op := o_iload 1 1) rfl rfl
theorem x_402_28  : exG TB d 402 28 L st A = exG TB d 402 29 L (.int (nI 0) :: st) A := x_nx (op := o_push 1 (.int 0)) rfl rfl
theorem x_402_29  : exG TB d 402 29 L [b1, b0, .ref p] A = kw (sel (gc A p) [(30, 401)]) [.ref p, b0, b1] d 402 32 L [] A := x_cvb (op := o_cv [(30, 401)] 2 3 false none) rfl rfl x_noh rfl
theorem x_402_32  : exG TB d 402 32 (a0 :: a1 :: a2 :: r9) (.int i1 :: st) A = exG TB d 402 33 (a0 :: a1 :: some (.int i1) :: r9) st A := x_nx (op := o_istore 2 1) rfl rfl
theorem x_402_33  : exG TB d 402 33 (a0 :: a1 :: some (.int i1) :: r9) st A = exG TB d 402 34 (a0 :: a1 :: some (.int i1) :: r9) (.int i1 :: st) A := x_nx (op := o_iload 2 1) rfl rfl
theorem x_402_34  : exG TB d 402 34 L (.int i1 :: st) A = if ¬ i1 = nI 0 then exG TB d 402 43 L st A else exG TB d 402 37 L st A := x_if (op := o_if (fun x => decide (¬ x = 0)) 43) rfl rfl rfl
theorem x_402_37  : exG TB d 402 37 L st A = exG TB d 402 40 L (.float 3212836864 :: st) A := x_nx (op := o_push 3 (.float 3212836864)) rfl rfl
theorem x_402_40  : exG TB d 402 40 L st A = exG TB d 402 53 L st A := x_nx (op := o_goto 53) rfl rfl
theorem x_402_43  : exG TB d 402 43 (some v :: r9) st A = rg v (exG TB d 402 44 (some v :: r9) (v :: st) A) := x_rg (op := o_aload 0 1) rfl rfl
theorem x_402_44  : exG TB d 402 44 (a0 :: some (.int i1) :: r9) st A = exG TB d 402 45 (a0 :: some (.int i1) :: r9) (.int i1 :: st) A := x_nx (op := o_iload 1 1) rfl rfl
theorem x_402_45  : exG TB d 402 45 L st A = exG TB d 402 46 L (.int (nI 1) :: st) A := x_nx (op := o_push 1 (.int 1)) rfl rfl
theorem x_402_46  : exG TB d 402 46 L [b1, b0, .ref p] A = kw (sel (gc A p) [(30, 401)]) [.ref p, b0, b1] d 402 49 L [] A := x_cvb (op := o_cv [(30, 401)] 2 3 false none) rfl rfl x_noh rfl
theorem x_402_49  : exG TB d 402 49 L (.int i1 :: st) A = exG TB d 402 50 L (.float (FP.i2f i1) :: st) A := x_nx (op := o_i2f) rfl rfl
theorem x_402_50  : exG TB d 402 50 (a0 :: a1 :: some (.int i1) :: r9) st A = exG TB d 402 51 (a0 :: a1 :: some (.int i1) :: r9) (.int i1 :: st) A := x_nx (op := o_iload 2 1) rfl rfl
theorem x_402_51  : exG TB d 402 51 L (.int i1 :: st) A = exG TB d 402 52 L (.float (FP.i2f i1) :: st) A := x_nx (op := o_i2f) rfl rfl
theorem x_402_52  : exG TB d 402 52 L (.float f2 :: .float f1 :: st) A = ck (b_n32 (FP.fdiv f1 f2)) (exG TB d 402 53 L (.float (FP.fdiv f1 f2) :: st) A) := x_gd (op := o_fdiv) rfl rfl
theorem x_402_53  : exG TB d 402 53 L [v] A = ck (okv 3 v) (some (.inl (some v), A)) := x_outg (op := o_ret 3) rfl rfl
theorem e_403  : evG TB (d + 1) 403 [.ref p] A = exG TB d 403 0 [some (.ref p), none, none, none, none] [] A := evG_eq TB d 403 _ A
theorem x_403_0  : exG TB d 403 0 (some v :: r9) st A = rg v (exG TB d 403 1 (some v :: r9) (v :: st) A) := x_rg (op := o_aload 0 1) rfl rfl
theorem x_403_1  : exG TB d 403 1 L st A = exG TB d 403 2 L (.int (nI 0) :: st) A := x_nx (op := o_push 1 (.int 0)) rfl rfl
theorem x_403_2  : exG TB d 403 2 L (v :: .ref p :: st) A = ck ((gf A p 155).isSome && okv 1 v) (exG TB d 403 5 L st (setf A p 155 v)) := x_gd (op := o_put 155 1) rfl rfl
theorem x_403_5  : exG TB d 403 5 L st A = exG TB d 403 6 L (.int nN :: st) A := x_nx (op := o_push 1 (.int (-1))) rfl rfl
theorem x_403_6  : exG TB d 403 6 (a0 :: a1 :: r9) (.int i1 :: st) A = exG TB d 403 7 (a0 :: some (.int i1) :: r9) st A := x_nx (op := o_istore 1 1) rfl rfl
theorem x_403_7  : exG TB d 403 7 L st A = exG TB d 403 8 L (.int (nI 0) :: st) A := x_nx (op := o_push 1 (.int 0)) rfl rfl
theorem x_403_8  : exG TB d 403 8 (a0 :: a1 :: a2 :: r9) (.int i1 :: st) A = exG TB d 403 9 (a0 :: a1 :: some (.int i1) :: r9) st A := x_nx (op := o_istore 2 1) rfl rfl
theorem x_403_9  : exG TB d 403 9 L st A = exG TB d 403 10 L (.int (nI 0) :: st) A := x_nx (op := o_push 1 (.int 0)) rfl rfl
theorem x_403_10  : exG TB d 403 10 (a0 :: a1 :: a2 :: a3 :: r9) (.int i1 :: st) A = exG TB d 403 11 (a0 :: a1 :: a2 :: some (.int i1) :: r9) st A := x_nx (op := o_istore 3 1) rfl rfl
theorem x_403_11  : exG TB d 403 11 (a0 :: a1 :: a2 :: some (.int i1) :: r9) st A = exG TB d 403 12 (a0 :: a1 :: a2 :: some (.int i1) :: r9) (.int i1 :: st) A := x_nx (op := o_iload 3 1) rfl rfl
theorem x_403_12  : exG TB d 403 12 (some v :: r9) st A = rg v (exG TB d 403 13 (some v :: r9) (v :: st) A) := x_rg (op := o_aload 0 1) rfl rfl
theorem x_403_13  : exG TB d 403 13 L (.ref p :: st) A = kv (gf A p 148) d 403 16 L st A := x_bd (op := o_get 148) rfl rfl (fun _ => rfl)
theorem x_403_16  : exG TB d 403 16 L st A = exG TB d 403 18 L (.int (nI 8) :: st) A := x_nx (op := o_push 2 (.int 8)) rfl rfl
theorem x_403_18  : exG TB d 403 18 L (.int i1 :: .ref p :: st) A = ki (rdI 0 (ga A p) i1) d 403 19 L st A := x_bd (op := o_rdI 0) rfl rfl (fun _ => rfl)
theorem x_403_19  : exG TB d 403 19 L (.int i2 :: .int i1 :: st) A = if i2 ≤ i1 then exG TB d 403 47 L st A else exG TB d 403 22 L st A := x_if (op := o_icmp (fun x y => decide (y ≤ x)) 47) rfl rfl rfl
theorem x_403_22  : exG TB d 403 22 (some v :: r9) st A = rg v (exG TB d 403 23 (some v :: r9) (v :: st) A) := x_rg (op := o_aload 0 1) rfl rfl
theorem x_403_23  : exG TB d 403 23 (a0 :: a1 :: a2 :: some (.int i1) :: r9) st A = exG TB d 403 24 (a0 :: a1 :: a2 :: some (.int i1) :: r9) (.int i1 :: st) A := x_nx (op := o_iload 3 1) rfl rfl
theorem x_403_24  : exG TB d 403 24 L st A = exG TB d 403 25 L (.int (nI 1) :: st) A := x_nx (op := o_push 1 (.int 1)) rfl rfl
theorem x_403_25  : exG TB d 403 25 L [b1, b0, .ref p] A = kw (sel (gc A p) [(30, 401)]) [.ref p, b0, b1] d 403 28 L [] A := x_cvb (op := o_cv [(30, 401)] 2 3 false none) rfl rfl x_noh rfl
theorem x_403_28  : exG TB d 403 28 (a0 :: a1 :: a2 :: a3 :: a4 :: r9) (.int i1 :: st) A = exG TB d 403 30 (a0 :: a1 :: a2 :: a3 :: some (.int i1) :: r9) st A := x_nx (op := o_istore 4 2) rfl rfl
theorem x_403_30  : exG TB d 403 30 (a0 :: a1 :: a2 :: a3 :: some (.int i1) :: r9) st A = exG TB d 403 32 (a0 :: a1 :: a2 :: a3 :: some (.int i1) :: r9) (.int i1 :: st) A := x_nx (op := o_iload 4 2) rfl rfl
theorem x_403_32  : exG TB d 403 32 (a0 :: a1 :: some (.int i1) :: r9) st A = exG TB d 403 33 (a0 :: a1 :: some (.int i1) :: r9) (.int i1 :: st) A := x_nx (op := o_iload 2 1) rfl rfl
theorem x_403_33  : exG TB d 403 33 L (.int i2 :: .int i1 :: st) A = if i1 ≤ i2 then exG TB d 403 41 L st A else exG TB d 403 36 L st A := x_if (op := o_icmp (fun x y => decide (x ≤ y)) 41) rfl rfl rfl
theorem x_403_36  : exG TB d 403 36 (a0 :: a1 :: a2 :: some (.int i1) :: r9) st A = exG TB d 403 37 (a0 :: a1 :: a2 :: some (.int i1) :: r9) (.int i1 :: st) A := x_nx (op := o_iload 3 1) rfl rfl
theorem x_403_37  : exG TB d 403 37 (a0 :: a1 :: r9) (.int i1 :: st) A = exG TB d 403 38 (a0 :: some (.int i1) :: r9) st A := x_nx (op := o_istore 1 1) rfl rfl
theorem x_403_38  : exG TB d 403 38 (a0 :: a1 :: a2 :: a3 :: some (.int i1) :: r9) st A = exG TB d 403 40 (a0 :: a1 :: a2 :: a3 :: some (.int i1) :: r9) (.int i1 :: st) A := x_nx (op := o_iload 4 2) rfl rfl
theorem x_403_40  : exG TB d 403 40 (a0 :: a1 :: a2 :: r9) (.int i1 :: st) A = exG TB d 403 41 (a0 :: a1 :: some (.int i1) :: r9) st A := x_nx (op := o_istore 2 1) rfl rfl
theorem x_403_41  : exG TB d 403 41 (a0 :: a1 :: a2 :: some (.int i1) :: r9) st A = exG TB d 403 44 (a0 :: a1 :: a2 :: some (.int (i1 + (nI 1))) :: r9) st A := x_nx (op := o_iinc 3 1) rfl rfl
theorem x_403_44  : exG TB d 403 44 L st A = exG TB d 403 11 L st A := x_nx (op := o_goto 11) rfl rfl
theorem x_403_47  : exG TB d 403 47 (a0 :: some (.int i1) :: r9) st A = exG TB d 403 48 (a0 :: some (.int i1) :: r9) (.int i1 :: st) A := x_nx (op := o_iload 1 1) rfl rfl
theorem x_403_48  : exG TB d 403 48 L [v] A = ck (okv 1 v) (some (.inl (some v), A)) := x_outg (op := o_ret 1) rfl rfl
theorem e_404  : evG TB (d + 1) 404 [.ref p] A = exG TB d 404 0 [some (.ref p)] [] A := evG_eq TB d 404 _ A
theorem x_404_0  : exG TB d 404 0 (some v :: r9) st A = rg v (exG TB d 404 1 (some v :: r9) (v :: st) A) := x_rg (op := o_aload 0 1) rfl rfl
theorem x_404_1  : exG TB d 404 1 L st A = exG TB d 404 2 L (.int (nI 0) :: st) A := x_nx (op := o_push 1 (.int 0)) rfl rfl
theorem x_404_2  : exG TB d 404 2 L (v :: .ref p :: st) A = ck ((gf A p 155).isSome && okv 1 v) (exG TB d 404 5 L st (setf A p 155 v)) := x_gd (op := o_put 155 1) rfl rfl
theorem x_404_5  : exG TB d 404 5 (some v :: r9) st A = rg v (exG TB d 404 6 (some v :: r9) (v :: st) A) := x_rg (op := o_aload 0 1) rfl rfl
theorem x_404_6  : exG TB d 404 6 L (.ref p :: st) A = kv (gf A p 148) d 404 9 L st A := x_bd (op := o_get 148) rfl rfl (fun _ => rfl)
theorem x_404_9  : exG TB d 404 9 L st A = exG TB d 404 11 L (.int (nI 13) :: st) A := x_nx (op := o_push 2 (.int 13)) rfl rfl
theorem x_404_11  : exG TB d 404 11 L (.int i1 :: .ref p :: st) A = ki (rdI 0 (ga A p) i1) d 404 12 L st A := x_bd (op := o_rdI 0) rfl rfl (fun _ => rfl)
theorem x_404_12  : exG TB d 404 12 L (.int i1 :: st) A = if ¬ i1 = nI 0 then exG TB d 404 21 L st A else exG TB d 404 15 L st A := x_if (op := o_if (fun x => decide (¬ x = 0)) 21) rfl rfl rfl
theorem x_404_15  : exG TB d 404 15 L st A = exG TB d 404 18 L (.double 13830554455654793216 :: st) A := x_nx (op := o_push 3 (.double 13830554455654793216)) rfl rfl
theorem x_404_18  : exG TB d 404 18 L st A = exG TB d 404 36 L st A := x_nx (op := o_goto 36) rfl rfl
theorem x_404_21  : exG TB d 404 21 (some v :: r9) st A = rg v (exG TB d 404 22 (some v :: r9) (v :: st) A) := x_rg (op := o_aload 0 1) rfl rfl
theorem x_404_22  : exG TB d 404 22 L st A = exG TB d 404 23 L (.int (nI 0) :: st) A := x_nx (op := o_push 1 (.int 0)) rfl rfl
theorem x_404_23  : exG TB d 404 23 L [b0, .ref p] A = kw (sel (gc A p) [(30, 398)]) [.ref p, b0] d 404 26 L [] A := x_cvb (op := o_cv [(30, 398)] 1 3 false none) rfl rfl x_noh rfl
theorem x_404_26  : exG TB d 404 26 L (.long l1 :: st) A = exG TB d 404 27 L (.double (FP.l2d l1) :: st) A := x_nx (op := o_l2d) rfl rfl
theorem x_404_27  : exG TB d 404 27 (some v :: r9) st A = rg v (exG TB d 404 28 (some v :: r9) (v :: st) A) := x_rg (op := o_aload 0 1) rfl rfl
theorem x_404_28  : exG TB d 404 28 L (.ref p :: st) A = kv (gf A p 148) d 404 31 L st A := x_bd (op := o_get 148) rfl rfl (fun _ => rfl)
theorem x_404_31  : exG TB d 404 31 L st A = exG TB d 404 33 L (.int (nI 13) :: st) A := x_nx (op := o_push 2 (.int 13)) rfl rfl
theorem x_404_33  : exG TB d 404 33 L (.int i1 :: .ref p :: st) A = ki (rdI 0 (ga A p) i1) d 404 34 L st A := x_bd (op := o_rdI 0) rfl rfl (fun _ => rfl)
theorem x_404_34  : exG TB d 404 34 L (.int i1 :: st) A = exG TB d 404 35 L (.double (FP.i2d i1) :: st) A := x_nx (op := o_i2d) rfl rfl
theorem x_404_35  : exG TB d 404 35 L (.double d2 :: .double d1 :: st) A = ck (b_n64 (FP.ddiv d1 d2)) (exG TB d 404 36 L (.double (FP.ddiv d1 d2) :: st) A) := x_gd (op := o_ddiv) rfl rfl
theorem x_404_36  : exG TB d 404 36 L [v] A = ck (okv 4 v) (some (.inl (some v), A)) := x_outg (op := o_ret 4) rfl rfl
theorem e_405 {j1 : Int32} : evG TB (d + 1) 405 [.ref p, .int j1] A = exG TB d 405 0 [some (.ref p), some (.int j1)] [] A := evG_eq TB d 405 _ A
theorem x_405_0  : exG TB d 405 0 (some v :: r9) st A = rg v (exG TB d 405 1 (some v :: r9) (v :: st) A) := x_rg (op := o_aload 0 1) rfl rfl
theorem x_405_1  : exG TB d 405 1 (a0 :: some (.int i1) :: r9) st A = exG TB d 405 2 (a0 :: some (.int i1) :: r9) (.int i1 :: st) A := x_nx (op := o_iload 1 1) rfl rfl
theorem x_405_2  : exG TB d 405 2 L st A = exG TB d 405 3 L (.int (nI 0) :: st) A := x_nx (op := o_push 1 (.int 0)) rfl rfl
theorem x_405_3  : exG TB d 405 3 L st A = exG TB d 405 4 L (.int (nI 1) :: st) A := x_nx (op := o_push 1 (.int 1)) rfl rfl
theorem x_405_4  : exG TB d 405 4 L [b2, b1, b0, w0] A = kc (evG TB d 293 [b0, b1, b2] A) d 405 7 L [w0] := x_cv (op := o_cs 293 3 false none) rfl rfl x_noh rfl
theorem x_405_7  : exG TB d 405 7 L (.int i1 :: st) A = if i1 = nI 0 then exG TB d 405 14 L st A else exG TB d 405 10 L st A := x_if (op := o_if (fun x => decide (x = 0)) 14) rfl rfl rfl
theorem x_405_10  : exG TB d 405 10 L st A = exG TB d 405 11 L (.int (nI 0) :: st) A := x_nx (op := o_push 1 (.int 0)) rfl rfl
theorem x_405_11  : exG TB d 405 11 L st A = exG TB d 405 15 L st A := x_nx (op := o_goto 15) rfl rfl
theorem x_405_14  : exG TB d 405 14 L st A = exG TB d 405 15 L (.int (nI 1) :: st) A := x_nx (op := o_push 1 (.int 1)) rfl rfl
theorem x_405_15  : exG TB d 405 15 L (v :: .ref p :: st) A = ck ((gf A p 155).isSome && okv 1 v) (exG TB d 405 18 L st (setf A p 155 v)) := x_gd (op := o_put 155 1) rfl rfl
theorem x_405_18  : exG TB d 405 18 (some v :: r9) st A = rg v (exG TB d 405 19 (some v :: r9) (v :: st) A) := x_rg (op := o_aload 0 1) rfl rfl
theorem x_405_19  : exG TB d 405 19 L (.ref p :: st) A = kv (gf A p 155) d 405 22 L st A := x_bd (op := o_get 155) rfl rfl (fun _ => rfl)
theorem x_405_22  : exG TB d 405 22 L (.int i1 :: st) A = if ¬ i1 = nI 0 then exG TB d 405 49 L st A else exG TB d 405 25 L st A := x_if (op := o_if (fun x => decide (¬ x = 0)) 49) rfl rfl rfl
theorem x_405_25  : exG TB d 405 25 (some v :: r9) st A = rg v (exG TB d 405 26 (some v :: r9) (v :: st) A) := x_rg (op := o_aload 0 1) rfl rfl
theorem x_405_26  : exG TB d 405 26 L (.ref p :: st) A = kv (gf A p 148) d 405 29 L st A := x_bd (op := o_get 148) rfl rfl (fun _ => rfl)
theorem x_405_29  : exG TB d 405 29 L st A = exG TB d 405 30 L (.int (nI 0) :: st) A := x_nx (op := o_push 1 (.int 0)) rfl rfl
theorem x_405_30  : exG TB d 405 30 (some v :: r9) st A = rg v (exG TB d 405 31 (some v :: r9) (v :: st) A) := x_rg (op := o_aload 0 1) rfl rfl
theorem x_405_31  : exG TB d 405 31 L (.ref p :: st) A = kv (gf A p 150) d 405 34 L st A := x_bd (op := o_get 150) rfl rfl (fun _ => rfl)
theorem x_405_34  : exG TB d 405 34 L st A = exG TB d 405 37 L (.int (nI 3100) :: st) A := x_nx (op := o_push 3 (.int 3100)) rfl rfl
theorem x_405_37  : exG TB d 405 37 (a0 :: some (.int i1) :: r9) st A = exG TB d 405 38 (a0 :: some (.int i1) :: r9) (.int i1 :: st) A := x_nx (op := o_iload 1 1) rfl rfl
theorem x_405_38  : exG TB d 405 38 L (.int i2 :: .int i1 :: st) A = exG TB d 405 39 L (.int (i1 * i2) :: st) A := x_nx (op := o_iop (fun x y => x * y)) rfl rfl
theorem x_405_39  : exG TB d 405 39 L [b3, b2, b1, b0] A = kc0 (evG TB d 295 [b0, b1, b2, b3] A) d 405 42 L [] := x_c0 (op := o_cs 295 4 true none) rfl rfl x_noh rfl
theorem x_405_42  : exG TB d 405 42 (some v :: r9) st A = rg v (exG TB d 405 43 (some v :: r9) (v :: st) A) := x_rg (op := o_aload 0 1) rfl rfl
theorem x_405_43  : exG TB d 405 43 L (.ref p :: st) A = kv (gf A p 151) d 405 46 L st A := x_bd (op := o_get 151) rfl rfl (fun _ => rfl)
theorem x_405_46  : exG TB d 405 46 (a0 :: some (.int i1) :: r9) st A = exG TB d 405 47 (a0 :: some (.int i1) :: r9) (.int i1 :: st) A := x_nx (op := o_iload 1 1) rfl rfl
theorem x_405_47  : exG TB d 405 47 L st A = exG TB d 405 48 L (.int (nI 1) :: st) A := x_nx (op := o_push 1 (.int 1)) rfl rfl
theorem x_405_48  : exG TB d 405 48 L (.int i2 :: .int i1 :: .ref p :: st) A = ka (wrI 2 (ga A p) i1 i2) p d 405 49 L st A := x_bd (op := o_wrI 2) rfl rfl (fun _ => rfl)
theorem x_405_49  : exG TB d 405 49 L [] A = some (.inl none, A) := x_out (op := o_vret) rfl rfl
theorem e_406 {j1 : Int32} : evG TB (d + 1) 406 [.ref p, .int j1] A = exG TB d 406 0 [some (.ref p), some (.int j1)] [] A := evG_eq TB d 406 _ A
theorem x_406_0  : exG TB d 406 0 (some v :: r9) st A = rg v (exG TB d 406 1 (some v :: r9) (v :: st) A) := x_rg (op := o_aload 0 1) rfl rfl
theorem x_406_1  : exG TB d 406 1 (a0 :: some (.int i1) :: r9) st A = exG TB d 406 2 (a0 :: some (.int i1) :: r9) (.int i1 :: st) A := x_nx (op := o_iload 1 1) rfl rfl
theorem x_406_2  : exG TB d 406 2 L st A = exG TB d 406 3 L (.int (nI 0) :: st) A := x_nx (op := o_push 1 (.int 0)) rfl rfl
theorem x_406_3  : exG TB d 406 3 L st A = exG TB d 406 4 L (.int (nI 1) :: st) A := x_nx (op := o_push 1 (.int 1)) rfl rfl
theorem x_406_4  : exG TB d 406 4 L [b2, b1, b0, w0] A = kc (evG TB d 293 [b0, b1, b2] A) d 406 7 L [w0] := x_cv (op := o_cs 293 3 false none) rfl rfl x_noh rfl
theorem x_406_7  : exG TB d 406 7 L (.int i1 :: st) A = if ¬ i1 = nI 0 then exG TB d 406 14 L st A else exG TB d 406 10 L st A := x_if (op := o_if (fun x => decide (¬ x = 0)) 14) rfl rfl rfl
theorem x_406_10  : exG TB d 406 10 L st A = exG TB d 406 11 L (.int (nI 1) :: st) A := x_nx (op := o_push 1 (.int 1)) rfl rfl
theorem x_406_11  : exG TB d 406 11 L st A = exG TB d 406 28 L st A := x_nx (op := o_goto 28) rfl rfl
theorem x_406_14  : exG TB d 406 14 (some v :: r9) st A = rg v (exG TB d 406 15 (some v :: r9) (v :: st) A) := x_rg (op := o_aload 0 1) rfl rfl
theorem x_406_15  : exG TB d 406 15 L (.ref p :: st) A = kv (gf A p 151) d 406 18 L st A := x_bd (op := o_get 151) rfl rfl (fun _ => rfl)
theorem x_406_18  : exG TB d 406 18 (a0 :: some (.int i1) :: r9) st A = exG TB d 406 19 (a0 :: some (.int i1) :: r9) (.int i1 :: st) A := x_nx (op := o_iload 1 1) rfl rfl
theorem x_406_19  : exG TB d 406 19 L (.int i1 :: .ref p :: st) A = ki (rdI 2 (ga A p) i1) d 406 20 L st A := x_bd (op := o_rdI 2) rfl rfl (fun _ => rfl)
theorem x_406_20  : exG TB d 406 20 L (.int i1 :: st) A = if ¬ i1 = nI 0 then exG TB d 406 27 L st A else exG TB d 406 23 L st A := x_if (op := o_if (fun x => decide (¬ x = 0)) 27) rfl rfl rfl
theorem x_406_23  : exG TB d 406 23 L st A = exG TB d 406 24 L (.int (nI 2) :: st) A := x_nx (op := o_push 1 (.int 2)) rfl rfl
theorem x_406_24  : exG TB d 406 24 L st A = exG TB d 406 28 L st A := x_nx (op := o_goto 28) rfl rfl
theorem x_406_27  : exG TB d 406 27 L st A = exG TB d 406 28 L (.int (nI 0) :: st) A := x_nx (op := o_push 1 (.int 0)) rfl rfl
theorem x_406_28  : exG TB d 406 28 L (v :: .ref p :: st) A = ck ((gf A p 155).isSome && okv 1 v) (exG TB d 406 31 L st (setf A p 155 v)) := x_gd (op := o_put 155 1) rfl rfl
theorem x_406_31  : exG TB d 406 31 (some v :: r9) st A = rg v (exG TB d 406 32 (some v :: r9) (v :: st) A) := x_rg (op := o_aload 0 1) rfl rfl
theorem x_406_32  : exG TB d 406 32 L (.ref p :: st) A = kv (gf A p 155) d 406 35 L st A := x_bd (op := o_get 155) rfl rfl (fun _ => rfl)
theorem x_406_35  : exG TB d 406 35 L (.int i1 :: st) A = if ¬ i1 = nI 0 then exG TB d 406 55 L st A else exG TB d 406 38 L st A := x_if (op := o_if (fun x => decide (¬ x = 0)) 55) rfl rfl rfl
theorem x_406_38  : exG TB d 406 38 (some v :: r9) st A = rg v (exG TB d 406 39 (some v :: r9) (v :: st) A) := x_rg (op := o_aload 0 1) rfl rfl
theorem x_406_39  : exG TB d 406 39 L (.ref p :: st) A = kv (gf A p 150) d 406 42 L st A := x_bd (op := o_get 150) rfl rfl (fun _ => rfl)
theorem x_406_42  : exG TB d 406 42 L st A = exG TB d 406 45 L (.int (nI 3100) :: st) A := x_nx (op := o_push 3 (.int 3100)) rfl rfl
theorem x_406_45  : exG TB d 406 45 (a0 :: some (.int i1) :: r9) st A = exG TB d 406 46 (a0 :: some (.int i1) :: r9) (.int i1 :: st) A := x_nx (op := o_iload 1 1) rfl rfl
theorem x_406_46  : exG TB d 406 46 L (.int i2 :: .int i1 :: st) A = exG TB d 406 47 L (.int (i1 * i2) :: st) A := x_nx (op := o_iop (fun x y => x * y)) rfl rfl
theorem x_406_47  : exG TB d 406 47 (some v :: r9) st A = rg v (exG TB d 406 48 (some v :: r9) (v :: st) A) := x_rg (op := o_aload 0 1) rfl rfl
theorem x_406_48  : exG TB d 406 48 L (.ref p :: st) A = kv (gf A p 148) d 406 51 L st A := x_bd (op := o_get 148) rfl rfl (fun _ => rfl)
theorem x_406_51  : exG TB d 406 51 L st A = exG TB d 406 52 L (.int (nI 0) :: st) A := x_nx (op := o_push 1 (.int 0)) rfl rfl
theorem x_406_52  : exG TB d 406 52 L [b3, b2, b1, b0] A = kc0 (evG TB d 295 [b0, b1, b2, b3] A) d 406 55 L [] := x_c0 (op := o_cs 295 4 true none) rfl rfl x_noh rfl
theorem x_406_55  : exG TB d 406 55 L [] A = some (.inl none, A) := x_out (op := o_vret) rfl rfl
theorem e_407 {j2 : Int32} : evG TB (d + 1) 407 [.ref p, b1, .int j2] A = rg b1 (exG TB d 407 0 [some (.ref p), some (b1), some (.int j2)] [] A) := by
  rw [evG_eq]
  show (bif (true && (isR b1 && (true && true))) then exG TB d 407 0 [some (.ref p), some (b1), some (.int j2)] [] A else none) = _
  unfold rg
  cases isR b1 <;> rfl
theorem x_407_0  : exG TB d 407 0 (some v :: r9) st A = rg v (exG TB d 407 1 (some v :: r9) (v :: st) A) := x_rg (op := o_aload 0 1) rfl rfl
theorem x_407_1  : exG TB d 407 1 (a0 :: some v :: r9) st A = rg v (exG TB d 407 2 (a0 :: some v :: r9) (v :: st) A) := x_rg (op := o_aload 1 1) rfl rfl
theorem x_407_2  : exG TB d 407 2 L (v :: .ref p :: st) A = ck ((gf A p 51).isSome && okv 0 v) (exG TB d 407 5 L st (setf A p 51 v)) := x_gd (op := o_put 51 0) rfl rfl
theorem x_407_5  : exG TB d 407 5 (some v :: r9) st A = rg v (exG TB d 407 6 (some v :: r9) (v :: st) A) := x_rg (op := o_aload 0 1) rfl rfl
theorem x_407_6  : exG TB d 407 6 L [.ref p] A = exG TB d 407 9 L [] A := x_nx (op := o_oi) rfl rfl
theorem x_407_9  : exG TB d 407 9 (some v :: r9) st A = rg v (exG TB d 407 10 (some v :: r9) (v :: st) A) := x_rg (op := o_aload 0 1) rfl rfl
theorem x_407_10  : exG TB d 407 10 L st A = exG TB d 407 13 L (.ref (nx A) :: st) (newo A 1 8 dv1) := x_nx (op := o_new 1 8 dv1) rfl rfl
theorem x_407_13  : exG TB d 407 13 L (v :: st) A = ck (c1 v) (exG TB d 407 14 L (v :: v :: st) A) := x_gd (op := o_dup) rfl rfl
theorem x_407_14  : exG TB d 407 14 L [.ref p, w0, w1] A = kc0 (evG TB d 256 [.ref p] A) d 407 17 L [w0, w1] := x_c0 (op := o_ci 256 0) rfl rfl x_noh rfl
theorem x_407_17  : exG TB d 407 17 L (v :: .ref p :: st) A = ck ((gf A p 44).isSome && okv 0 v) (exG TB d 407 20 L st (setf A p 44 v)) := x_gd (op := o_put 44 0) rfl rfl
theorem x_407_20  : exG TB d 407 20 (some v :: r9) st A = rg v (exG TB d 407 21 (some v :: r9) (v :: st) A) := x_rg (op := o_aload 0 1) rfl rfl
theorem x_407_21  : exG TB d 407 21 (a0 :: a1 :: some (.int i1) :: r9) st A = exG TB d 407 22 (a0 :: a1 :: some (.int i1) :: r9) (.int i1 :: st) A := x_nx (op := o_iload 2 1) rfl rfl
theorem x_407_22  : exG TB d 407 22 L (v :: .ref p :: st) A = ck ((gf A p 43).isSome && okv 1 v) (exG TB d 407 25 L st (setf A p 43 v)) := x_gd (op := o_put 43 1) rfl rfl
theorem x_407_25  : exG TB d 407 25 (some v :: r9) st A = rg v (exG TB d 407 26 (some v :: r9) (v :: st) A) := x_rg (op := o_aload 0 1) rfl rfl
theorem x_407_26  : exG TB d 407 26 L [.ref p] A = kw0 (sel (gc A p) [(9, 408)]) [.ref p] d 407 29 L [] A := x_c0b (op := o_cv [(9, 408)] 0 3 true none) rfl rfl x_noh rfl
theorem x_407_29  : exG TB d 407 29 L [] A = some (.inl none, A) := x_out (op := o_vret) rfl rfl
theorem e_408  : evG TB (d + 1) 408 [.ref p] A = exG TB d 408 0 [some (.ref p), none] [] A := evG_eq TB d 408 _ A
theorem x_408_0  : exG TB d 408 0 (some v :: r9) st A = rg v (exG TB d 408 1 (some v :: r9) (v :: st) A) := x_rg (op := o_aload 0 1) rfl rfl
theorem x_408_1  : exG TB d 408 1 (some v :: r9) st A = rg v (exG TB d 408 2 (some v :: r9) (v :: st) A) := x_rg (op := o_aload 0 1) rfl rfl
theorem x_408_2  : exG TB d 408 2 L (.ref p :: st) A = kv (gf A p 45) d 408 5 L st A := x_bd (op := o_get 45) rfl rfl (fun _ => rfl)
theorem x_408_5  : exG TB d 408 5 L [b0, .ref p] A = kw (sel (gc A p) [(9, 409)]) [.ref p, b0] d 408 8 L [] A := x_cvb (op := o_cv [(9, 409)] 1 3 false none) rfl rfl x_noh rfl
theorem x_408_8  : exG TB d 408 8 L st A = exG TB d 408 10 L (.int (nI 32) :: st) A := x_nx (op := o_push 2 (.int 32)) rfl rfl
theorem x_408_10  : exG TB d 408 10 L (.int i2 :: .int i1 :: st) A = if i1 = i2 then exG TB d 408 26 L st A else exG TB d 408 13 L st A := x_if (op := o_icmp (fun x y => decide (x = y)) 26) rfl rfl rfl
theorem x_408_13  : exG TB d 408 13 (some v :: r9) st A = rg v (exG TB d 408 14 (some v :: r9) (v :: st) A) := x_rg (op := o_aload 0 1) rfl rfl
theorem x_408_14  : exG TB d 408 14 (some v :: r9) st A = rg v (exG TB d 408 15 (some v :: r9) (v :: st) A) := x_rg (op := o_aload 0 1) rfl rfl
theorem x_408_15  : exG TB d 408 15 L (.ref p :: st) A = kv (gf A p 45) d 408 18 L st A := x_bd (op := o_get 45) rfl rfl (fun _ => rfl)
theorem x_408_18  : exG TB d 408 18 L [b0, .ref p] A = kw (sel (gc A p) [(9, 409)]) [.ref p, b0] d 408 21 L [] A := x_cvb (op := o_cv [(9, 409)] 1 3 false none) rfl rfl x_noh rfl
theorem x_408_21  : exG TB d 408 21 L st A = exG TB d 408 23 L (.int (nI 10) :: st) A := x_nx (op := o_push 2 (.int 10)) rfl rfl
theorem x_408_23  : exG TB d 408 23 L (.int i2 :: .int i1 :: st) A = if ¬ i1 = i2 then exG TB d 408 39 L st A else exG TB d 408 26 L st A := x_if (op := o_icmp (fun x y => decide (¬ x = y)) 39) rfl rfl rfl
theorem x_408_26  : exG TB d 408 26 (some v :: r9) st A = rg v (exG TB d 408 27 (some v :: r9) (v :: st) A) := x_rg (op := o_aload 0 1) rfl rfl
theorem x_408_27  : exG TB d 408 27 L (v :: st) A = ck (c1 v) (exG TB d 408 28 L (v :: v :: st) A) := x_gd (op := o_dup) rfl rfl
theorem x_408_28  : exG TB d 408 28 L (.ref p :: st) A = kv (gf A p 45) d 408 31 L st A := x_bd (op := o_get 45) rfl rfl (fun _ => rfl)
theorem x_408_31  : exG TB d 408 31 L st A = exG TB d 408 32 L (.int (nI 1) :: st) A := x_nx (op := o_push 1 (.int 1)) rfl rfl
theorem x_408_32  : exG TB d 408 32 L (.int i2 :: .int i1 :: st) A = exG TB d 408 33 L (.int (i1 + i2) :: st) A := x_nx (op := o_iop (fun x y => x + y)) rfl rfl
theorem x_408_33  : exG TB d 408 33 L (v :: .ref p :: st) A = ck ((gf A p 45).isSome && okv 1 v) (exG TB d 408 36 L st (setf A p 45 v)) := x_gd (op := o_put 45 1) rfl rfl
theorem x_408_36  : exG TB d 408 36 L st A = exG TB d 408 0 L st A := x_nx (op := o_goto 0) rfl rfl
theorem x_408_39  : exG TB d 408 39 (some v :: r9) st A = rg v (exG TB d 408 40 (some v :: r9) (v :: st) A) := x_rg (op := o_aload 0 1) rfl rfl
theorem x_408_40  : exG TB d 408 40 (some v :: r9) st A = rg v (exG TB d 408 41 (some v :: r9) (v :: st) A) := x_rg (op := o_aload 0 1) rfl rfl
theorem x_408_41  : exG TB d 408 41 L (.ref p :: st) A = kv (gf A p 45) d 408 44 L st A := x_bd (op := o_get 45) rfl rfl (fun _ => rfl)
theorem x_408_44  : exG TB d 408 44 L (v :: .ref p :: st) A = ck ((gf A p 46).isSome && okv 1 v) (exG TB d 408 47 L st (setf A p 46 v)) := x_gd (op := o_put 46 1) rfl rfl
theorem x_408_47  : exG TB d 408 47 (some v :: r9) st A = rg v (exG TB d 408 48 (some v :: r9) (v :: st) A) := x_rg (op := o_aload 0 1) rfl rfl
theorem x_408_48  : exG TB d 408 48 L st A = exG TB d 408 49 L (.int (nI 0) :: st) A := x_nx (op := o_push 1 (.int 0)) rfl rfl
theorem x_408_49  : exG TB d 408 49 L (v :: .ref p :: st) A = ck ((gf A p 49).isSome && okv 1 v) (exG TB d 408 52 L st (setf A p 49 v)) := x_gd (op := o_put 49 1) rfl rfl
theorem x_408_52  : exG TB d 408 52 (some v :: r9) st A = rg v (exG TB d 408 53 (some v :: r9) (v :: st) A) := x_rg (op := o_aload 0 1) rfl rfl
theorem x_408_53  : exG TB d 408 53 (some v :: r9) st A = rg v (exG TB d 408 54 (some v :: r9) (v :: st) A) := x_rg (op := o_aload 0 1) rfl rfl
theorem x_408_54  : exG TB d 408 54 (some v :: r9) st A = rg v (exG TB d 408 55 (some v :: r9) (v :: st) A) := x_rg (op := o_aload 0 1) rfl rfl
theorem x_408_55  : exG TB d 408 55 L (.ref p :: st) A = kv (gf A p 45) d 408 58 L st A := x_bd (op := o_get 45) rfl rfl (fun _ => rfl)
theorem x_408_58  : exG TB d 408 58 L [b0, .ref p, w0] A = kw (sel (gc A p) [(9, 409)]) [.ref p, b0] d 408 61 L [w0] A := x_cvb (op := o_cv [(9, 409)] 1 3 false none) rfl rfl x_noh rfl
theorem x_408_61  : exG TB d 408 61 L (.int i1 :: st) A = exG TB d 408 62 L (.long i1.toInt64 :: st) A := x_nx (op := o_i2l) rfl rfl
theorem x_408_62  : exG TB d 408 62 L st A = exG TB d 408 65 L (.long 48 :: st) A := x_nx (op := o_push 3 (.long 48)) rfl rfl
theorem x_408_65  : exG TB d 408 65 L st A = exG TB d 408 68 L (.long 57 :: st) A := x_nx (op := o_push 3 (.long 57)) rfl rfl
theorem x_408_68  : exG TB d 408 68 L [b2, b1, b0, w0] A = kc (evG TB d 165 [b0, b1, b2] A) d 408 71 L [w0] := x_cv (op := o_cs 165 3 false none) rfl rfl x_noh rfl
theorem x_408_71  : exG TB d 408 71 L (v :: .ref p :: st) A = ck ((gf A p 47).isSome && okv 5 v) (exG TB d 408 74 L st (setf A p 47 v)) := x_gd (op := o_put 47 5) rfl rfl
theorem x_408_74  : exG TB d 408 74 (some v :: r9) st A = rg v (exG TB d 408 75 (some v :: r9) (v :: st) A) := x_rg (op := o_aload 0 1) rfl rfl
theorem x_408_75  : exG TB d 408 75 (some v :: r9) st A = rg v (exG TB d 408 76 (some v :: r9) (v :: st) A) := x_rg (op := o_aload 0 1) rfl rfl
theorem x_408_76  : exG TB d 408 76 (some v :: r9) st A = rg v (exG TB d 408 77 (some v :: r9) (v :: st) A) := x_rg (op := o_aload 0 1) rfl rfl
theorem x_408_77  : exG TB d 408 77 L (.ref p :: st) A = kv (gf A p 45) d 408 80 L st A := x_bd (op := o_get 45) rfl rfl (fun _ => rfl)
theorem x_408_80  : exG TB d 408 80 L [b0, .ref p, w0] A = kw (sel (gc A p) [(9, 409)]) [.ref p, b0] d 408 83 L [w0] A := x_cvb (op := o_cv [(9, 409)] 1 3 false none) rfl rfl x_noh rfl
theorem x_408_83  : exG TB d 408 83 L st A = exG TB d 408 85 L (.int (nI 59) :: st) A := x_nx (op := o_push 2 (.int 59)) rfl rfl
theorem x_408_85  : exG TB d 408 85 L (.int i2 :: .int i1 :: st) A = if ¬ i1 = i2 then exG TB d 408 92 L st A else exG TB d 408 88 L st A := x_if (op := o_icmp (fun x y => decide (¬ x = y)) 92) rfl rfl rfl
theorem x_408_88  : exG TB d 408 88 L st A = exG TB d 408 89 L (.int (nI 1) :: st) A := x_nx (op := o_push 1 (.int 1)) rfl rfl
theorem x_408_89  : exG TB d 408 89 L st A = exG TB d 408 93 L st A := x_nx (op := o_goto 93) rfl rfl
theorem x_408_92  : exG TB d 408 92 L st A = exG TB d 408 93 L (.int (nI 0) :: st) A := x_nx (op := o_push 1 (.int 0)) rfl rfl
theorem x_408_93  : exG TB d 408 93 L (v :: .ref p :: st) A = ck ((gf A p 48).isSome && okv 5 v) (exG TB d 408 96 L st (setf A p 48 v)) := x_gd (op := o_put 48 5) rfl rfl
theorem x_408_96  : exG TB d 408 96 L st A = exG TB d 408 99 L (.ref (nx A) :: st) (newo A 4 4 dv4) := x_nx (op := o_new 4 4 dv4) rfl rfl
theorem x_408_99  : exG TB d 408 99 L (v :: st) A = ck (c1 v) (exG TB d 408 100 L (v :: v :: st) A) := x_gd (op := o_dup) rfl rfl
theorem x_408_100  : exG TB d 408 100 L [.ref p, w0] A = kc0 (evG TB d 111 [.ref p] A) d 408 103 L [w0] := x_c0 (op := o_ci 111 0) rfl rfl x_noh rfl
theorem x_408_103  : exG TB d 408 103 (a0 :: a1 :: r9) (v :: st) A = rg v (exG TB d 408 104 (a0 :: some v :: r9) st A) := x_rgt (op := o_astore 1 1) rfl rfl
theorem x_408_104  : exG TB d 408 104 (some v :: r9) st A = rg v (exG TB d 408 105 (some v :: r9) (v :: st) A) := x_rg (op := o_aload 0 1) rfl rfl
theorem x_408_105  : exG TB d 408 105 L (.ref p :: st) A = kv (gf A p 47) d 408 108 L st A := x_bd (op := o_get 47) rfl rfl (fun _ => rfl)
theorem x_408_108  : exG TB d 408 108 L (.int i1 :: st) A = if i1 = nI 0 then exG TB d 408 173 L st A else exG TB d 408 111 L st A := x_if (op := o_if (fun x => decide (x = 0)) 173) rfl rfl rfl
theorem x_408_111  : exG TB d 408 111 (some v :: r9) st A = rg v (exG TB d 408 112 (some v :: r9) (v :: st) A) := x_rg (op := o_aload 0 1) rfl rfl
theorem x_408_112  : exG TB d 408 112 (some v :: r9) st A = rg v (exG TB d 408 113 (some v :: r9) (v :: st) A) := x_rg (op := o_aload 0 1) rfl rfl
theorem x_408_113  : exG TB d 408 113 L (.ref p :: st) A = kv (gf A p 45) d 408 116 L st A := x_bd (op := o_get 45) rfl rfl (fun _ => rfl)
theorem x_408_116  : exG TB d 408 116 L [b0, .ref p] A = kw (sel (gc A p) [(9, 409)]) [.ref p, b0] d 408 119 L [] A := x_cvb (op := o_cv [(9, 409)] 1 3 false none) rfl rfl x_noh rfl
theorem x_408_119  : exG TB d 408 119 L (.int i1 :: st) A = exG TB d 408 120 L (.long i1.toInt64 :: st) A := x_nx (op := o_i2l) rfl rfl
theorem x_408_120  : exG TB d 408 120 L st A = exG TB d 408 123 L (.long 48 :: st) A := x_nx (op := o_push 3 (.long 48)) rfl rfl
theorem x_408_123  : exG TB d 408 123 L st A = exG TB d 408 126 L (.long 57 :: st) A := x_nx (op := o_push 3 (.long 57)) rfl rfl
theorem x_408_126  : exG TB d 408 126 L [b2, b1, b0] A = kc (evG TB d 165 [b0, b1, b2] A) d 408 129 L [] := x_cv (op := o_cs 165 3 false none) rfl rfl x_noh rfl
theorem x_408_129  : exG TB d 408 129 L (.int i1 :: st) A = if i1 = nI 0 then exG TB d 408 173 L st A else exG TB d 408 132 L st A := x_if (op := o_if (fun x => decide (x = 0)) 173) rfl rfl rfl
theorem x_408_132  : exG TB d 408 132 (some v :: r9) st A = rg v (exG TB d 408 133 (some v :: r9) (v :: st) A) := x_rg (op := o_aload 0 1) rfl rfl
theorem x_408_133  : exG TB d 408 133 L st A = exG TB d 408 135 L (.int (nI 1000000) :: st) A := x_nx (op := o_push 2 (.int 1000000)) rfl rfl
theorem x_408_135  : exG TB d 408 135 L st A = exG TB d 408 137 L (.int (nI 10) :: st) A := x_nx (op := o_push 2 (.int 10)) rfl rfl
theorem x_408_137  : exG TB d 408 137 (some v :: r9) st A = rg v (exG TB d 408 138 (some v :: r9) (v :: st) A) := x_rg (op := o_aload 0 1) rfl rfl
theorem x_408_138  : exG TB d 408 138 L (.ref p :: st) A = kv (gf A p 49) d 408 141 L st A := x_bd (op := o_get 49) rfl rfl (fun _ => rfl)
theorem x_408_141  : exG TB d 408 141 L (.int i2 :: .int i1 :: st) A = exG TB d 408 142 L (.int (i1 * i2) :: st) A := x_nx (op := o_iop (fun x y => x * y)) rfl rfl
theorem x_408_142  : exG TB d 408 142 (some v :: r9) st A = rg v (exG TB d 408 143 (some v :: r9) (v :: st) A) := x_rg (op := o_aload 0 1) rfl rfl
theorem x_408_143  : exG TB d 408 143 (some v :: r9) st A = rg v (exG TB d 408 144 (some v :: r9) (v :: st) A) := x_rg (op := o_aload 0 1) rfl rfl
theorem x_408_144  : exG TB d 408 144 L (.ref p :: st) A = kv (gf A p 45) d 408 147 L st A := x_bd (op := o_get 45) rfl rfl (fun _ => rfl)
theorem x_408_147  : exG TB d 408 147 L [b0, .ref p, w0, w1, w2] A = kw (sel (gc A p) [(9, 409)]) [.ref p, b0] d 408 150 L [w0, w1, w2] A := x_cvb (op := o_cv [(9, 409)] 1 3 false none) rfl rfl x_noh rfl
theorem x_408_150  : exG TB d 408 150 L (.int i2 :: .int i1 :: st) A = exG TB d 408 151 L (.int (i1 + i2) :: st) A := x_nx (op := o_iop (fun x y => x + y)) rfl rfl
theorem x_408_151  : exG TB d 408 151 L st A = exG TB d 408 153 L (.int (nI 48) :: st) A := x_nx (op := o_push 2 (.int 48)) rfl rfl
theorem x_408_153  : exG TB d 408 153 L (.int i2 :: .int i1 :: st) A = exG TB d 408 154 L (.int (i1 - i2) :: st) A := x_nx (op := o_iop (fun x y => x - y)) rfl rfl
theorem x_408_154  : exG TB d 408 154 L [b1, b0, w0] A = kc (evG TB d 7 [b0, b1] A) d 408 157 L [w0] := x_cv (op := o_cs 7 2 false none) rfl rfl x_noh rfl
theorem x_408_157  : exG TB d 408 157 L (v :: .ref p :: st) A = ck ((gf A p 49).isSome && okv 1 v) (exG TB d 408 160 L st (setf A p 49 v)) := x_gd (op := o_put 49 1) rfl rfl
theorem x_408_160  : exG TB d 408 160 (some v :: r9) st A = rg v (exG TB d 408 161 (some v :: r9) (v :: st) A) := x_rg (op := o_aload 0 1) rfl rfl
theorem x_408_161  : exG TB d 408 161 L (v :: st) A = ck (c1 v) (exG TB d 408 162 L (v :: v :: st) A) := x_gd (op := o_dup) rfl rfl
theorem x_408_162  : exG TB d 408 162 L (.ref p :: st) A = kv (gf A p 45) d 408 165 L st A := x_bd (op := o_get 45) rfl rfl (fun _ => rfl)
theorem x_408_165  : exG TB d 408 165 L st A = exG TB d 408 166 L (.int (nI 1) :: st) A := x_nx (op := o_push 1 (.int 1)) rfl rfl
theorem x_408_166  : exG TB d 408 166 L (.int i2 :: .int i1 :: st) A = exG TB d 408 167 L (.int (i1 + i2) :: st) A := x_nx (op := o_iop (fun x y => x + y)) rfl rfl
theorem x_408_167  : exG TB d 408 167 L (v :: .ref p :: st) A = ck ((gf A p 45).isSome && okv 1 v) (exG TB d 408 170 L st (setf A p 45 v)) := x_gd (op := o_put 45 1) rfl rfl
theorem x_408_170  : exG TB d 408 170 L st A = exG TB d 408 104 L st A := x_nx (op := o_goto 104) rfl rfl
theorem x_408_173  : exG TB d 408 173 (some v :: r9) st A = rg v (exG TB d 408 174 (some v :: r9) (v :: st) A) := x_rg (op := o_aload 0 1) rfl rfl
theorem x_408_174  : exG TB d 408 174 (some v :: r9) st A = rg v (exG TB d 408 175 (some v :: r9) (v :: st) A) := x_rg (op := o_aload 0 1) rfl rfl
theorem x_408_175  : exG TB d 408 175 L (.ref p :: st) A = kv (gf A p 45) d 408 178 L st A := x_bd (op := o_get 45) rfl rfl (fun _ => rfl)
theorem x_408_178  : exG TB d 408 178 L [b0, .ref p] A = kw (sel (gc A p) [(9, 409)]) [.ref p, b0] d 408 181 L [] A := x_cvb (op := o_cv [(9, 409)] 1 3 false none) rfl rfl x_noh rfl
theorem x_408_181  : exG TB d 408 181 L (.int i1 :: st) A = exG TB d 408 182 L (.long i1.toInt64 :: st) A := x_nx (op := o_i2l) rfl rfl
theorem x_408_182  : exG TB d 408 182 L st A = exG TB d 408 185 L (.long 97 :: st) A := x_nx (op := o_push 3 (.long 97)) rfl rfl
theorem x_408_185  : exG TB d 408 185 L st A = exG TB d 408 188 L (.long 122 :: st) A := x_nx (op := o_push 3 (.long 122)) rfl rfl
theorem x_408_188  : exG TB d 408 188 L [b2, b1, b0] A = kc (evG TB d 165 [b0, b1, b2] A) d 408 191 L [] := x_cv (op := o_cs 165 3 false none) rfl rfl x_noh rfl
theorem x_408_191  : exG TB d 408 191 L (.int i1 :: st) A = if i1 = nI 0 then exG TB d 408 228 L st A else exG TB d 408 194 L st A := x_if (op := o_if (fun x => decide (x = 0)) 228) rfl rfl rfl
theorem x_408_194  : exG TB d 408 194 (some v :: r9) st A = rg v (exG TB d 408 195 (some v :: r9) (v :: st) A) := x_rg (op := o_aload 0 1) rfl rfl
theorem x_408_195  : exG TB d 408 195 L (.ref p :: st) A = kv (gf A p 47) d 408 198 L st A := x_bd (op := o_get 47) rfl rfl (fun _ => rfl)
theorem x_408_198  : exG TB d 408 198 L (.int i1 :: st) A = if ¬ i1 = nI 0 then exG TB d 408 228 L st A else exG TB d 408 201 L st A := x_if (op := o_if (fun x => decide (¬ x = 0)) 228) rfl rfl rfl
theorem x_408_201  : exG TB d 408 201 (a0 :: some v :: r9) st A = rg v (exG TB d 408 202 (a0 :: some v :: r9) (v :: st) A) := x_rg (op := o_aload 1 1) rfl rfl
theorem x_408_202  : exG TB d 408 202 (some v :: r9) st A = rg v (exG TB d 408 203 (some v :: r9) (v :: st) A) := x_rg (op := o_aload 0 1) rfl rfl
theorem x_408_203  : exG TB d 408 203 (some v :: r9) st A = rg v (exG TB d 408 204 (some v :: r9) (v :: st) A) := x_rg (op := o_aload 0 1) rfl rfl
theorem x_408_204  : exG TB d 408 204 L (.ref p :: st) A = kv (gf A p 45) d 408 207 L st A := x_bd (op := o_get 45) rfl rfl (fun _ => rfl)
theorem x_408_207  : exG TB d 408 207 L [b0, .ref p, w0] A = kw (sel (gc A p) [(9, 409)]) [.ref p, b0] d 408 210 L [w0] A := x_cvb (op := o_cv [(9, 409)] 1 3 false none) rfl rfl x_noh rfl
theorem x_408_210  : exG TB d 408 210 L (.int i1 :: st) A = exG TB d 408 211 L (.int ((i1.toUInt32 % 65536).toInt32) :: st) A := x_nx (op := o_ii (fun x => (x.toUInt32 % 65536).toInt32)) rfl rfl
theorem x_408_211  : exG TB d 408 211 L [b0, .ref p] A = kw (sel (gc A p) [(4, 114)]) [.ref p, b0] d 408 214 L [] A := x_cvb (op := o_cv [(4, 114)] 1 3 false none) rfl rfl x_noh rfl
theorem x_408_214  : exG TB d 408 214 L (v :: st) A = ck (c1 v) (exG TB d 408 215 L st A) := x_gd (op := o_pop) rfl rfl
theorem x_408_215  : exG TB d 408 215 (some v :: r9) st A = rg v (exG TB d 408 216 (some v :: r9) (v :: st) A) := x_rg (op := o_aload 0 1) rfl rfl
theorem x_408_216  : exG TB d 408 216 L (v :: st) A = ck (c1 v) (exG TB d 408 217 L (v :: v :: st) A) := x_gd (op := o_dup) rfl rfl
theorem x_408_217  : exG TB d 408 217 L (.ref p :: st) A = kv (gf A p 45) d 408 220 L st A := x_bd (op := o_get 45) rfl rfl (fun _ => rfl)
theorem x_408_220  : exG TB d 408 220 L st A = exG TB d 408 221 L (.int (nI 1) :: st) A := x_nx (op := o_push 1 (.int 1)) rfl rfl
theorem x_408_221  : exG TB d 408 221 L (.int i2 :: .int i1 :: st) A = exG TB d 408 222 L (.int (i1 + i2) :: st) A := x_nx (op := o_iop (fun x y => x + y)) rfl rfl
theorem x_408_222  : exG TB d 408 222 L (v :: .ref p :: st) A = ck ((gf A p 45).isSome && okv 1 v) (exG TB d 408 225 L st (setf A p 45 v)) := x_gd (op := o_put 45 1) rfl rfl
theorem x_408_225  : exG TB d 408 225 L st A = exG TB d 408 173 L st A := x_nx (op := o_goto 173) rfl rfl
theorem x_408_228  : exG TB d 408 228 (some v :: r9) st A = rg v (exG TB d 408 229 (some v :: r9) (v :: st) A) := x_rg (op := o_aload 0 1) rfl rfl
theorem x_408_229  : exG TB d 408 229 L (v :: st) A = ck (c1 v) (exG TB d 408 230 L (v :: v :: st) A) := x_gd (op := o_dup) rfl rfl
theorem x_408_230  : exG TB d 408 230 L (.ref p :: st) A = kv (gf A p 45) d 408 233 L st A := x_bd (op := o_get 45) rfl rfl (fun _ => rfl)
theorem x_408_233  : exG TB d 408 233 (some v :: r9) st A = rg v (exG TB d 408 234 (some v :: r9) (v :: st) A) := x_rg (op := o_aload 0 1) rfl rfl
theorem x_408_234  : exG TB d 408 234 L (.ref p :: st) A = kv (gf A p 45) d 408 237 L st A := x_bd (op := o_get 45) rfl rfl (fun _ => rfl)
theorem x_408_237  : exG TB d 408 237 (some v :: r9) st A = rg v (exG TB d 408 238 (some v :: r9) (v :: st) A) := x_rg (op := o_aload 0 1) rfl rfl
theorem x_408_238  : exG TB d 408 238 L (.ref p :: st) A = kv (gf A p 46) d 408 241 L st A := x_bd (op := o_get 46) rfl rfl (fun _ => rfl)
theorem x_408_241  : exG TB d 408 241 L (.int i2 :: .int i1 :: st) A = if ¬ i1 = i2 then exG TB d 408 259 L st A else exG TB d 408 244 L st A := x_if (op := o_icmp (fun x y => decide (¬ x = y)) 259) rfl rfl rfl
theorem x_408_244  : exG TB d 408 244 (some v :: r9) st A = rg v (exG TB d 408 245 (some v :: r9) (v :: st) A) := x_rg (op := o_aload 0 1) rfl rfl
theorem x_408_245  : exG TB d 408 245 L (.ref p :: st) A = kv (gf A p 45) d 408 248 L st A := x_bd (op := o_get 45) rfl rfl (fun _ => rfl)
theorem x_408_248  : exG TB d 408 248 (some v :: r9) st A = rg v (exG TB d 408 249 (some v :: r9) (v :: st) A) := x_rg (op := o_aload 0 1) rfl rfl
theorem x_408_249  : exG TB d 408 249 L (.ref p :: st) A = kv (gf A p 43) d 408 252 L st A := x_bd (op := o_get 43) rfl rfl (fun _ => rfl)
theorem x_408_252  : exG TB d 408 252 L (.int i2 :: .int i1 :: st) A = if i2 ≤ i1 then exG TB d 408 259 L st A else exG TB d 408 255 L st A := x_if (op := o_icmp (fun x y => decide (y ≤ x)) 259) rfl rfl rfl
theorem x_408_255  : exG TB d 408 255 L st A = exG TB d 408 256 L (.int (nI 1) :: st) A := x_nx (op := o_push 1 (.int 1)) rfl rfl
theorem x_408_256  : exG TB d 408 256 L st A = exG TB d 408 260 L st A := x_nx (op := o_goto 260) rfl rfl
theorem x_408_259  : exG TB d 408 259 L st A = exG TB d 408 260 L (.int (nI 0) :: st) A := x_nx (op := o_push 1 (.int 0)) rfl rfl
theorem x_408_260  : exG TB d 408 260 L (.int i2 :: .int i1 :: st) A = exG TB d 408 261 L (.int (i1 + i2) :: st) A := x_nx (op := o_iop (fun x y => x + y)) rfl rfl
theorem x_408_261  : exG TB d 408 261 L (v :: .ref p :: st) A = ck ((gf A p 45).isSome && okv 1 v) (exG TB d 408 264 L st (setf A p 45 v)) := x_gd (op := o_put 45 1) rfl rfl
theorem x_408_264  : exG TB d 408 264 (some v :: r9) st A = rg v (exG TB d 408 265 (some v :: r9) (v :: st) A) := x_rg (op := o_aload 0 1) rfl rfl
theorem x_408_265  : exG TB d 408 265 (a0 :: some v :: r9) st A = rg v (exG TB d 408 266 (a0 :: some v :: r9) (v :: st) A) := x_rg (op := o_aload 1 1) rfl rfl
theorem x_408_266  : exG TB d 408 266 L [b0, w0] A = kc (evG TB d 166 [b0] A) d 408 269 L [w0] := x_cv (op := o_cs 166 1 false none) rfl rfl x_noh rfl
theorem x_408_269  : exG TB d 408 269 L (v :: .ref p :: st) A = ck ((gf A p 50).isSome && okv 1 v) (exG TB d 408 272 L st (setf A p 50 v)) := x_gd (op := o_put 50 1) rfl rfl
theorem x_408_272  : exG TB d 408 272 L [] A = some (.inl none, A) := x_out (op := o_vret) rfl rfl
theorem e_409 {j1 : Int32} : evG TB (d + 1) 409 [.ref p, .int j1] A = exG TB d 409 0 [some (.ref p), some (.int j1)] [] A := evG_eq TB d 409 _ A
theorem x_409_0  : exG TB d 409 0 (a0 :: some (.int i1) :: r9) st A = exG TB d 409 1 (a0 :: some (.int i1) :: r9) (.int i1 :: st) A := x_nx (op := o_iload 1 1) rfl rfl
theorem x_409_1  : exG TB d 409 1 (some v :: r9) st A = rg v (exG TB d 409 2 (some v :: r9) (v :: st) A) := x_rg (op := o_aload 0 1) rfl rfl
theorem x_409_2  : exG TB d 409 2 L (.ref p :: st) A = kv (gf A p 43) d 409 5 L st A := x_bd (op := o_get 43) rfl rfl (fun _ => rfl)
theorem x_409_5  : exG TB d 409 5 L (.int i2 :: .int i1 :: st) A = if i2 ≤ i1 then exG TB d 409 24 L st A else exG TB d 409 8 L st A := x_if (op := o_icmp (fun x y => decide (y ≤ x)) 24) rfl rfl rfl
theorem x_409_8  : exG TB d 409 8 (some v :: r9) st A = rg v (exG TB d 409 9 (some v :: r9) (v :: st) A) := x_rg (op := o_aload 0 1) rfl rfl
theorem x_409_9  : exG TB d 409 9 L (.ref p :: st) A = kv (gf A p 51) d 409 12 L st A := x_bd (op := o_get 51) rfl rfl (fun _ => rfl)
theorem x_409_12  : exG TB d 409 12 L (.ref p :: st) A = kv (gf A p 2) d 409 15 L st A := x_bd (op := o_get 2) rfl rfl (fun _ => rfl)
theorem x_409_15  : exG TB d 409 15 (a0 :: some (.int i1) :: r9) st A = exG TB d 409 16 (a0 :: some (.int i1) :: r9) (.int i1 :: st) A := x_nx (op := o_iload 1 1) rfl rfl
theorem x_409_16  : exG TB d 409 16 L (.int i1 :: .ref p :: st) A = ki (rdI 1 (ga A p) i1) d 409 17 L st A := x_bd (op := o_rdI 1) rfl rfl (fun _ => rfl)
theorem x_409_17  : exG TB d 409 17 L st A = exG TB d 409 20 L (.int (nI 255) :: st) A := x_nx (op := o_push 3 (.int 255)) rfl rfl
theorem x_409_20  : exG TB d 409 20 L (.int i2 :: .int i1 :: st) A = exG TB d 409 21 L (.int (i1 &&& i2) :: st) A := x_nx (op := o_iop (fun x y => x &&& y)) rfl rfl
theorem x_409_21  : exG TB d 409 21 L st A = exG TB d 409 25 L st A := x_nx (op := o_goto 25) rfl rfl
theorem x_409_24  : exG TB d 409 24 L st A = exG TB d 409 25 L (.int nN :: st) A := x_nx (op := o_push 1 (.int (-1))) rfl rfl
theorem x_409_25  : exG TB d 409 25 L [v] A = ck (okv 1 v) (some (.inl (some v), A)) := x_outg (op := o_ret 1) rfl rfl
theorem e_410  : evG TB (d + 1) 410 [.ref p] A = exG TB d 410 0 [some (.ref p), none] [] A := evG_eq TB d 410 _ A
theorem x_410_0  : exG TB d 410 0 L st A = exG TB d 410 1 L (.int (nI 0) :: st) A := x_nx (op := o_push 1 (.int 0)) rfl rfl
theorem x_410_1  : exG TB d 410 1 (a0 :: a1 :: r9) (.int i1 :: st) A = exG TB d 410 2 (a0 :: some (.int i1) :: r9) st A := x_nx (op := o_istore 1 1) rfl rfl
theorem x_410_2  : exG TB d 410 2 (some v :: r9) st A = rg v (exG TB d 410 3 (some v :: r9) (v :: st) A) := x_rg (op := o_aload 0 1) rfl rfl
theorem x_410_3  : exG TB d 410 3 L (.ref p :: st) A = kv (gf A p 46) d 410 6 L st A := x_bd (op := o_get 46) rfl rfl (fun _ => rfl)
theorem x_410_6  : exG TB d 410 6 (some v :: r9) st A = rg v (exG TB d 410 7 (some v :: r9) (v :: st) A) := x_rg (op := o_aload 0 1) rfl rfl
theorem x_410_7  : exG TB d 410 7 L (.ref p :: st) A = kv (gf A p 43) d 410 10 L st A := x_bd (op := o_get 43) rfl rfl (fun _ => rfl)
theorem x_410_10  : exG TB d 410 10 L (.int i2 :: .int i1 :: st) A = if i2 ≤ i1 then exG TB d 410 36 L st A else exG TB d 410 13 L st A := x_if (op := o_icmp (fun x y => decide (y ≤ x)) 36) rfl rfl rfl
theorem x_410_13  : exG TB d 410 13 (some v :: r9) st A = rg v (exG TB d 410 14 (some v :: r9) (v :: st) A) := x_rg (op := o_aload 0 1) rfl rfl
theorem x_410_14  : exG TB d 410 14 L [.ref p] A = kw0 (sel (gc A p) [(9, 411)]) [.ref p] d 410 17 L [] A := x_c0b (op := o_cv [(9, 411)] 0 3 true none) rfl rfl x_noh rfl
theorem x_410_17  : exG TB d 410 17 (some v :: r9) st A = rg v (exG TB d 410 18 (some v :: r9) (v :: st) A) := x_rg (op := o_aload 0 1) rfl rfl
theorem x_410_18  : exG TB d 410 18 (some v :: r9) st A = rg v (exG TB d 410 19 (some v :: r9) (v :: st) A) := x_rg (op := o_aload 0 1) rfl rfl
theorem x_410_19  : exG TB d 410 19 L (.ref p :: st) A = kv (gf A p 48) d 410 22 L st A := x_bd (op := o_get 48) rfl rfl (fun _ => rfl)
theorem x_410_22  : exG TB d 410 22 L st A = exG TB d 410 23 L (.int (nI 1) :: st) A := x_nx (op := o_push 1 (.int 1)) rfl rfl
theorem x_410_23  : exG TB d 410 23 L [b1, b0, .ref p] A = kw0 (sel (gc A p) [(9, 412)]) [.ref p, b0, b1] d 410 26 L [] A := x_c0b (op := o_cv [(9, 412)] 2 3 true none) rfl rfl x_noh rfl
theorem x_410_26  : exG TB d 410 26 (some v :: r9) st A = rg v (exG TB d 410 27 (some v :: r9) (v :: st) A) := x_rg (op := o_aload 0 1) rfl rfl
theorem x_410_27  : exG TB d 410 27 L [.ref p] A = kw0 (sel (gc A p) [(9, 408)]) [.ref p] d 410 30 L [] A := x_c0b (op := o_cv [(9, 408)] 0 3 true none) rfl rfl x_noh rfl
theorem x_410_30  : exG TB d 410 30 (a0 :: some (.int i1) :: r9) st A = exG TB d 410 33 (a0 :: some (.int (i1 + (nI 1))) :: r9) st A := x_nx (op := o_iinc 1 1) rfl rfl
theorem x_410_33  : exG TB d 410 33 L st A = exG TB d 410 2 L st A := x_nx (op := o_goto 2) rfl rfl
theorem x_410_36  : exG TB d 410 36 (a0 :: some (.int i1) :: r9) st A = exG TB d 410 37 (a0 :: some (.int i1) :: r9) (.int i1 :: st) A := x_nx (op := o_iload 1 1) rfl rfl
theorem x_410_37  : exG TB d 410 37 L [v] A = ck (okv 1 v) (some (.inl (some v), A)) := x_outg (op := o_ret 1) rfl rfl
theorem e_411  : evG TB (d + 1) 411 [.ref p] A = exG TB d 411 0 [some (.ref p), none, none, none, none, none, none] [] A := evG_eq TB d 411 _ A
theorem x_411_0  : exG TB d 411 0 (some v :: r9) st A = rg v (exG TB d 411 1 (some v :: r9) (v :: st) A) := x_rg (op := o_aload 0 1) rfl rfl
theorem x_411_1  : exG TB d 411 1 L (.ref p :: st) A = kv (gf A p 50) d 411 4 L st A := x_bd (op := o_get 50) rfl rfl (fun _ => rfl)
theorem x_411_4  : exG TB d 411 4 L (.int i1 :: st) A = exG TB d 411 (swt 0 [40, 90, 126, 189, 225] 276 i1) L st A := x_nx (op := o_sw (swt 0 [40, 90, 126, 189, 225] 276)) rfl rfl
theorem x_411_40  : exG TB d 411 40 (some v :: r9) st A = rg v (exG TB d 411 41 (some v :: r9) (v :: st) A) := x_rg (op := o_aload 0 1) rfl rfl
theorem x_411_41  : exG TB d 411 41 (some v :: r9) st A = rg v (exG TB d 411 42 (some v :: r9) (v :: st) A) := x_rg (op := o_aload 0 1) rfl rfl
theorem x_411_42  : exG TB d 411 42 L (.ref p :: st) A = kv (gf A p 44) d 411 45 L st A := x_bd (op := o_get 44) rfl rfl (fun _ => rfl)
theorem x_411_45  : exG TB d 411 45 L (.ref p :: st) A = kv (gf A p 6) d 411 48 L st A := x_bd (op := o_get 6) rfl rfl (fun _ => rfl)
theorem x_411_48  : exG TB d 411 48 L (.ref p :: st) A = kv (gf A p 15) d 411 51 L st A := x_bd (op := o_get 15) rfl rfl (fun _ => rfl)
theorem x_411_51  : exG TB d 411 51 L st A = exG TB d 411 53 L (.int (nI 12) :: st) A := x_nx (op := o_push 2 (.int 12)) rfl rfl
theorem x_411_53  : exG TB d 411 53 L (.int i2 :: .int i1 :: st) A = if i2 ≤ i1 then exG TB d 411 60 L st A else exG TB d 411 56 L st A := x_if (op := o_icmp (fun x y => decide (y ≤ x)) 60) rfl rfl rfl
theorem x_411_56  : exG TB d 411 56 L st A = exG TB d 411 57 L (.int (nI 1) :: st) A := x_nx (op := o_push 1 (.int 1)) rfl rfl
theorem x_411_57  : exG TB d 411 57 L st A = exG TB d 411 61 L st A := x_nx (op := o_goto 61) rfl rfl
theorem x_411_60  : exG TB d 411 60 L st A = exG TB d 411 61 L (.int (nI 0) :: st) A := x_nx (op := o_push 1 (.int 0)) rfl rfl
theorem x_411_61  : exG TB d 411 61 L st A = exG TB d 411 62 L (.int (nI 3) :: st) A := x_nx (op := o_push 1 (.int 3)) rfl rfl
theorem x_411_62  : exG TB d 411 62 L [b1, b0, .ref p] A = kw0 (sel (gc A p) [(9, 412)]) [.ref p, b0, b1] d 411 65 L [] A := x_c0b (op := o_cv [(9, 412)] 2 3 true none) rfl rfl x_noh rfl
theorem x_411_65  : exG TB d 411 65 (some v :: r9) st A = rg v (exG TB d 411 66 (some v :: r9) (v :: st) A) := x_rg (op := o_aload 0 1) rfl rfl
theorem x_411_66  : exG TB d 411 66 L [.ref p] A = kw0 (sel (gc A p) [(9, 408)]) [.ref p] d 411 69 L [] A := x_c0b (op := o_cv [(9, 408)] 0 3 true none) rfl rfl x_noh rfl
theorem x_411_69  : exG TB d 411 69 (some v :: r9) st A = rg v (exG TB d 411 70 (some v :: r9) (v :: st) A) := x_rg (op := o_aload 0 1) rfl rfl
theorem x_411_70  : exG TB d 411 70 L (.ref p :: st) A = kv (gf A p 44) d 411 73 L st A := x_bd (op := o_get 44) rfl rfl (fun _ => rfl)
theorem x_411_73  : exG TB d 411 73 L (.ref p :: st) A = kv (gf A p 6) d 411 76 L st A := x_bd (op := o_get 6) rfl rfl (fun _ => rfl)
theorem x_411_76  : exG TB d 411 76 (some v :: r9) st A = rg v (exG TB d 411 77 (some v :: r9) (v :: st) A) := x_rg (op := o_aload 0 1) rfl rfl
theorem x_411_77  : exG TB d 411 77 L st A = exG TB d 411 78 L (.int (nI 0) :: st) A := x_nx (op := o_push 1 (.int 0)) rfl rfl
theorem x_411_78  : exG TB d 411 78 L st A = exG TB d 411 80 L (.int (nI 99) :: st) A := x_nx (op := o_push 2 (.int 99)) rfl rfl
theorem x_411_80  : exG TB d 411 80 L [b1, b0, .ref p, w0] A = kw (sel (gc A p) [(9, 413)]) [.ref p, b0, b1] d 411 83 L [w0] A := x_cvb (op := o_cv [(9, 413)] 2 3 false none) rfl rfl x_noh rfl
theorem x_411_83  : exG TB d 411 83 L [b0, .ref p] A = kw (sel (gc A p) [(2, 283)]) [.ref p, b0] d 411 86 L [] A := x_cvb (op := o_cv [(2, 283)] 1 3 false none) rfl rfl x_noh rfl
theorem x_411_86  : exG TB d 411 86 (a0 :: a1 :: r9) (.int i1 :: st) A = exG TB d 411 87 (a0 :: some (.int i1) :: r9) st A := x_nx (op := o_istore 1 1) rfl rfl
theorem x_411_87  : exG TB d 411 87 L st A = exG TB d 411 289 L st A := x_nx (op := o_goto 289) rfl rfl
theorem x_411_90  : exG TB d 411 90 (some v :: r9) st A = rg v (exG TB d 411 91 (some v :: r9) (v :: st) A) := x_rg (op := o_aload 0 1) rfl rfl
theorem x_411_91  : exG TB d 411 91 (some v :: r9) st A = rg v (exG TB d 411 92 (some v :: r9) (v :: st) A) := x_rg (op := o_aload 0 1) rfl rfl
theorem x_411_92  : exG TB d 411 92 L (.ref p :: st) A = kv (gf A p 44) d 411 95 L st A := x_bd (op := o_get 44) rfl rfl (fun _ => rfl)
theorem x_411_95  : exG TB d 411 95 L (.ref p :: st) A = kv (gf A p 6) d 411 98 L st A := x_bd (op := o_get 6) rfl rfl (fun _ => rfl)
theorem x_411_98  : exG TB d 411 98 L (.ref p :: st) A = kv (gf A p 17) d 411 101 L st A := x_bd (op := o_get 17) rfl rfl (fun _ => rfl)
theorem x_411_101  : exG TB d 411 101 L st A = exG TB d 411 103 L (.int (nI 40) :: st) A := x_nx (op := o_push 2 (.int 40)) rfl rfl
theorem x_411_103  : exG TB d 411 103 L (.int i2 :: .int i1 :: st) A = if i2 ≤ i1 then exG TB d 411 110 L st A else exG TB d 411 106 L st A := x_if (op := o_icmp (fun x y => decide (y ≤ x)) 110) rfl rfl rfl
theorem x_411_106  : exG TB d 411 106 L st A = exG TB d 411 107 L (.int (nI 1) :: st) A := x_nx (op := o_push 1 (.int 1)) rfl rfl
theorem x_411_107  : exG TB d 411 107 L st A = exG TB d 411 111 L st A := x_nx (op := o_goto 111) rfl rfl
theorem x_411_110  : exG TB d 411 110 L st A = exG TB d 411 111 L (.int (nI 0) :: st) A := x_nx (op := o_push 1 (.int 0)) rfl rfl
theorem x_411_111  : exG TB d 411 111 L st A = exG TB d 411 112 L (.int (nI 3) :: st) A := x_nx (op := o_push 1 (.int 3)) rfl rfl
theorem x_411_112  : exG TB d 411 112 L [b1, b0, .ref p] A = kw0 (sel (gc A p) [(9, 412)]) [.ref p, b0, b1] d 411 115 L [] A := x_c0b (op := o_cv [(9, 412)] 2 3 true none) rfl rfl x_noh rfl
theorem x_411_115  : exG TB d 411 115 (some v :: r9) st A = rg v (exG TB d 411 116 (some v :: r9) (v :: st) A) := x_rg (op := o_aload 0 1) rfl rfl
theorem x_411_116  : exG TB d 411 116 L [.ref p] A = kw0 (sel (gc A p) [(9, 408)]) [.ref p] d 411 119 L [] A := x_c0b (op := o_cv [(9, 408)] 0 3 true none) rfl rfl x_noh rfl
theorem x_411_119  : exG TB d 411 119 (some v :: r9) st A = rg v (exG TB d 411 120 (some v :: r9) (v :: st) A) := x_rg (op := o_aload 0 1) rfl rfl
theorem x_411_120  : exG TB d 411 120 L [.ref p] A = kw0 (sel (gc A p) [(9, 415)]) [.ref p] d 411 123 L [] A := x_c0b (op := o_cv [(9, 415)] 0 3 true none) rfl rfl x_noh rfl
theorem x_411_123  : exG TB d 411 123 L st A = exG TB d 411 289 L st A := x_nx (op := o_goto 289) rfl rfl
theorem x_411_126  : exG TB d 411 126 (some v :: r9) st A = rg v (exG TB d 411 127 (some v :: r9) (v :: st) A) := x_rg (op := o_aload 0 1) rfl rfl
theorem x_411_127  : exG TB d 411 127 (some v :: r9) st A = rg v (exG TB d 411 128 (some v :: r9) (v :: st) A) := x_rg (op := o_aload 0 1) rfl rfl
theorem x_411_128  : exG TB d 411 128 L (.ref p :: st) A = kv (gf A p 44) d 411 131 L st A := x_bd (op := o_get 44) rfl rfl (fun _ => rfl)
theorem x_411_131  : exG TB d 411 131 L (.ref p :: st) A = kv (gf A p 9) d 411 134 L st A := x_bd (op := o_get 9) rfl rfl (fun _ => rfl)
theorem x_411_134  : exG TB d 411 134 L st A = exG TB d 411 136 L (.int (nI 8) :: st) A := x_nx (op := o_push 2 (.int 8)) rfl rfl
theorem x_411_136  : exG TB d 411 136 L (.int i2 :: .int i1 :: st) A = if i2 ≤ i1 then exG TB d 411 143 L st A else exG TB d 411 139 L st A := x_if (op := o_icmp (fun x y => decide (y ≤ x)) 143) rfl rfl rfl
theorem x_411_139  : exG TB d 411 139 L st A = exG TB d 411 140 L (.int (nI 1) :: st) A := x_nx (op := o_push 1 (.int 1)) rfl rfl
theorem x_411_140  : exG TB d 411 140 L st A = exG TB d 411 144 L st A := x_nx (op := o_goto 144) rfl rfl
theorem x_411_143  : exG TB d 411 143 L st A = exG TB d 411 144 L (.int (nI 0) :: st) A := x_nx (op := o_push 1 (.int 0)) rfl rfl
theorem x_411_144  : exG TB d 411 144 L st A = exG TB d 411 145 L (.int (nI 3) :: st) A := x_nx (op := o_push 1 (.int 3)) rfl rfl
theorem x_411_145  : exG TB d 411 145 L [b1, b0, .ref p] A = kw0 (sel (gc A p) [(9, 412)]) [.ref p, b0, b1] d 411 148 L [] A := x_c0b (op := o_cv [(9, 412)] 2 3 true none) rfl rfl x_noh rfl
theorem x_411_148  : exG TB d 411 148 (some v :: r9) st A = rg v (exG TB d 411 149 (some v :: r9) (v :: st) A) := x_rg (op := o_aload 0 1) rfl rfl
theorem x_411_149  : exG TB d 411 149 L [.ref p] A = kw0 (sel (gc A p) [(9, 408)]) [.ref p] d 411 152 L [] A := x_c0b (op := o_cv [(9, 408)] 0 3 true none) rfl rfl x_noh rfl
theorem x_411_152  : exG TB d 411 152 (some v :: r9) st A = rg v (exG TB d 411 153 (some v :: r9) (v :: st) A) := x_rg (op := o_aload 0 1) rfl rfl
theorem x_411_153  : exG TB d 411 153 L st A = exG TB d 411 154 L (.int (nI 0) :: st) A := x_nx (op := o_push 1 (.int 0)) rfl rfl
theorem x_411_154  : exG TB d 411 154 L st A = exG TB d 411 156 L (.int (nI 100000) :: st) A := x_nx (op := o_push 2 (.int 100000)) rfl rfl
theorem x_411_156  : exG TB d 411 156 L [b1, b0, .ref p] A = kw (sel (gc A p) [(9, 413)]) [.ref p, b0, b1] d 411 159 L [] A := x_cvb (op := o_cv [(9, 413)] 2 3 false none) rfl rfl x_noh rfl
theorem x_411_159  : exG TB d 411 159 (a0 :: a1 :: a2 :: r9) (.int i1 :: st) A = exG TB d 411 160 (a0 :: a1 :: some (.int i1) :: r9) st A := x_nx (op := o_istore 2 1) rfl rfl
theorem x_411_160  : exG TB d 411 160 (some v :: r9) st A = rg v (exG TB d 411 161 (some v :: r9) (v :: st) A) := x_rg (op := o_aload 0 1) rfl rfl
theorem x_411_161  : exG TB d 411 161 L st A = exG TB d 411 162 L (.int (nI 0) :: st) A := x_nx (op := o_push 1 (.int 0)) rfl rfl
theorem x_411_162  : exG TB d 411 162 L st A = exG TB d 411 164 L (.int (nI 50) :: st) A := x_nx (op := o_push 2 (.int 50)) rfl rfl
theorem x_411_164  : exG TB d 411 164 L [b1, b0, .ref p] A = kw (sel (gc A p) [(9, 413)]) [.ref p, b0, b1] d 411 167 L [] A := x_cvb (op := o_cv [(9, 413)] 2 3 false none) rfl rfl x_noh rfl
theorem x_411_167  : exG TB d 411 167 (a0 :: a1 :: a2 :: a3 :: r9) (.int i1 :: st) A = exG TB d 411 168 (a0 :: a1 :: a2 :: some (.int i1) :: r9) st A := x_nx (op := o_istore 3 1) rfl rfl
theorem x_411_168  : exG TB d 411 168 (some v :: r9) st A = rg v (exG TB d 411 169 (some v :: r9) (v :: st) A) := x_rg (op := o_aload 0 1) rfl rfl
theorem x_411_169  : exG TB d 411 169 L (.ref p :: st) A = kv (gf A p 44) d 411 172 L st A := x_bd (op := o_get 44) rfl rfl (fun _ => rfl)
theorem x_411_172  : exG TB d 411 172 (a0 :: a1 :: some (.int i1) :: r9) st A = exG TB d 411 173 (a0 :: a1 :: some (.int i1) :: r9) (.int i1 :: st) A := x_nx (op := o_iload 2 1) rfl rfl
theorem x_411_173  : exG TB d 411 173 (a0 :: a1 :: a2 :: some (.int i1) :: r9) st A = exG TB d 411 174 (a0 :: a1 :: a2 :: some (.int i1) :: r9) (.int i1 :: st) A := x_nx (op := o_iload 3 1) rfl rfl
theorem x_411_174  : exG TB d 411 174 (some v :: r9) st A = rg v (exG TB d 411 175 (some v :: r9) (v :: st) A) := x_rg (op := o_aload 0 1) rfl rfl
theorem x_411_175  : exG TB d 411 175 L st A = exG TB d 411 176 L (.int (nI 0) :: st) A := x_nx (op := o_push 1 (.int 0)) rfl rfl
theorem x_411_176  : exG TB d 411 176 L st A = exG TB d 411 178 L (.int (nI 50) :: st) A := x_nx (op := o_push 2 (.int 50)) rfl rfl
theorem x_411_178  : exG TB d 411 178 L [b1, b0, .ref p, w0, w1, w2] A = kw (sel (gc A p) [(9, 413)]) [.ref p, b0, b1] d 411 181 L [w0, w1, w2] A := x_cvb (op := o_cv [(9, 413)] 2 3 false none) rfl rfl x_noh rfl
theorem x_411_181  : exG TB d 411 181 L [b2, b1, b0, .ref p] A = kw (sel (gc A p) [(1, 258)]) [.ref p, b0, b1, b2] d 411 184 L [] A := x_cvb (op := o_cv [(1, 258)] 3 3 false none) rfl rfl x_noh rfl
theorem x_411_184  : exG TB d 411 184 (a0 :: a1 :: a2 :: a3 :: a4 :: r9) (.int i1 :: st) A = exG TB d 411 186 (a0 :: a1 :: a2 :: a3 :: some (.int i1) :: r9) st A := x_nx (op := o_istore 4 2) rfl rfl
theorem x_411_186  : exG TB d 411 186 L st A = exG TB d 411 289 L st A := x_nx (op := o_goto 289) rfl rfl
theorem x_411_189  : exG TB d 411 189 (some v :: r9) st A = rg v (exG TB d 411 190 (some v :: r9) (v :: st) A) := x_rg (op := o_aload 0 1) rfl rfl
theorem x_411_190  : exG TB d 411 190 (some v :: r9) st A = rg v (exG TB d 411 191 (some v :: r9) (v :: st) A) := x_rg (op := o_aload 0 1) rfl rfl
theorem x_411_191  : exG TB d 411 191 L (.ref p :: st) A = kv (gf A p 44) d 411 194 L st A := x_bd (op := o_get 44) rfl rfl (fun _ => rfl)
theorem x_411_194  : exG TB d 411 194 L (.ref p :: st) A = kv (gf A p 10) d 411 197 L st A := x_bd (op := o_get 10) rfl rfl (fun _ => rfl)
theorem x_411_197  : exG TB d 411 197 L [.ref p, w0] A = kw (sel (gc A p) [(3, 42)]) [.ref p] d 411 200 L [w0] A := x_cvb (op := o_cv [(3, 42)] 0 3 false none) rfl rfl x_noh rfl
theorem x_411_200  : exG TB d 411 200 L st A = exG TB d 411 202 L (.int (nI 15) :: st) A := x_nx (op := o_push 2 (.int 15)) rfl rfl
theorem x_411_202  : exG TB d 411 202 L (.int i2 :: .int i1 :: st) A = if i2 ≤ i1 then exG TB d 411 209 L st A else exG TB d 411 205 L st A := x_if (op := o_icmp (fun x y => decide (y ≤ x)) 209) rfl rfl rfl
theorem x_411_205  : exG TB d 411 205 L st A = exG TB d 411 206 L (.int (nI 1) :: st) A := x_nx (op := o_push 1 (.int 1)) rfl rfl
theorem x_411_206  : exG TB d 411 206 L st A = exG TB d 411 210 L st A := x_nx (op := o_goto 210) rfl rfl
theorem x_411_209  : exG TB d 411 209 L st A = exG TB d 411 210 L (.int (nI 0) :: st) A := x_nx (op := o_push 1 (.int 0)) rfl rfl
theorem x_411_210  : exG TB d 411 210 L st A = exG TB d 411 211 L (.int (nI 3) :: st) A := x_nx (op := o_push 1 (.int 3)) rfl rfl
theorem x_411_211  : exG TB d 411 211 L [b1, b0, .ref p] A = kw0 (sel (gc A p) [(9, 412)]) [.ref p, b0, b1] d 411 214 L [] A := x_c0b (op := o_cv [(9, 412)] 2 3 true none) rfl rfl x_noh rfl
theorem x_411_214  : exG TB d 411 214 (some v :: r9) st A = rg v (exG TB d 411 215 (some v :: r9) (v :: st) A) := x_rg (op := o_aload 0 1) rfl rfl
theorem x_411_215  : exG TB d 411 215 L [.ref p] A = kw0 (sel (gc A p) [(9, 408)]) [.ref p] d 411 218 L [] A := x_c0b (op := o_cv [(9, 408)] 0 3 true none) rfl rfl x_noh rfl
theorem x_411_218  : exG TB d 411 218 (some v :: r9) st A = rg v (exG TB d 411 219 (some v :: r9) (v :: st) A) := x_rg (op := o_aload 0 1) rfl rfl
theorem x_411_219  : exG TB d 411 219 L [.ref p] A = kw0 (sel (gc A p) [(9, 416)]) [.ref p] d 411 222 L [] A := x_c0b (op := o_cv [(9, 416)] 0 3 true none) rfl rfl x_noh rfl
theorem x_411_222  : exG TB d 411 222 L st A = exG TB d 411 289 L st A := x_nx (op := o_goto 289) rfl rfl
theorem x_411_225  : exG TB d 411 225 (some v :: r9) st A = rg v (exG TB d 411 226 (some v :: r9) (v :: st) A) := x_rg (op := o_aload 0 1) rfl rfl
theorem x_411_226  : exG TB d 411 226 L [.ref p] A = kw0 (sel (gc A p) [(9, 408)]) [.ref p] d 411 229 L [] A := x_c0b (op := o_cv [(9, 408)] 0 3 true none) rfl rfl x_noh rfl
theorem x_411_229  : exG TB d 411 229 (some v :: r9) st A = rg v (exG TB d 411 230 (some v :: r9) (v :: st) A) := x_rg (op := o_aload 0 1) rfl rfl
theorem x_411_230  : exG TB d 411 230 L st A = exG TB d 411 231 L (.int (nI 0) :: st) A := x_nx (op := o_push 1 (.int 0)) rfl rfl
theorem x_411_231  : exG TB d 411 231 L st A = exG TB d 411 233 L (.int (nI 7) :: st) A := x_nx (op := o_push 2 (.int 7)) rfl rfl
theorem x_411_233  : exG TB d 411 233 L [b1, b0, .ref p] A = kw (sel (gc A p) [(9, 413)]) [.ref p, b0, b1] d 411 236 L [] A := x_cvb (op := o_cv [(9, 413)] 2 3 false none) rfl rfl x_noh rfl
theorem x_411_236  : exG TB d 411 236 (a0 :: a1 :: a2 :: a3 :: a4 :: a5 :: r9) (.int i1 :: st) A = exG TB d 411 238 (a0 :: a1 :: a2 :: a3 :: a4 :: some (.int i1) :: r9) st A := x_nx (op := o_istore 5 2) rfl rfl
theorem x_411_238  : exG TB d 411 238 (a0 :: a1 :: a2 :: a3 :: a4 :: some (.int i1) :: r9) st A = exG TB d 411 240 (a0 :: a1 :: a2 :: a3 :: a4 :: some (.int i1) :: r9) (.int i1 :: st) A := x_nx (op := o_iload 5 2) rfl rfl
theorem x_411_240  : exG TB d 411 240 L [b0] A = kc (evG TB d 222 [b0] A) d 411 243 L [] := x_cv (op := o_cs 222 1 false none) rfl rfl x_noh rfl
theorem x_411_243  : exG TB d 411 243 (a0 :: a1 :: a2 :: a3 :: a4 :: a5 :: a6 :: r9) (v :: st) A = rg v (exG TB d 411 245 (a0 :: a1 :: a2 :: a3 :: a4 :: a5 :: some v :: r9) st A) := x_rgt (op := o_astore 6 2) rfl rfl
theorem x_411_245  : exG TB d 411 245 (some v :: r9) st A = rg v (exG TB d 411 246 (some v :: r9) (v :: st) A) := x_rg (op := o_aload 0 1) rfl rfl
theorem x_411_246  : exG TB d 411 246 L (.ref p :: st) A = kv (gf A p 44) d 411 249 L st A := x_bd (op := o_get 44) rfl rfl (fun _ => rfl)
theorem x_411_249  : exG TB d 411 249 L (.ref p :: st) A = kv (gf A p 7) d 411 252 L st A := x_bd (op := o_get 7) rfl rfl (fun _ => rfl)
theorem x_411_252  : exG TB d 411 252 (a0 :: a1 :: a2 :: a3 :: a4 :: some (.int i1) :: r9) st A = exG TB d 411 254 (a0 :: a1 :: a2 :: a3 :: a4 :: some (.int i1) :: r9) (.int i1 :: st) A := x_nx (op := o_iload 5 2) rfl rfl
theorem x_411_254  : exG TB d 411 254 (some v :: r9) st A = rg v (exG TB d 411 255 (some v :: r9) (v :: st) A) := x_rg (op := o_aload 0 1) rfl rfl
theorem x_411_255  : exG TB d 411 255 (a0 :: a1 :: a2 :: a3 :: a4 :: a5 :: some v :: r9) st A = rg v (exG TB d 411 257 (a0 :: a1 :: a2 :: a3 :: a4 :: a5 :: some v :: r9) (v :: st) A) := x_rg (op := o_aload 6 2) rfl rfl
theorem x_411_257  : exG TB d 411 257 L [.ref p, w0, w1, w2] A = kw (sel (gc A p) [(14, 225)]) [.ref p] d 411 262 L [w0, w1, w2] A := x_cvb (op := o_cv [(14, 225)] 0 5 false none) rfl rfl x_noh rfl
theorem x_411_262  : exG TB d 411 262 (a0 :: a1 :: a2 :: a3 :: a4 :: a5 :: some v :: r9) st A = rg v (exG TB d 411 264 (a0 :: a1 :: a2 :: a3 :: a4 :: a5 :: some v :: r9) (v :: st) A) := x_rg (op := o_aload 6 2) rfl rfl
theorem x_411_264  : exG TB d 411 264 L [.ref p, w0, w1, w2, w3] A = kw (sel (gc A p) [(14, 226)]) [.ref p] d 411 269 L [w0, w1, w2, w3] A := x_cvb (op := o_cv [(14, 226)] 0 5 false none) rfl rfl x_noh rfl
theorem x_411_269  : exG TB d 411 269 L [b1, b0, .ref p, w0, w1] A = kw (sel (gc A p) [(9, 413)]) [.ref p, b0, b1] d 411 272 L [w0, w1] A := x_cvb (op := o_cv [(9, 413)] 2 3 false none) rfl rfl x_noh rfl
theorem x_411_272  : exG TB d 411 272 L (.int i2 :: .int i1 :: .ref p :: st) A = ka (wrI 0 (ga A p) i1 i2) p d 411 273 L st A := x_bd (op := o_wrI 0) rfl rfl (fun _ => rfl)
theorem x_411_273  : exG TB d 411 273 L st A = exG TB d 411 289 L st A := x_nx (op := o_goto 289) rfl rfl
theorem x_411_276  : exG TB d 411 276 L st A = exG TB d 411 279 L (.ref (nx A) :: st) (newo A 10 8 dv10) := x_nx (op := o_new 10 8 dv10) rfl rfl
theorem x_411_279  : exG TB d 411 279 L (v :: st) A = ck (c1 v) (exG TB d 411 280 L (v :: v :: st) A) := x_gd (op := o_dup) rfl rfl
theorem x_411_280  : exG TB d 411 280 L st A = exG TB d 411 281 L (.int (nI 1) :: st) A := x_nx (op := o_push 1 (.int 1)) rfl rfl
theorem x_411_281  : exG TB d 411 281 (some v :: r9) st A = rg v (exG TB d 411 282 (some v :: r9) (v :: st) A) := x_rg (op := o_aload 0 1) rfl rfl
theorem x_411_282  : exG TB d 411 282 L (.ref p :: st) A = kv (gf A p 46) d 411 285 L st A := x_bd (op := o_get 46) rfl rfl (fun _ => rfl)
theorem x_411_285  : exG TB d 411 285 L [b1, b0, .ref p, w0] A = kc0 (evG TB d 417 [.ref p, b0, b1] A) d 411 288 L [w0] := x_c0 (op := o_ci 417 2) rfl rfl x_noh rfl
theorem x_411_288  : exG TB d 411 288 L (.ref p :: st) A = (gc A p).bind fun c9 => some (.inr (c9, p), A) := x_bd (op := o_athrow) rfl rfl (fun _ => rfl)
theorem x_411_289  : exG TB d 411 289 L [] A = some (.inl none, A) := x_out (op := o_vret) rfl rfl
theorem e_412 {j1 : Int32} {j2 : Int32} : evG TB (d + 1) 412 [.ref p, .int j1, .int j2] A = exG TB d 412 0 [some (.ref p), some (.int j1), some (.int j2)] [] A := evG_eq TB d 412 _ A
theorem x_412_0  : exG TB d 412 0 (a0 :: some (.int i1) :: r9) st A = exG TB d 412 1 (a0 :: some (.int i1) :: r9) (.int i1 :: st) A := x_nx (op := o_iload 1 1) rfl rfl
theorem x_412_1  : exG TB d 412 1 L (.int i1 :: st) A = if ¬ i1 = nI 0 then exG TB d 412 17 L st A else exG TB d 412 4 L st A := x_if (op := o_if (fun x => decide (¬ x = 0)) 17) rfl rfl rfl
theorem x_412_4  : exG TB d 412 4 L st A = exG TB d 412 7 L (.ref (nx A) :: st) (newo A 10 8 dv10) := x_nx (op := o_new 10 8 dv10) rfl rfl
theorem x_412_7  : exG TB d 412 7 L (v :: st) A = ck (c1 v) (exG TB d 412 8 L (v :: v :: st) A) := x_gd (op := o_dup) rfl rfl
theorem x_412_8  : exG TB d 412 8 (a0 :: a1 :: some (.int i1) :: r9) st A = exG TB d 412 9 (a0 :: a1 :: some (.int i1) :: r9) (.int i1 :: st) A := x_nx (op := o_iload 2 1) rfl rfl
theorem x_412_9  : exG TB d 412 9 (some v :: r9) st A = rg v (exG TB d 412 10 (some v :: r9) (v :: st) A) := x_rg (op := o_aload 0 1) rfl rfl
theorem x_412_10  : exG TB d 412 10 L (.ref p :: st) A = kv (gf A p 46) d 412 13 L st A := x_bd (op := o_get 46) rfl rfl (fun _ => rfl)
theorem x_412_13  : exG TB d 412 13 L [b1, b0, .ref p, w0] A = kc0 (evG TB d 417 [.ref p, b0, b1] A) d 412 16 L [w0] := x_c0 (op := o_ci 417 2) rfl rfl x_noh rfl
theorem x_412_16  : exG TB d 412 16 L (.ref p :: st) A = (gc A p).bind fun c9 => some (.inr (c9, p), A) := x_bd (op := o_athrow) rfl rfl (fun _ => rfl)
theorem x_412_17  : exG TB d 412 17 L [] A = some (.inl none, A) := x_out (op := o_vret) rfl rfl
theorem e_413 {j1 : Int32} {j2 : Int32} : evG TB (d + 1) 413 [.ref p, .int j1, .int j2] A = exG TB d 413 0 [some (.ref p), some (.int j1), some (.int j2), none] [] A := evG_eq TB d 413 _ A
theorem x_413_0  : exG TB d 413 0 (some v :: r9) st A = rg v (exG TB d 413 1 (some v :: r9) (v :: st) A) := x_rg (op := o_aload 0 1) rfl rfl
theorem x_413_1  : exG TB d 413 1 (a0 :: some (.int i1) :: r9) st A = exG TB d 413 2 (a0 :: some (.int i1) :: r9) (.int i1 :: st) A := x_nx (op := o_iload 1 1) rfl rfl
theorem x_413_2  : exG TB d 413 2 (a0 :: a1 :: some (.int i1) :: r9) st A = exG TB d 413 3 (a0 :: a1 :: some (.int i1) :: r9) (.int i1 :: st) A := x_nx (op := o_iload 2 1) rfl rfl
theorem x_413_3  : exG TB d 413 3 L [b1, b0, .ref p] A = kw (sel (gc A p) [(9, 414)]) [.ref p, b0, b1] d 413 6 L [] A := x_cvb (op := o_cv [(9, 414)] 2 3 false none) rfl rfl x_noh rfl
theorem x_413_6  : exG TB d 413 6 (a0 :: a1 :: a2 :: a3 :: r9) (.int i1 :: st) A = exG TB d 413 7 (a0 :: a1 :: a2 :: some (.int i1) :: r9) st A := x_nx (op := o_istore 3 1) rfl rfl
theorem x_413_7  : exG TB d 413 7 (some v :: r9) st A = rg v (exG TB d 413 8 (some v :: r9) (v :: st) A) := x_rg (op := o_aload 0 1) rfl rfl
theorem x_413_8  : exG TB d 413 8 L [.ref p] A = kw0 (sel (gc A p) [(9, 408)]) [.ref p] d 413 11 L [] A := x_c0b (op := o_cv [(9, 408)] 0 3 true none) rfl rfl x_noh rfl
theorem x_413_11  : exG TB d 413 11 (a0 :: a1 :: a2 :: some (.int i1) :: r9) st A = exG TB d 413 12 (a0 :: a1 :: a2 :: some (.int i1) :: r9) (.int i1 :: st) A := x_nx (op := o_iload 3 1) rfl rfl
theorem x_413_12  : exG TB d 413 12 L [v] A = ck (okv 1 v) (some (.inl (some v), A)) := x_outg (op := o_ret 1) rfl rfl
theorem e_414 {j1 : Int32} {j2 : Int32} : evG TB (d + 1) 414 [.ref p, .int j1, .int j2] A = exG TB d 414 0 [some (.ref p), some (.int j1), some (.int j2)] [] A := evG_eq TB d 414 _ A
theorem x_414_0  : exG TB d 414 0 (some v :: r9) st A = rg v (exG TB d 414 1 (some v :: r9) (v :: st) A) := x_rg (op := o_aload 0 1) rfl rfl
theorem x_414_1  : exG TB d 414 1 (some v :: r9) st A = rg v (exG TB d 414 2 (some v :: r9) (v :: st) A) := x_rg (op := o_aload 0 1) rfl rfl
theorem x_414_2  : exG TB d 414 2 L (.ref p :: st) A = kv (gf A p 47) d 414 5 L st A := x_bd (op := o_get 47) rfl rfl (fun _ => rfl)
theorem x_414_5  : exG TB d 414 5 L st A = exG TB d 414 6 L (.int (nI 1) :: st) A := x_nx (op := o_push 1 (.int 1)) rfl rfl
theorem x_414_6  : exG TB d 414 6 L [b1, b0, .ref p] A = kw0 (sel (gc A p) [(9, 412)]) [.ref p, b0, b1] d 414 9 L [] A := x_c0b (op := o_cv [(9, 412)] 2 3 true none) rfl rfl x_noh rfl
theorem x_414_9  : exG TB d 414 9 (some v :: r9) st A = rg v (exG TB d 414 10 (some v :: r9) (v :: st) A) := x_rg (op := o_aload 0 1) rfl rfl
theorem x_414_10  : exG TB d 414 10 (some v :: r9) st A = rg v (exG TB d 414 11 (some v :: r9) (v :: st) A) := x_rg (op := o_aload 0 1) rfl rfl
theorem x_414_11  : exG TB d 414 11 L (.ref p :: st) A = kv (gf A p 49) d 414 14 L st A := x_bd (op := o_get 49) rfl rfl (fun _ => rfl)
theorem x_414_14  : exG TB d 414 14 L (.int i1 :: st) A = exG TB d 414 15 L (.long i1.toInt64 :: st) A := x_nx (op := o_i2l) rfl rfl
theorem x_414_15  : exG TB d 414 15 (a0 :: some (.int i1) :: r9) st A = exG TB d 414 16 (a0 :: some (.int i1) :: r9) (.int i1 :: st) A := x_nx (op := o_iload 1 1) rfl rfl
theorem x_414_16  : exG TB d 414 16 L (.int i1 :: st) A = exG TB d 414 17 L (.long i1.toInt64 :: st) A := x_nx (op := o_i2l) rfl rfl
theorem x_414_17  : exG TB d 414 17 (a0 :: a1 :: some (.int i1) :: r9) st A = exG TB d 414 18 (a0 :: a1 :: some (.int i1) :: r9) (.int i1 :: st) A := x_nx (op := o_iload 2 1) rfl rfl
theorem x_414_18  : exG TB d 414 18 L (.int i1 :: st) A = exG TB d 414 19 L (.long i1.toInt64 :: st) A := x_nx (op := o_i2l) rfl rfl
theorem x_414_19  : exG TB d 414 19 L [b2, b1, b0, w0] A = kc (evG TB d 165 [b0, b1, b2] A) d 414 22 L [w0] := x_cv (op := o_cs 165 3 false none) rfl rfl x_noh rfl
theorem x_414_22  : exG TB d 414 22 L st A = exG TB d 414 23 L (.int (nI 2) :: st) A := x_nx (op := o_push 1 (.int 2)) rfl rfl
theorem x_414_23  : exG TB d 414 23 L [b1, b0, .ref p] A = kw0 (sel (gc A p) [(9, 412)]) [.ref p, b0, b1] d 414 26 L [] A := x_c0b (op := o_cv [(9, 412)] 2 3 true none) rfl rfl x_noh rfl
theorem x_414_26  : exG TB d 414 26 (some v :: r9) st A = rg v (exG TB d 414 27 (some v :: r9) (v :: st) A) := x_rg (op := o_aload 0 1) rfl rfl
theorem x_414_27  : exG TB d 414 27 L (.ref p :: st) A = kv (gf A p 49) d 414 30 L st A := x_bd (op := o_get 49) rfl rfl (fun _ => rfl)
theorem x_414_30  : exG TB d 414 30 L [v] A = ck (okv 1 v) (some (.inl (some v), A)) := x_outg (op := o_ret 1) rfl rfl
theorem e_415  : evG TB (d + 1) 415 [.ref p] A = exG TB d 415 0 [some (.ref p), none, none, none, none] [] A := evG_eq TB d 415 _ A
theorem x_415_0  : exG TB d 415 0 (some v :: r9) st A = rg v (exG TB d 415 1 (some v :: r9) (v :: st) A) := x_rg (op := o_aload 0 1) rfl rfl
theorem x_415_1  : exG TB d 415 1 L st A = exG TB d 415 2 L (.int (nI 0) :: st) A := x_nx (op := o_push 1 (.int 0)) rfl rfl
theorem x_415_2  : exG TB d 415 2 (some v :: r9) st A = rg v (exG TB d 415 3 (some v :: r9) (v :: st) A) := x_rg (op := o_aload 0 1) rfl rfl
theorem x_415_3  : exG TB d 415 3 L (.ref p :: st) A = kv (gf A p 44) d 415 6 L st A := x_bd (op := o_get 44) rfl rfl (fun _ => rfl)
theorem x_415_6  : exG TB d 415 6 L (.ref p :: st) A = kv (gf A p 6) d 415 9 L st A := x_bd (op := o_get 6) rfl rfl (fun _ => rfl)
theorem x_415_9  : exG TB d 415 9 L (.ref p :: st) A = kv (gf A p 15) d 415 12 L st A := x_bd (op := o_get 15) rfl rfl (fun _ => rfl)
theorem x_415_12  : exG TB d 415 12 L st A = exG TB d 415 13 L (.int (nI 1) :: st) A := x_nx (op := o_push 1 (.int 1)) rfl rfl
theorem x_415_13  : exG TB d 415 13 L (.int i2 :: .int i1 :: st) A = exG TB d 415 14 L (.int (i1 - i2) :: st) A := x_nx (op := o_iop (fun x y => x - y)) rfl rfl
theorem x_415_14  : exG TB d 415 14 L [b1, b0, .ref p] A = kw (sel (gc A p) [(9, 413)]) [.ref p, b0, b1] d 415 17 L [] A := x_cvb (op := o_cv [(9, 413)] 2 3 false none) rfl rfl x_noh rfl
theorem x_415_17  : exG TB d 415 17 (a0 :: a1 :: r9) (.int i1 :: st) A = exG TB d 415 18 (a0 :: some (.int i1) :: r9) st A := x_nx (op := o_istore 1 1) rfl rfl
theorem x_415_18  : exG TB d 415 18 (some v :: r9) st A = rg v (exG TB d 415 19 (some v :: r9) (v :: st) A) := x_rg (op := o_aload 0 1) rfl rfl
theorem x_415_19  : exG TB d 415 19 L st A = exG TB d 415 20 L (.int (nI 0) :: st) A := x_nx (op := o_push 1 (.int 0)) rfl rfl
theorem x_415_20  : exG TB d 415 20 (some v :: r9) st A = rg v (exG TB d 415 21 (some v :: r9) (v :: st) A) := x_rg (op := o_aload 0 1) rfl rfl
theorem x_415_21  : exG TB d 415 21 L (.ref p :: st) A = kv (gf A p 44) d 415 24 L st A := x_bd (op := o_get 44) rfl rfl (fun _ => rfl)
theorem x_415_24  : exG TB d 415 24 L (.ref p :: st) A = kv (gf A p 6) d 415 27 L st A := x_bd (op := o_get 6) rfl rfl (fun _ => rfl)
theorem x_415_27  : exG TB d 415 27 L (.ref p :: st) A = kv (gf A p 15) d 415 30 L st A := x_bd (op := o_get 15) rfl rfl (fun _ => rfl)
theorem x_415_30  : exG TB d 415 30 L st A = exG TB d 415 31 L (.int (nI 1) :: st) A := x_nx (op := o_push 1 (.int 1)) rfl rfl
theorem x_415_31  : exG TB d 415 31 L (.int i2 :: .int i1 :: st) A = exG TB d 415 32 L (.int (i1 - i2) :: st) A := x_nx (op := o_iop (fun x y => x - y)) rfl rfl
theorem x_415_32  : exG TB d 415 32 L [b1, b0, .ref p] A = kw (sel (gc A p) [(9, 414)]) [.ref p, b0, b1] d 415 35 L [] A := x_cvb (op := o_cv [(9, 414)] 2 3 false none) rfl rfl x_noh rfl
theorem x_415_35  : exG TB d 415 35 (a0 :: a1 :: a2 :: r9) (.int i1 :: st) A = exG TB d 415 36 (a0 :: a1 :: some (.int i1) :: r9) st A := x_nx (op := o_istore 2 1) rfl rfl
theorem x_415_36  : exG TB d 415 36 (some v :: r9) st A = rg v (exG TB d 415 37 (some v :: r9) (v :: st) A) := x_rg (op := o_aload 0 1) rfl rfl
theorem x_415_37  : exG TB d 415 37 (a0 :: some (.int i1) :: r9) st A = exG TB d 415 38 (a0 :: some (.int i1) :: r9) (.int i1 :: st) A := x_nx (op := o_iload 1 1) rfl rfl
theorem x_415_38  : exG TB d 415 38 (a0 :: a1 :: some (.int i1) :: r9) st A = exG TB d 415 39 (a0 :: a1 :: some (.int i1) :: r9) (.int i1 :: st) A := x_nx (op := o_iload 2 1) rfl rfl
theorem x_415_39  : exG TB d 415 39 L (.int i2 :: .int i1 :: st) A = if i1 = i2 then exG TB d 415 61 L st A else exG TB d 415 42 L st A := x_if (op := o_icmp (fun x y => decide (x = y)) 61) rfl rfl rfl
theorem x_415_42  : exG TB d 415 42 (some v :: r9) st A = rg v (exG TB d 415 43 (some v :: r9) (v :: st) A) := x_rg (op := o_aload 0 1) rfl rfl
theorem x_415_43  : exG TB d 415 43 L (.ref p :: st) A = kv (gf A p 44) d 415 46 L st A := x_bd (op := o_get 44) rfl rfl (fun _ => rfl)
theorem x_415_46  : exG TB d 415 46 L (.ref p :: st) A = kv (gf A p 6) d 415 49 L st A := x_bd (op := o_get 6) rfl rfl (fun _ => rfl)
theorem x_415_49  : exG TB d 415 49 (a0 :: some (.int i1) :: r9) st A = exG TB d 415 50 (a0 :: some (.int i1) :: r9) (.int i1 :: st) A := x_nx (op := o_iload 1 1) rfl rfl
theorem x_415_50  : exG TB d 415 50 (a0 :: a1 :: some (.int i1) :: r9) st A = exG TB d 415 51 (a0 :: a1 :: some (.int i1) :: r9) (.int i1 :: st) A := x_nx (op := o_iload 2 1) rfl rfl
theorem x_415_51  : exG TB d 415 51 L [b1, b0, .ref p, w0] A = kw (sel (gc A p) [(2, 284)]) [.ref p, b0, b1] d 415 54 L [w0] A := x_cvb (op := o_cv [(2, 284)] 2 3 false none) rfl rfl x_noh rfl
theorem x_415_54n  : exG TB d 415 54 L (.null :: st) A = exG TB d 415 57 L st A := x_nx (op := o_ifnonnull 61) rfl rfl
theorem x_415_54r  : exG TB d 415 54 L (.ref p :: st) A = exG TB d 415 61 L st A := x_nx (op := o_ifnonnull 61) rfl rfl
theorem x_415_57  : exG TB d 415 57 L st A = exG TB d 415 58 L (.int (nI 1) :: st) A := x_nx (op := o_push 1 (.int 1)) rfl rfl
theorem x_415_58  : exG TB d 415 58 L st A = exG TB d 415 62 L st A := x_nx (op := o_goto 62) rfl rfl
theorem x_415_61  : exG TB d 415 61 L st A = exG TB d 415 62 L (.int (nI 0) :: st) A := x_nx (op := o_push 1 (.int 0)) rfl rfl
theorem x_415_62  : exG TB d 415 62 L st A = exG TB d 415 63 L (.int (nI 4) :: st) A := x_nx (op := o_push 1 (.int 4)) rfl rfl
theorem x_415_63  : exG TB d 415 63 L [b1, b0, .ref p] A = kw0 (sel (gc A p) [(9, 412)]) [.ref p, b0, b1] d 415 66 L [] A := x_c0b (op := o_cv [(9, 412)] 2 3 true none) rfl rfl x_noh rfl
theorem x_415_66  : exG TB d 415 66 (some v :: r9) st A = rg v (exG TB d 415 67 (some v :: r9) (v :: st) A) := x_rg (op := o_aload 0 1) rfl rfl
theorem x_415_67  : exG TB d 415 67 L [.ref p] A = kw0 (sel (gc A p) [(9, 408)]) [.ref p] d 415 70 L [] A := x_c0b (op := o_cv [(9, 408)] 0 3 true none) rfl rfl x_noh rfl
theorem x_415_70  : exG TB d 415 70 (some v :: r9) st A = rg v (exG TB d 415 71 (some v :: r9) (v :: st) A) := x_rg (op := o_aload 0 1) rfl rfl
theorem x_415_71  : exG TB d 415 71 L st A = exG TB d 415 72 L (.int (nI 1) :: st) A := x_nx (op := o_push 1 (.int 1)) rfl rfl
theorem x_415_72  : exG TB d 415 72 L st A = exG TB d 415 74 L (.int (nI 60) :: st) A := x_nx (op := o_push 2 (.int 60)) rfl rfl
theorem x_415_74  : exG TB d 415 74 L [b1, b0, .ref p] A = kw (sel (gc A p) [(9, 413)]) [.ref p, b0, b1] d 415 77 L [] A := x_cvb (op := o_cv [(9, 413)] 2 3 false none) rfl rfl x_noh rfl
theorem x_415_77  : exG TB d 415 77 (a0 :: a1 :: a2 :: a3 :: r9) (.int i1 :: st) A = exG TB d 415 78 (a0 :: a1 :: a2 :: some (.int i1) :: r9) st A := x_nx (op := o_istore 3 1) rfl rfl
theorem x_415_78  : exG TB d 415 78 (some v :: r9) st A = rg v (exG TB d 415 79 (some v :: r9) (v :: st) A) := x_rg (op := o_aload 0 1) rfl rfl
theorem x_415_79  : exG TB d 415 79 L (.ref p :: st) A = kv (gf A p 44) d 415 82 L st A := x_bd (op := o_get 44) rfl rfl (fun _ => rfl)
theorem x_415_82  : exG TB d 415 82 L (.ref p :: st) A = kv (gf A p 6) d 415 85 L st A := x_bd (op := o_get 6) rfl rfl (fun _ => rfl)
theorem x_415_85  : exG TB d 415 85 (a0 :: some (.int i1) :: r9) st A = exG TB d 415 86 (a0 :: some (.int i1) :: r9) (.int i1 :: st) A := x_nx (op := o_iload 1 1) rfl rfl
theorem x_415_86  : exG TB d 415 86 (a0 :: a1 :: some (.int i1) :: r9) st A = exG TB d 415 87 (a0 :: a1 :: some (.int i1) :: r9) (.int i1 :: st) A := x_nx (op := o_iload 2 1) rfl rfl
theorem x_415_87  : exG TB d 415 87 (a0 :: a1 :: a2 :: some (.int i1) :: r9) st A = exG TB d 415 88 (a0 :: a1 :: a2 :: some (.int i1) :: r9) (.int i1 :: st) A := x_nx (op := o_iload 3 1) rfl rfl
theorem x_415_88  : exG TB d 415 88 (some v :: r9) st A = rg v (exG TB d 415 89 (some v :: r9) (v :: st) A) := x_rg (op := o_aload 0 1) rfl rfl
theorem x_415_89  : exG TB d 415 89 L st A = exG TB d 415 90 L (.int (nI 0) :: st) A := x_nx (op := o_push 1 (.int 0)) rfl rfl
theorem x_415_90  : exG TB d 415 90 L st A = exG TB d 415 93 L (.int (nI 999) :: st) A := x_nx (op := o_push 3 (.int 999)) rfl rfl
theorem x_415_93  : exG TB d 415 93 L [b1, b0, .ref p, w0, w1, w2, w3] A = kw (sel (gc A p) [(9, 413)]) [.ref p, b0, b1] d 415 96 L [w0, w1, w2, w3] A := x_cvb (op := o_cv [(9, 413)] 2 3 false none) rfl rfl x_noh rfl
theorem x_415_96  : exG TB d 415 96 L [b3, b2, b1, b0, .ref p] A = kw (sel (gc A p) [(2, 285)]) [.ref p, b0, b1, b2, b3] d 415 99 L [] A := x_cvb (op := o_cv [(2, 285)] 4 3 false none) rfl rfl x_noh rfl
theorem x_415_99  : exG TB d 415 99 (a0 :: a1 :: a2 :: a3 :: a4 :: r9) (.int i1 :: st) A = exG TB d 415 101 (a0 :: a1 :: a2 :: a3 :: some (.int i1) :: r9) st A := x_nx (op := o_istore 4 2) rfl rfl
theorem x_415_101  : exG TB d 415 101 L [] A = some (.inl none, A) := x_out (op := o_vret) rfl rfl
theorem e_416  : evG TB (d + 1) 416 [.ref p] A = exG TB d 416 0 [some (.ref p), none, none, none] [] A := evG_eq TB d 416 _ A
theorem x_416_0  : exG TB d 416 0 (some v :: r9) st A = rg v (exG TB d 416 1 (some v :: r9) (v :: st) A) := x_rg (op := o_aload 0 1) rfl rfl
theorem x_416_1  : exG TB d 416 1 L st A = exG TB d 416 2 L (.int (nI 1) :: st) A := x_nx (op := o_push 1 (.int 1)) rfl rfl
theorem x_416_2  : exG TB d 416 2 L st A = exG TB d 416 3 L (.int (nI 4) :: st) A := x_nx (op := o_push 1 (.int 4)) rfl rfl
theorem x_416_3  : exG TB d 416 3 L [b1, b0, .ref p] A = kw (sel (gc A p) [(9, 413)]) [.ref p, b0, b1] d 416 6 L [] A := x_cvb (op := o_cv [(9, 413)] 2 3 false none) rfl rfl x_noh rfl
theorem x_416_6  : exG TB d 416 6 (a0 :: a1 :: r9) (.int i1 :: st) A = exG TB d 416 7 (a0 :: some (.int i1) :: r9) st A := x_nx (op := o_istore 1 1) rfl rfl
theorem x_416_7  : exG TB d 416 7 L st A = exG TB d 416 8 L (.int nN :: st) A := x_nx (op := o_push 1 (.int (-1))) rfl rfl
theorem x_416_8  : exG TB d 416 8 (a0 :: a1 :: a2 :: r9) (.int i1 :: st) A = exG TB d 416 9 (a0 :: a1 :: some (.int i1) :: r9) st A := x_nx (op := o_istore 2 1) rfl rfl
theorem x_416_9  : exG TB d 416 9 (some v :: r9) st A = rg v (exG TB d 416 10 (some v :: r9) (v :: st) A) := x_rg (op := o_aload 0 1) rfl rfl
theorem x_416_10  : exG TB d 416 10 L (.ref p :: st) A = kv (gf A p 50) d 416 13 L st A := x_bd (op := o_get 50) rfl rfl (fun _ => rfl)
theorem x_416_13  : exG TB d 416 13 L st A = exG TB d 416 14 L (.int (nI 2) :: st) A := x_nx (op := o_push 1 (.int 2)) rfl rfl
theorem x_416_14  : exG TB d 416 14 L (.int i2 :: .int i1 :: st) A = if ¬ i1 = i2 then exG TB d 416 36 L st A else exG TB d 416 17 L st A := x_if (op := o_icmp (fun x y => decide (¬ x = y)) 36) rfl rfl rfl
theorem x_416_17  : exG TB d 416 17 (some v :: r9) st A = rg v (exG TB d 416 18 (some v :: r9) (v :: st) A) := x_rg (op := o_aload 0 1) rfl rfl
theorem x_416_18  : exG TB d 416 18 L [.ref p] A = kw0 (sel (gc A p) [(9, 408)]) [.ref p] d 416 21 L [] A := x_c0b (op := o_cv [(9, 408)] 0 3 true none) rfl rfl x_noh rfl
theorem x_416_21  : exG TB d 416 21 (some v :: r9) st A = rg v (exG TB d 416 22 (some v :: r9) (v :: st) A) := x_rg (op := o_aload 0 1) rfl rfl
theorem x_416_22  : exG TB d 416 22 L st A = exG TB d 416 23 L (.int (nI 0) :: st) A := x_nx (op := o_push 1 (.int 0)) rfl rfl
theorem x_416_23  : exG TB d 416 23 (some v :: r9) st A = rg v (exG TB d 416 24 (some v :: r9) (v :: st) A) := x_rg (op := o_aload 0 1) rfl rfl
theorem x_416_24  : exG TB d 416 24 L (.ref p :: st) A = kv (gf A p 44) d 416 27 L st A := x_bd (op := o_get 44) rfl rfl (fun _ => rfl)
theorem x_416_27  : exG TB d 416 27 L (.ref p :: st) A = kv (gf A p 9) d 416 30 L st A := x_bd (op := o_get 9) rfl rfl (fun _ => rfl)
theorem x_416_30  : exG TB d 416 30 L st A = exG TB d 416 31 L (.int (nI 1) :: st) A := x_nx (op := o_push 1 (.int 1)) rfl rfl
theorem x_416_31  : exG TB d 416 31 L (.int i2 :: .int i1 :: st) A = exG TB d 416 32 L (.int (i1 - i2) :: st) A := x_nx (op := o_iop (fun x y => x - y)) rfl rfl
theorem x_416_32  : exG TB d 416 32 L [b1, b0, .ref p] A = kw (sel (gc A p) [(9, 413)]) [.ref p, b0, b1] d 416 35 L [] A := x_cvb (op := o_cv [(9, 413)] 2 3 false none) rfl rfl x_noh rfl
theorem x_416_35  : exG TB d 416 35 (a0 :: a1 :: a2 :: r9) (.int i1 :: st) A = exG TB d 416 36 (a0 :: a1 :: some (.int i1) :: r9) st A := x_nx (op := o_istore 2 1) rfl rfl
theorem x_416_36  : exG TB d 416 36 (some v :: r9) st A = rg v (exG TB d 416 37 (some v :: r9) (v :: st) A) := x_rg (op := o_aload 0 1) rfl rfl
theorem x_416_37  : exG TB d 416 37 L (.ref p :: st) A = kv (gf A p 44) d 416 40 L st A := x_bd (op := o_get 44) rfl rfl (fun _ => rfl)
theorem x_416_40  : exG TB d 416 40 (a0 :: some (.int i1) :: r9) st A = exG TB d 416 41 (a0 :: some (.int i1) :: r9) (.int i1 :: st) A := x_nx (op := o_iload 1 1) rfl rfl
theorem x_416_41  : exG TB d 416 41 (a0 :: a1 :: some (.int i1) :: r9) st A = exG TB d 416 42 (a0 :: a1 :: some (.int i1) :: r9) (.int i1 :: st) A := x_nx (op := o_iload 2 1) rfl rfl
theorem x_416_42  : exG TB d 416 42 L [b1, b0, .ref p] A = kw (sel (gc A p) [(1, 259)]) [.ref p, b0, b1] d 416 45 L [] A := x_cvb (op := o_cv [(1, 259)] 2 3 false none) rfl rfl x_noh rfl
theorem x_416_45  : exG TB d 416 45 (a0 :: a1 :: a2 :: a3 :: r9) (.int i1 :: st) A = exG TB d 416 46 (a0 :: a1 :: a2 :: some (.int i1) :: r9) st A := x_nx (op := o_istore 3 1) rfl rfl
theorem x_416_46  : exG TB d 416 46 L [] A = some (.inl none, A) := x_out (op := o_vret) rfl rfl
theorem e_417 {j1 : Int32} {j2 : Int32} : evG TB (d + 1) 417 [.ref p, .int j1, .int j2] A = exG TB d 417 0 [some (.ref p), some (.int j1), some (.int j2)] [] A := evG_eq TB d 417 _ A
theorem x_417_0  : exG TB d 417 0 (some v :: r9) st A = rg v (exG TB d 417 1 (some v :: r9) (v :: st) A) := x_rg (op := o_aload 0 1) rfl rfl
theorem x_417_1  : exG TB d 417 1 L st A = exG TB d 417 2 L (.null :: st) A := x_nx (op := o_push 1 .null) rfl rfl
theorem x_417_2  : exG TB d 417 2 L st A = exG TB d 417 3 L (.null :: st) A := x_nx (op := o_push 1 .null) rfl rfl
theorem x_417_3  : exG TB d 417 3 L st A = exG TB d 417 4 L (.int (nI 0) :: st) A := x_nx (op := o_push 1 (.int 0)) rfl rfl
theorem x_417_4  : exG TB d 417 4 L st A = exG TB d 417 5 L (.int (nI 0) :: st) A := x_nx (op := o_push 1 (.int 0)) rfl rfl
theorem x_417_5  : exG TB d 417 5 L [b3, b2, b1, b0, .ref p] A = kc0 (evG TB d 100 [.ref p, b0, b1, b2, b3] A) d 417 8 L [] := x_c0 (op := o_ci 100 4) rfl rfl x_noh rfl
theorem x_417_8  : exG TB d 417 8 (some v :: r9) st A = rg v (exG TB d 417 9 (some v :: r9) (v :: st) A) := x_rg (op := o_aload 0 1) rfl rfl
theorem x_417_9  : exG TB d 417 9 (a0 :: some (.int i1) :: r9) st A = exG TB d 417 10 (a0 :: some (.int i1) :: r9) (.int i1 :: st) A := x_nx (op := o_iload 1 1) rfl rfl
theorem x_417_10  : exG TB d 417 10 L (v :: .ref p :: st) A = ck ((gf A p 58).isSome && okv 1 v) (exG TB d 417 13 L st (setf A p 58 v)) := x_gd (op := o_put 58 1) rfl rfl
theorem x_417_13  : exG TB d 417 13 (some v :: r9) st A = rg v (exG TB d 417 14 (some v :: r9) (v :: st) A) := x_rg (op := o_aload 0 1) rfl rfl
theorem x_417_14  : exG TB d 417 14 (a0 :: a1 :: some (.int i1) :: r9) st A = exG TB d 417 15 (a0 :: a1 :: some (.int i1) :: r9) (.int i1 :: st) A := x_nx (op := o_iload 2 1) rfl rfl
theorem x_417_15  : exG TB d 417 15 L (v :: .ref p :: st) A = ck ((gf A p 59).isSome && okv 1 v) (exG TB d 417 18 L st (setf A p 59 v)) := x_gd (op := o_put 59 1) rfl rfl
theorem x_417_18  : exG TB d 417 18 L [] A = some (.inl none, A) := x_out (op := o_vret) rfl rfl
theorem e_418 {j1 : Int32} {j2 : Int32} {j3 : Int32} : evG TB (d + 1) 418 [.ref p, .int j1, .int j2, .int j3] A = exG TB d 418 0 [some (.ref p), some (.int j1), some (.int j2), some (.int j3)] [] A := evG_eq TB d 418 _ A
theorem x_418_0  : exG TB d 418 0 (some v :: r9) st A = rg v (exG TB d 418 1 (some v :: r9) (v :: st) A) := x_rg (op := o_aload 0 1) rfl rfl
theorem x_418_1  : exG TB d 418 1 L [.ref p] A = exG TB d 418 4 L [] A := x_nx (op := o_oi) rfl rfl
theorem x_418_4  : exG TB d 418 4 (some v :: r9) st A = rg v (exG TB d 418 5 (some v :: r9) (v :: st) A) := x_rg (op := o_aload 0 1) rfl rfl
theorem x_418_5  : exG TB d 418 5 (a0 :: some (.int i1) :: r9) st A = exG TB d 418 6 (a0 :: some (.int i1) :: r9) (.int i1 :: st) A := x_nx (op := o_iload 1 1) rfl rfl
theorem x_418_6  : exG TB d 418 6 L (v :: .ref p :: st) A = ck ((gf A p 60).isSome && okv 1 v) (exG TB d 418 9 L st (setf A p 60 v)) := x_gd (op := o_put 60 1) rfl rfl
theorem x_418_9  : exG TB d 418 9 (some v :: r9) st A = rg v (exG TB d 418 10 (some v :: r9) (v :: st) A) := x_rg (op := o_aload 0 1) rfl rfl
theorem x_418_10  : exG TB d 418 10 (a0 :: a1 :: some (.int i1) :: r9) st A = exG TB d 418 11 (a0 :: a1 :: some (.int i1) :: r9) (.int i1 :: st) A := x_nx (op := o_iload 2 1) rfl rfl
theorem x_418_11  : exG TB d 418 11 L (v :: .ref p :: st) A = ck ((gf A p 61).isSome && okv 1 v) (exG TB d 418 14 L st (setf A p 61 v)) := x_gd (op := o_put 61 1) rfl rfl
theorem x_418_14  : exG TB d 418 14 (some v :: r9) st A = rg v (exG TB d 418 15 (some v :: r9) (v :: st) A) := x_rg (op := o_aload 0 1) rfl rfl
theorem x_418_15  : exG TB d 418 15 (a0 :: a1 :: a2 :: some (.int i1) :: r9) st A = exG TB d 418 16 (a0 :: a1 :: a2 :: some (.int i1) :: r9) (.int i1 :: st) A := x_nx (op := o_iload 3 1) rfl rfl
theorem x_418_16  : exG TB d 418 16 L (v :: .ref p :: st) A = ck ((gf A p 62).isSome && okv 1 v) (exG TB d 418 19 L st (setf A p 62 v)) := x_gd (op := o_put 62 1) rfl rfl
theorem x_418_19  : exG TB d 418 19 L [] A = some (.inl none, A) := x_out (op := o_vret) rfl rfl
theorem e_419 {j1 : Int32} {j2 : Int32} {j3 : Int32} : evG TB (d + 1) 419 [.ref p, .int j1, .int j2, .int j3] A = exG TB d 419 0 [some (.ref p), some (.int j1), some (.int j2), some (.int j3)] [] A := evG_eq TB d 419 _ A
theorem x_419_0  : exG TB d 419 0 (some v :: r9) st A = rg v (exG TB d 419 1 (some v :: r9) (v :: st) A) := x_rg (op := o_aload 0 1) rfl rfl
theorem x_419_1  : exG TB d 419 1 L [.ref p] A = exG TB d 419 4 L [] A := x_nx (op := o_oi) rfl rfl
theorem x_419_4  : exG TB d 419 4 (some v :: r9) st A = rg v (exG TB d 419 5 (some v :: r9) (v :: st) A) := x_rg (op := o_aload 0 1) rfl rfl
theorem x_419_5  : exG TB d 419 5 (a0 :: some (.int i1) :: r9) st A = exG TB d 419 6 (a0 :: some (.int i1) :: r9) (.int i1 :: st) A := x_nx (op := o_iload 1 1) rfl rfl
theorem x_419_6  : exG TB d 419 6 L (v :: .ref p :: st) A = ck ((gf A p 63).isSome && okv 1 v) (exG TB d 419 9 L st (setf A p 63 v)) := x_gd (op := o_put 63 1) rfl rfl
theorem x_419_9  : exG TB d 419 9 (some v :: r9) st A = rg v (exG TB d 419 10 (some v :: r9) (v :: st) A) := x_rg (op := o_aload 0 1) rfl rfl
theorem x_419_10  : exG TB d 419 10 (a0 :: a1 :: some (.int i1) :: r9) st A = exG TB d 419 11 (a0 :: a1 :: some (.int i1) :: r9) (.int i1 :: st) A := x_nx (op := o_iload 2 1) rfl rfl
theorem x_419_11  : exG TB d 419 11 L (v :: .ref p :: st) A = ck ((gf A p 64).isSome && okv 1 v) (exG TB d 419 14 L st (setf A p 64 v)) := x_gd (op := o_put 64 1) rfl rfl
theorem x_419_14  : exG TB d 419 14 (some v :: r9) st A = rg v (exG TB d 419 15 (some v :: r9) (v :: st) A) := x_rg (op := o_aload 0 1) rfl rfl
theorem x_419_15  : exG TB d 419 15 (a0 :: a1 :: a2 :: some (.int i1) :: r9) st A = exG TB d 419 16 (a0 :: a1 :: a2 :: some (.int i1) :: r9) (.int i1 :: st) A := x_nx (op := o_iload 3 1) rfl rfl
theorem x_419_16  : exG TB d 419 16 L (v :: .ref p :: st) A = ck ((gf A p 65).isSome && okv 1 v) (exG TB d 419 19 L st (setf A p 65 v)) := x_gd (op := o_put 65 1) rfl rfl
theorem x_419_19  : exG TB d 419 19 L [] A = some (.inl none, A) := x_out (op := o_vret) rfl rfl
theorem e_420 {j1 : Int32} : evG TB (d + 1) 420 [.ref p, .int j1] A = exG TB d 420 0 [some (.ref p), some (.int j1)] [] A := evG_eq TB d 420 _ A
theorem x_420_0  : exG TB d 420 0 (some v :: r9) st A = rg v (exG TB d 420 1 (some v :: r9) (v :: st) A) := x_rg (op := o_aload 0 1) rfl rfl
theorem x_420_1  : exG TB d 420 1 L (.ref p :: st) A = kv (gf A p 66) d 420 4 L st A := x_bd (op := o_get 66) rfl rfl (fun _ => rfl)
theorem x_420_4  : exG TB d 420 4 (a0 :: some (.int i1) :: r9) st A = exG TB d 420 5 (a0 :: some (.int i1) :: r9) (.int i1 :: st) A := x_nx (op := o_iload 1 1) rfl rfl
theorem x_420_5  : exG TB d 420 5 L (.int i2 :: .int i1 :: st) A = exG TB d 420 6 L (.int (i1 + i2) :: st) A := x_nx (op := o_iop (fun x y => x + y)) rfl rfl
theorem x_420_6  : exG TB d 420 6 (some v :: r9) st A = rg v (exG TB d 420 7 (some v :: r9) (v :: st) A) := x_rg (op := o_aload 0 1) rfl rfl
theorem x_420_7  : exG TB d 420 7 L (.ref p :: st) A = kv (gf A p 65) d 420 10 L st A := x_bd (op := o_get 65) rfl rfl (fun _ => rfl)
theorem x_420_10  : exG TB d 420 10 L (.int i2 :: .int i1 :: st) A = if i1 < i2 then exG TB d 420 20 L st A else exG TB d 420 13 L st A := x_if (op := o_icmp (fun x y => decide (x < y)) 20) rfl rfl rfl
theorem x_420_13  : exG TB d 420 13 (some v :: r9) st A = rg v (exG TB d 420 14 (some v :: r9) (v :: st) A) := x_rg (op := o_aload 0 1) rfl rfl
theorem x_420_14  : exG TB d 420 14 L (.ref p :: st) A = kv (gf A p 64) d 420 17 L st A := x_bd (op := o_get 64) rfl rfl (fun _ => rfl)
theorem x_420_17  : exG TB d 420 17 L st A = exG TB d 420 21 L st A := x_nx (op := o_goto 21) rfl rfl
theorem x_420_20  : exG TB d 420 20 L st A = exG TB d 420 21 L (.int (nI 0) :: st) A := x_nx (op := o_push 1 (.int 0)) rfl rfl
theorem x_420_21  : exG TB d 420 21 L [v] A = ck (okv 1 v) (some (.inl (some v), A)) := x_outg (op := o_ret 1) rfl rfl
theorem e_421 {j1 : Int32} : evG TB (d + 1) 421 [.ref p, .int j1] A = exG TB d 421 0 [some (.ref p), some (.int j1)] [] A := evG_eq TB d 421 _ A
theorem x_421_0  : exG TB d 421 0 (some v :: r9) st A = rg v (exG TB d 421 1 (some v :: r9) (v :: st) A) := x_rg (op := o_aload 0 1) rfl rfl
theorem x_421_1  : exG TB d 421 1 L (v :: st) A = ck (c1 v) (exG TB d 421 2 L (v :: v :: st) A) := x_gd (op := o_dup) rfl rfl
theorem x_421_2  : exG TB d 421 2 L (.ref p :: st) A = kv (gf A p 63) d 421 5 L st A := x_bd (op := o_get 63) rfl rfl (fun _ => rfl)
theorem x_421_5  : exG TB d 421 5 (a0 :: some (.int i1) :: r9) st A = exG TB d 421 6 (a0 :: some (.int i1) :: r9) (.int i1 :: st) A := x_nx (op := o_iload 1 1) rfl rfl
theorem x_421_6  : exG TB d 421 6 L (.int i2 :: .int i1 :: st) A = exG TB d 421 7 L (.int (i1 - i2) :: st) A := x_nx (op := o_iop (fun x y => x - y)) rfl rfl
theorem x_421_7  : exG TB d 421 7 L (v :: .ref p :: st) A = ck ((gf A p 63).isSome && okv 1 v) (exG TB d 421 10 L st (setf A p 63 v)) := x_gd (op := o_put 63 1) rfl rfl
theorem x_421_10  : exG TB d 421 10 (some v :: r9) st A = rg v (exG TB d 421 11 (some v :: r9) (v :: st) A) := x_rg (op := o_aload 0 1) rfl rfl
theorem x_421_11  : exG TB d 421 11 L (v :: st) A = ck (c1 v) (exG TB d 421 12 L (v :: v :: st) A) := x_gd (op := o_dup) rfl rfl
theorem x_421_12  : exG TB d 421 12 L (.ref p :: st) A = kv (gf A p 67) d 421 15 L st A := x_bd (op := o_get 67) rfl rfl (fun _ => rfl)
theorem x_421_15  : exG TB d 421 15 (a0 :: some (.int i1) :: r9) st A = exG TB d 421 16 (a0 :: some (.int i1) :: r9) (.int i1 :: st) A := x_nx (op := o_iload 1 1) rfl rfl
theorem x_421_16  : exG TB d 421 16 L (.int i2 :: .int i1 :: st) A = exG TB d 421 17 L (.int (i1 + i2) :: st) A := x_nx (op := o_iop (fun x y => x + y)) rfl rfl
theorem x_421_17  : exG TB d 421 17 L (v :: .ref p :: st) A = ck ((gf A p 67).isSome && okv 1 v) (exG TB d 421 20 L st (setf A p 67 v)) := x_gd (op := o_put 67 1) rfl rfl
theorem x_421_20  : exG TB d 421 20 (some v :: r9) st A = rg v (exG TB d 421 21 (some v :: r9) (v :: st) A) := x_rg (op := o_aload 0 1) rfl rfl
theorem x_421_21  : exG TB d 421 21 L (v :: st) A = ck (c1 v) (exG TB d 421 22 L (v :: v :: st) A) := x_gd (op := o_dup) rfl rfl
theorem x_421_22  : exG TB d 421 22 L (.ref p :: st) A = kv (gf A p 66) d 421 25 L st A := x_bd (op := o_get 66) rfl rfl (fun _ => rfl)
theorem x_421_25  : exG TB d 421 25 L st A = exG TB d 421 26 L (.int (nI 1) :: st) A := x_nx (op := o_push 1 (.int 1)) rfl rfl
theorem x_421_26  : exG TB d 421 26 L (.int i2 :: .int i1 :: st) A = exG TB d 421 27 L (.int (i1 + i2) :: st) A := x_nx (op := o_iop (fun x y => x + y)) rfl rfl
theorem x_421_27  : exG TB d 421 27 L (v :: .ref p :: st) A = ck ((gf A p 66).isSome && okv 1 v) (exG TB d 421 30 L st (setf A p 66 v)) := x_gd (op := o_put 66 1) rfl rfl
theorem x_421_30  : exG TB d 421 30 L [] A = some (.inl none, A) := x_out (op := o_vret) rfl rfl
theorem e_422 {j1 : Int32} : evG TB (d + 1) 422 [.ref p, .int j1] A = exG TB d 422 0 [some (.ref p), some (.int j1)] [] A := evG_eq TB d 422 _ A
theorem x_422_0  : exG TB d 422 0 (some v :: r9) st A = rg v (exG TB d 422 1 (some v :: r9) (v :: st) A) := x_rg (op := o_aload 0 1) rfl rfl
theorem x_422_1  : exG TB d 422 1 L (v :: st) A = ck (c1 v) (exG TB d 422 2 L (v :: v :: st) A) := x_gd (op := o_dup) rfl rfl
theorem x_422_2  : exG TB d 422 2 L (.ref p :: st) A = kv (gf A p 63) d 422 5 L st A := x_bd (op := o_get 63) rfl rfl (fun _ => rfl)
theorem x_422_5  : exG TB d 422 5 (a0 :: some (.int i1) :: r9) st A = exG TB d 422 6 (a0 :: some (.int i1) :: r9) (.int i1 :: st) A := x_nx (op := o_iload 1 1) rfl rfl
theorem x_422_6  : exG TB d 422 6 L (.int i2 :: .int i1 :: st) A = exG TB d 422 7 L (.int (i1 + i2) :: st) A := x_nx (op := o_iop (fun x y => x + y)) rfl rfl
theorem x_422_7  : exG TB d 422 7 L (v :: .ref p :: st) A = ck ((gf A p 63).isSome && okv 1 v) (exG TB d 422 10 L st (setf A p 63 v)) := x_gd (op := o_put 63 1) rfl rfl
theorem x_422_10  : exG TB d 422 10 (some v :: r9) st A = rg v (exG TB d 422 11 (some v :: r9) (v :: st) A) := x_rg (op := o_aload 0 1) rfl rfl
theorem x_422_11  : exG TB d 422 11 L (v :: st) A = ck (c1 v) (exG TB d 422 12 L (v :: v :: st) A) := x_gd (op := o_dup) rfl rfl
theorem x_422_12  : exG TB d 422 12 L (.ref p :: st) A = kv (gf A p 68) d 422 15 L st A := x_bd (op := o_get 68) rfl rfl (fun _ => rfl)
theorem x_422_15  : exG TB d 422 15 (a0 :: some (.int i1) :: r9) st A = exG TB d 422 16 (a0 :: some (.int i1) :: r9) (.int i1 :: st) A := x_nx (op := o_iload 1 1) rfl rfl
theorem x_422_16  : exG TB d 422 16 L (.int i2 :: .int i1 :: st) A = exG TB d 422 17 L (.int (i1 + i2) :: st) A := x_nx (op := o_iop (fun x y => x + y)) rfl rfl
theorem x_422_17  : exG TB d 422 17 L (v :: .ref p :: st) A = ck ((gf A p 68).isSome && okv 1 v) (exG TB d 422 20 L st (setf A p 68 v)) := x_gd (op := o_put 68 1) rfl rfl
theorem x_422_20  : exG TB d 422 20 L [] A = some (.inl none, A) := x_out (op := o_vret) rfl rfl
theorem e_423  : evG TB (d + 1) 423 [.ref p] A = exG TB d 423 0 [some (.ref p), none] [] A := evG_eq TB d 423 _ A
theorem x_423_0  : exG TB d 423 0 L st A = exG TB d 423 3 L (.ref (nx A) :: st) (newo A 12 6 dv12) := x_nx (op := o_new 12 6 dv12) rfl rfl
theorem x_423_3  : exG TB d 423 3 L (v :: st) A = ck (c1 v) (exG TB d 423 4 L (v :: v :: st) A) := x_gd (op := o_dup) rfl rfl
theorem x_423_4  : exG TB d 423 4 (some v :: r9) st A = rg v (exG TB d 423 5 (some v :: r9) (v :: st) A) := x_rg (op := o_aload 0 1) rfl rfl
theorem x_423_5  : exG TB d 423 5 L (.ref p :: st) A = kv (gf A p 63) d 423 8 L st A := x_bd (op := o_get 63) rfl rfl (fun _ => rfl)
theorem x_423_8  : exG TB d 423 8 (some v :: r9) st A = rg v (exG TB d 423 9 (some v :: r9) (v :: st) A) := x_rg (op := o_aload 0 1) rfl rfl
theorem x_423_9  : exG TB d 423 9 L (.ref p :: st) A = kv (gf A p 64) d 423 12 L st A := x_bd (op := o_get 64) rfl rfl (fun _ => rfl)
theorem x_423_12  : exG TB d 423 12 (some v :: r9) st A = rg v (exG TB d 423 13 (some v :: r9) (v :: st) A) := x_rg (op := o_aload 0 1) rfl rfl
theorem x_423_13  : exG TB d 423 13 L (.ref p :: st) A = kv (gf A p 65) d 423 16 L st A := x_bd (op := o_get 65) rfl rfl (fun _ => rfl)
theorem x_423_16  : exG TB d 423 16 L [b2, b1, b0, .ref p, w0] A = kc0 (evG TB d 419 [.ref p, b0, b1, b2] A) d 423 19 L [w0] := x_c0 (op := o_ci 419 3) rfl rfl x_noh rfl
theorem x_423_19  : exG TB d 423 19 (a0 :: a1 :: r9) (v :: st) A = rg v (exG TB d 423 20 (a0 :: some v :: r9) st A) := x_rgt (op := o_astore 1 1) rfl rfl
theorem x_423_20  : exG TB d 423 20 (a0 :: some v :: r9) st A = rg v (exG TB d 423 21 (a0 :: some v :: r9) (v :: st) A) := x_rg (op := o_aload 1 1) rfl rfl
theorem x_423_21  : exG TB d 423 21 (some v :: r9) st A = rg v (exG TB d 423 22 (some v :: r9) (v :: st) A) := x_rg (op := o_aload 0 1) rfl rfl
theorem x_423_22  : exG TB d 423 22 L (.ref p :: st) A = kv (gf A p 66) d 423 25 L st A := x_bd (op := o_get 66) rfl rfl (fun _ => rfl)
theorem x_423_25  : exG TB d 423 25 L (v :: .ref p :: st) A = ck ((gf A p 66).isSome && okv 1 v) (exG TB d 423 28 L st (setf A p 66 v)) := x_gd (op := o_put 66 1) rfl rfl
theorem x_423_28  : exG TB d 423 28 (a0 :: some v :: r9) st A = rg v (exG TB d 423 29 (a0 :: some v :: r9) (v :: st) A) := x_rg (op := o_aload 1 1) rfl rfl
theorem x_423_29  : exG TB d 423 29 (some v :: r9) st A = rg v (exG TB d 423 30 (some v :: r9) (v :: st) A) := x_rg (op := o_aload 0 1) rfl rfl
theorem x_423_30  : exG TB d 423 30 L (.ref p :: st) A = kv (gf A p 67) d 423 33 L st A := x_bd (op := o_get 67) rfl rfl (fun _ => rfl)
theorem x_423_33  : exG TB d 423 33 L (v :: .ref p :: st) A = ck ((gf A p 67).isSome && okv 1 v) (exG TB d 423 36 L st (setf A p 67 v)) := x_gd (op := o_put 67 1) rfl rfl
theorem x_423_36  : exG TB d 423 36 (a0 :: some v :: r9) st A = rg v (exG TB d 423 37 (a0 :: some v :: r9) (v :: st) A) := x_rg (op := o_aload 1 1) rfl rfl
theorem x_423_37  : exG TB d 423 37 (some v :: r9) st A = rg v (exG TB d 423 38 (some v :: r9) (v :: st) A) := x_rg (op := o_aload 0 1) rfl rfl
theorem x_423_38  : exG TB d 423 38 L (.ref p :: st) A = kv (gf A p 68) d 423 41 L st A := x_bd (op := o_get 68) rfl rfl (fun _ => rfl)
theorem x_423_41  : exG TB d 423 41 L (v :: .ref p :: st) A = ck ((gf A p 68).isSome && okv 1 v) (exG TB d 423 44 L st (setf A p 68 v)) := x_gd (op := o_put 68 1) rfl rfl
theorem x_423_44  : exG TB d 423 44 (a0 :: some v :: r9) st A = rg v (exG TB d 423 45 (a0 :: some v :: r9) (v :: st) A) := x_rg (op := o_aload 1 1) rfl rfl
theorem x_423_45  : exG TB d 423 45 L [v] A = ck (okv 0 v) (some (.inl (some v), A)) := x_outg (op := o_ret 0) rfl rfl
theorem e_424 {j1 : Int32} {j2 : Int32} : evG TB (d + 1) 424 [.ref p, .int j1, .int j2] A = exG TB d 424 0 [some (.ref p), some (.int j1), some (.int j2)] [] A := evG_eq TB d 424 _ A
theorem x_424_0  : exG TB d 424 0 (some v :: r9) st A = rg v (exG TB d 424 1 (some v :: r9) (v :: st) A) := x_rg (op := o_aload 0 1) rfl rfl
theorem x_424_1  : exG TB d 424 1 L [.ref p] A = exG TB d 424 4 L [] A := x_nx (op := o_oi) rfl rfl
theorem x_424_4  : exG TB d 424 4 (some v :: r9) st A = rg v (exG TB d 424 5 (some v :: r9) (v :: st) A) := x_rg (op := o_aload 0 1) rfl rfl
theorem x_424_5  : exG TB d 424 5 L st A = exG TB d 424 6 L (.int nN :: st) A := x_nx (op := o_push 1 (.int (-1))) rfl rfl
theorem x_424_6  : exG TB d 424 6 L (v :: .ref p :: st) A = ck ((gf A p 73).isSome && okv 1 v) (exG TB d 424 9 L st (setf A p 73 v)) := x_gd (op := o_put 73 1) rfl rfl
theorem x_424_9  : exG TB d 424 9 (some v :: r9) st A = rg v (exG TB d 424 10 (some v :: r9) (v :: st) A) := x_rg (op := o_aload 0 1) rfl rfl
theorem x_424_10  : exG TB d 424 10 (a0 :: some (.int i1) :: r9) st A = exG TB d 424 11 (a0 :: some (.int i1) :: r9) (.int i1 :: st) A := x_nx (op := o_iload 1 1) rfl rfl
theorem x_424_11  : exG TB d 424 11 L (v :: .ref p :: st) A = ck ((gf A p 69).isSome && okv 1 v) (exG TB d 424 14 L st (setf A p 69 v)) := x_gd (op := o_put 69 1) rfl rfl
theorem x_424_14  : exG TB d 424 14 (some v :: r9) st A = rg v (exG TB d 424 15 (some v :: r9) (v :: st) A) := x_rg (op := o_aload 0 1) rfl rfl
theorem x_424_15  : exG TB d 424 15 (a0 :: a1 :: some (.int i1) :: r9) st A = exG TB d 424 16 (a0 :: a1 :: some (.int i1) :: r9) (.int i1 :: st) A := x_nx (op := o_iload 2 1) rfl rfl
theorem x_424_16  : exG TB d 424 16 L (v :: .ref p :: st) A = ck ((gf A p 70).isSome && okv 1 v) (exG TB d 424 19 L st (setf A p 70 v)) := x_gd (op := o_put 70 1) rfl rfl
theorem x_424_19  : exG TB d 424 19 L [] A = some (.inl none, A) := x_out (op := o_vret) rfl rfl
theorem e_425  : evG TB (d + 1) 425 [.ref p] A = exG TB d 425 0 [some (.ref p), none] [] A := evG_eq TB d 425 _ A
theorem x_425_0  : exG TB d 425 0 L st A = exG TB d 425 3 L (.ref (nx A) :: st) (newo A 13 6 dv13) := x_nx (op := o_new 13 6 dv13) rfl rfl
theorem x_425_3  : exG TB d 425 3 L (v :: st) A = ck (c1 v) (exG TB d 425 4 L (v :: v :: st) A) := x_gd (op := o_dup) rfl rfl
theorem x_425_4  : exG TB d 425 4 (some v :: r9) st A = rg v (exG TB d 425 5 (some v :: r9) (v :: st) A) := x_rg (op := o_aload 0 1) rfl rfl
theorem x_425_5  : exG TB d 425 5 L (.ref p :: st) A = kv (gf A p 69) d 425 8 L st A := x_bd (op := o_get 69) rfl rfl (fun _ => rfl)
theorem x_425_8  : exG TB d 425 8 (some v :: r9) st A = rg v (exG TB d 425 9 (some v :: r9) (v :: st) A) := x_rg (op := o_aload 0 1) rfl rfl
theorem x_425_9  : exG TB d 425 9 L (.ref p :: st) A = kv (gf A p 70) d 425 12 L st A := x_bd (op := o_get 70) rfl rfl (fun _ => rfl)
theorem x_425_12  : exG TB d 425 12 L [b1, b0, .ref p, w0] A = kc0 (evG TB d 424 [.ref p, b0, b1] A) d 425 15 L [w0] := x_c0 (op := o_ci 424 2) rfl rfl x_noh rfl
theorem x_425_15  : exG TB d 425 15 (a0 :: a1 :: r9) (v :: st) A = rg v (exG TB d 425 16 (a0 :: some v :: r9) st A) := x_rgt (op := o_astore 1 1) rfl rfl
theorem x_425_16  : exG TB d 425 16 (a0 :: some v :: r9) st A = rg v (exG TB d 425 17 (a0 :: some v :: r9) (v :: st) A) := x_rg (op := o_aload 1 1) rfl rfl
theorem x_425_17  : exG TB d 425 17 (some v :: r9) st A = rg v (exG TB d 425 18 (some v :: r9) (v :: st) A) := x_rg (op := o_aload 0 1) rfl rfl
theorem x_425_18  : exG TB d 425 18 L (.ref p :: st) A = kv (gf A p 71) d 425 21 L st A := x_bd (op := o_get 71) rfl rfl (fun _ => rfl)
theorem x_425_21  : exG TB d 425 21 L (v :: .ref p :: st) A = ck ((gf A p 71).isSome && okv 1 v) (exG TB d 425 24 L st (setf A p 71 v)) := x_gd (op := o_put 71 1) rfl rfl
theorem x_425_24  : exG TB d 425 24 (a0 :: some v :: r9) st A = rg v (exG TB d 425 25 (a0 :: some v :: r9) (v :: st) A) := x_rg (op := o_aload 1 1) rfl rfl
theorem x_425_25  : exG TB d 425 25 (some v :: r9) st A = rg v (exG TB d 425 26 (some v :: r9) (v :: st) A) := x_rg (op := o_aload 0 1) rfl rfl
theorem x_425_26  : exG TB d 425 26 L (.ref p :: st) A = kv (gf A p 72) d 425 29 L st A := x_bd (op := o_get 72) rfl rfl (fun _ => rfl)
theorem x_425_29  : exG TB d 425 29 L (v :: .ref p :: st) A = ck ((gf A p 72).isSome && okv 1 v) (exG TB d 425 32 L st (setf A p 72 v)) := x_gd (op := o_put 72 1) rfl rfl
theorem x_425_32  : exG TB d 425 32 (a0 :: some v :: r9) st A = rg v (exG TB d 425 33 (a0 :: some v :: r9) (v :: st) A) := x_rg (op := o_aload 1 1) rfl rfl
theorem x_425_33  : exG TB d 425 33 (some v :: r9) st A = rg v (exG TB d 425 34 (some v :: r9) (v :: st) A) := x_rg (op := o_aload 0 1) rfl rfl
theorem x_425_34  : exG TB d 425 34 L (.ref p :: st) A = kv (gf A p 73) d 425 37 L st A := x_bd (op := o_get 73) rfl rfl (fun _ => rfl)
theorem x_425_37  : exG TB d 425 37 L (v :: .ref p :: st) A = ck ((gf A p 73).isSome && okv 1 v) (exG TB d 425 40 L st (setf A p 73 v)) := x_gd (op := o_put 73 1) rfl rfl
theorem x_425_40  : exG TB d 425 40 (a0 :: some v :: r9) st A = rg v (exG TB d 425 41 (a0 :: some v :: r9) (v :: st) A) := x_rg (op := o_aload 1 1) rfl rfl
theorem x_425_41  : exG TB d 425 41 (some v :: r9) st A = rg v (exG TB d 425 42 (some v :: r9) (v :: st) A) := x_rg (op := o_aload 0 1) rfl rfl
theorem x_425_42  : exG TB d 425 42 L (.ref p :: st) A = kv (gf A p 74) d 425 45 L st A := x_bd (op := o_get 74) rfl rfl (fun _ => rfl)
theorem x_425_45  : exG TB d 425 45 L (v :: .ref p :: st) A = ck ((gf A p 74).isSome && okv 1 v) (exG TB d 425 48 L st (setf A p 74 v)) := x_gd (op := o_put 74 1) rfl rfl
theorem x_425_48  : exG TB d 425 48 (a0 :: some v :: r9) st A = rg v (exG TB d 425 49 (a0 :: some v :: r9) (v :: st) A) := x_rg (op := o_aload 1 1) rfl rfl
theorem x_425_49  : exG TB d 425 49 L [v] A = ck (okv 0 v) (some (.inl (some v), A)) := x_outg (op := o_ret 0) rfl rfl
end
