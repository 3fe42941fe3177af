set_option maxRecDepth 100000
/-! what each instruction does, as an equation -/
section
variable {d p q n9 : Nat} {L r9 : Lc} {st : List Value} {A : Hp} {g9 : Nat → Int32} {v v2 v3 w0 w1 w2 w3 w4 w5 w6 w7 w8 w9 w10 w11 b0 b1 b2 b3 b4 b5 b6 b7 b8 b9 b10 b11 : Value} {i1 i2 i3 i4 : Int32} {l1 l2 : Int64} {f1 f2 : UInt32} {d1 d2 : UInt64} {a0 a1 a2 a3 a4 a5 a6 a7 a8 a9 a10 a11 a12 a13 a14 a15 a16 a17 a18 a19 a20 a21 a22 a23 a24 a25 a26 a27 a28 a29 a30 a31 a32 a33 a34 a35 a36 a37 a38 a39 a40 a41 a42 a43 : Option Value}
theorem e_257 {j1 : Int32} {j2 : Int32} : evG TB (d + 1) 257 [.ref p, .int j1, .int j2] A = exG TB d 257 0 [some (.ref p), some (.int j1), some (.int j2), none] [] A := evG_eq TB d 257 _ A
theorem x_257_0  : exG TB d 257 0 (some v :: r9) st A = rg v (exG TB d 257 1 (some v :: r9) (v :: st) A) := x_rg (op := o_aload 0 1) rfl rfl
theorem x_257_1  : exG TB d 257 1 L (.ref p :: st) A = kv (gf A p 13) d 257 4 L st A := x_bd (op := o_get 13) rfl rfl (fun _ => rfl)
theorem x_257_4  : exG TB d 257 4 L st A = exG TB d 257 7 L (.ref (nx A) :: st) (newo A 8 2 dv8) := x_nx (op := o_new 8 2 dv8) rfl rfl
theorem x_257_7  : exG TB d 257 7 L (v :: st) A = ck (c1 v) (exG TB d 257 8 L (v :: v :: st) A) := x_gd (op := o_dup) rfl rfl
theorem x_257_8  : exG TB d 257 8 (a0 :: some (.int i1) :: r9) st A = exG TB d 257 9 (a0 :: some (.int i1) :: r9) (.int i1 :: st) A := x_nx (op := o_iload 1 1) rfl rfl
theorem x_257_9  : exG TB d 257 9 (a0 :: a1 :: some (.int i1) :: r9) st A = exG TB d 257 10 (a0 :: a1 :: some (.int i1) :: r9) (.int i1 :: st) A := x_nx (op := o_iload 2 1) rfl rfl
theorem x_257_10  : exG TB d 257 10 L [b1, b0, .ref p, w0, w1] A = kc0 (evG TB d 279 [.ref p, b0, b1] A) d 257 13 L [w0, w1] := x_c0 (op := o_ci 279 2) rfl rfl x_noh rfl
theorem x_257_13  : exG TB d 257 13 L [b0, .ref p] A = kw (sel (gc A p) [(6, 29)]) [.ref p, b0] d 257 16 L [] A := x_cvb (op := o_cv [(6, 29)] 1 3 false none) rfl rfl x_noh rfl
theorem x_257_16n  : exG TB d 257 16 L (.null :: st) A = exG TB d 257 19 L (.null :: st) A := x_nx (op := o_cast [21]) rfl rfl
theorem x_257_16r  : exG TB d 257 16 L (.ref p :: st) A = ck (cin (gcs A p) [21]) (exG TB d 257 19 L (.ref p :: st) A) := x_gd (op := o_cast [21]) rfl rfl
theorem x_257_19  : exG TB d 257 19 (a0 :: a1 :: a2 :: a3 :: r9) (v :: st) A = rg v (exG TB d 257 20 (a0 :: a1 :: a2 :: some v :: r9) st A) := x_rgt (op := o_astore 3 1) rfl rfl
theorem x_257_20  : exG TB d 257 20 (a0 :: a1 :: a2 :: some v :: r9) st A = rg v (exG TB d 257 21 (a0 :: a1 :: a2 :: some v :: r9) (v :: st) A) := x_rg (op := o_aload 3 1) rfl rfl
theorem x_257_21n  : exG TB d 257 21 L (.null :: st) A = exG TB d 257 24 L st A := x_nx (op := o_ifnonnull 28) rfl rfl
theorem x_257_21r  : exG TB d 257 21 L (.ref p :: st) A = exG TB d 257 28 L st A := x_nx (op := o_ifnonnull 28) rfl rfl
theorem x_257_24  : exG TB d 257 24 L st A = exG TB d 257 25 L (.int (nI 0) :: st) A := x_nx (op := o_push 1 (.int 0)) rfl rfl
theorem x_257_25  : exG TB d 257 25 L st A = exG TB d 257 32 L st A := x_nx (op := o_goto 32) rfl rfl
theorem x_257_28  : exG TB d 257 28 (a0 :: a1 :: a2 :: some v :: r9) st A = rg v (exG TB d 257 29 (a0 :: a1 :: a2 :: some v :: r9) (v :: st) A) := x_rg (op := o_aload 3 1) rfl rfl
theorem x_257_29  : exG TB d 257 29 L [.ref p] A = kw (sel (gcs A p) [(21, 21)]) [.ref p] d 257 32 L [] A := x_cvb (op := o_cvs [(21, 21)] 0 3 false) rfl rfl x_noh rfl
theorem x_257_32  : exG TB d 257 32 L [v] A = ck (okv 1 v) (some (.inl (some v), A)) := x_outg (op := o_ret 1) rfl rfl
theorem e_258 {j1 : Int32} {j2 : Int32} {j3 : Int32} : evG TB (d + 1) 258 [.ref p, .int j1, .int j2, .int j3] A = exG TB d 258 0 [some (.ref p), some (.int j1), some (.int j2), some (.int j3)] [] A := evG_eq TB d 258 _ A
theorem x_258_0  : exG TB d 258 0 (some v :: r9) st A = rg v (exG TB d 258 1 (some v :: r9) (v :: st) A) := x_rg (op := o_aload 0 1) rfl rfl
theorem x_258_1  : exG TB d 258 1 L (.ref p :: st) A = kv (gf A p 8) d 258 4 L st A := x_bd (op := o_get 8) rfl rfl (fun _ => rfl)
theorem x_258_4  : exG TB d 258 4 (some v :: r9) st A = rg v (exG TB d 258 5 (some v :: r9) (v :: st) A) := x_rg (op := o_aload 0 1) rfl rfl
theorem x_258_5  : exG TB d 258 5 L (.ref p :: st) A = kv (gf A p 9) d 258 8 L st A := x_bd (op := o_get 9) rfl rfl (fun _ => rfl)
theorem x_258_8  : exG TB d 258 8 L st A = exG TB d 258 11 L (.ref (nx A) :: st) (newo A 12 6 dv12) := x_nx (op := o_new 12 6 dv12) rfl rfl
theorem x_258_11  : exG TB d 258 11 L (v :: st) A = ck (c1 v) (exG TB d 258 12 L (v :: v :: st) A) := x_gd (op := o_dup) rfl rfl
theorem x_258_12  : exG TB d 258 12 (a0 :: some (.int i1) :: r9) st A = exG TB d 258 13 (a0 :: some (.int i1) :: r9) (.int i1 :: st) A := x_nx (op := o_iload 1 1) rfl rfl
theorem x_258_13  : exG TB d 258 13 (a0 :: a1 :: some (.int i1) :: r9) st A = exG TB d 258 14 (a0 :: a1 :: some (.int i1) :: r9) (.int i1 :: st) A := x_nx (op := o_iload 2 1) rfl rfl
theorem x_258_14  : exG TB d 258 14 (a0 :: a1 :: a2 :: some (.int i1) :: r9) st A = exG TB d 258 15 (a0 :: a1 :: a2 :: some (.int i1) :: r9) (.int i1 :: st) A := x_nx (op := o_iload 3 1) rfl rfl
theorem x_258_15  : exG TB d 258 15 L [b2, b1, b0, .ref p, w0, w1, w2] A = kc0 (evG TB d 419 [.ref p, b0, b1, b2] A) d 258 18 L [w0, w1, w2] := x_c0 (op := o_ci 419 3) rfl rfl x_noh rfl
theorem x_258_18r  : exG TB d 258 18 L (.ref q :: .int i1 :: .ref p :: st) A = ck (atag (ga A p) 7 && okq A [12] (.ref q)) (ka (wrQ (ga A p) i1 (some q)) p d 258 19 L st A) := x_gb (op := o_wrQ 7 [12]) rfl rfl (fun _ => rfl)
theorem x_258_18n  : exG TB d 258 18 L (.null :: .int i1 :: .ref p :: st) A = ck (atag (ga A p) 7 && okq A [12] (.null)) (ka (wrQ (ga A p) i1 none) p d 258 19 L st A) := x_gb (op := o_wrQ 7 [12]) rfl rfl (fun _ => rfl)
theorem x_258_19  : exG TB d 258 19 (some v :: r9) st A = rg v (exG TB d 258 20 (some v :: r9) (v :: st) A) := x_rg (op := o_aload 0 1) rfl rfl
theorem x_258_20  : exG TB d 258 20 L (v :: st) A = ck (c1 v) (exG TB d 258 21 L (v :: v :: st) A) := x_gd (op := o_dup) rfl rfl
theorem x_258_21  : exG TB d 258 21 L (.ref p :: st) A = kv (gf A p 9) d 258 24 L st A := x_bd (op := o_get 9) rfl rfl (fun _ => rfl)
theorem x_258_24  : exG TB d 258 24 L st A = exG TB d 258 25 L (.int (nI 1) :: st) A := x_nx (op := o_push 1 (.int 1)) rfl rfl
theorem x_258_25  : exG TB d 258 25 L (.int i2 :: .int i1 :: st) A = exG TB d 258 26 L (.int (i1 + i2) :: st) A := x_nx (op := o_iop (fun x y => x + y)) rfl rfl
theorem x_258_26  : exG TB d 258 26 L (v :: .ref p :: st) A = ck ((gf A p 9).isSome && okv 1 v) (exG TB d 258 29 L st (setf A p 9 v)) := x_gd (op := o_put 9 1) rfl rfl
theorem x_258_29  : exG TB d 258 29 (some v :: r9) st A = rg v (exG TB d 258 30 (some v :: r9) (v :: st) A) := x_rg (op := o_aload 0 1) rfl rfl
theorem x_258_30  : exG TB d 258 30 L (.ref p :: st) A = kv (gf A p 9) d 258 33 L st A := x_bd (op := o_get 9) rfl rfl (fun _ => rfl)
theorem x_258_33  : exG TB d 258 33 L st A = exG TB d 258 34 L (.int (nI 1) :: st) A := x_nx (op := o_push 1 (.int 1)) rfl rfl
theorem x_258_34  : exG TB d 258 34 L (.int i2 :: .int i1 :: st) A = exG TB d 258 35 L (.int (i1 - i2) :: st) A := x_nx (op := o_iop (fun x y => x - y)) rfl rfl
theorem x_258_35  : exG TB d 258 35 L [v] A = ck (okv 1 v) (some (.inl (some v), A)) := x_outg (op := o_ret 1) rfl rfl
theorem e_259 {j1 : Int32} {j2 : Int32} : evG TB (d + 1) 259 [.ref p, .int j1, .int j2] A = exG TB d 259 0 [some (.ref p), some (.int j1), some (.int j2)] [] A := evG_eq TB d 259 _ A
theorem x_259_0  : exG TB d 259 0 (some v :: r9) st A = rg v (exG TB d 259 1 (some v :: r9) (v :: st) A) := x_rg (op := o_aload 0 1) rfl rfl
theorem x_259_1  : exG TB d 259 1 L (.ref p :: st) A = kv (gf A p 10) d 259 4 L st A := x_bd (op := o_get 10) rfl rfl (fun _ => rfl)
theorem x_259_4  : exG TB d 259 4 L st A = exG TB d 259 7 L (.ref (nx A) :: st) (newo A 13 6 dv13) := x_nx (op := o_new 13 6 dv13) rfl rfl
theorem x_259_7  : exG TB d 259 7 L (v :: st) A = ck (c1 v) (exG TB d 259 8 L (v :: v :: st) A) := x_gd (op := o_dup) rfl rfl
theorem x_259_8  : exG TB d 259 8 (a0 :: some (.int i1) :: r9) st A = exG TB d 259 9 (a0 :: some (.int i1) :: r9) (.int i1 :: st) A := x_nx (op := o_iload 1 1) rfl rfl
theorem x_259_9  : exG TB d 259 9 (a0 :: a1 :: some (.int i1) :: r9) st A = exG TB d 259 10 (a0 :: a1 :: some (.int i1) :: r9) (.int i1 :: st) A := x_nx (op := o_iload 2 1) rfl rfl
theorem x_259_10  : exG TB d 259 10 L [b1, b0, .ref p, w0, w1] A = kc0 (evG TB d 424 [.ref p, b0, b1] A) d 259 13 L [w0, w1] := x_c0 (op := o_ci 424 2) rfl rfl x_noh rfl
theorem x_259_13  : exG TB d 259 13 L [b0, .ref p] A = kw (sel (gc A p) [(3, 43)]) [.ref p, b0] d 259 16 L [] A := x_cvb (op := o_cv [(3, 43)] 1 3 false none) rfl rfl x_noh rfl
theorem x_259_16  : exG TB d 259 16 L (v :: st) A = ck (c1 v) (exG TB d 259 17 L st A) := x_gd (op := o_pop) rfl rfl
theorem x_259_17  : exG TB d 259 17 (some v :: r9) st A = rg v (exG TB d 259 18 (some v :: r9) (v :: st) A) := x_rg (op := o_aload 0 1) rfl rfl
theorem x_259_18  : exG TB d 259 18 L (.ref p :: st) A = kv (gf A p 10) d 259 21 L st A := x_bd (op := o_get 10) rfl rfl (fun _ => rfl)
theorem x_259_21  : exG TB d 259 21 L [.ref p] A = kw (sel (gc A p) [(3, 42)]) [.ref p] d 259 24 L [] A := x_cvb (op := o_cv [(3, 42)] 0 3 false none) rfl rfl x_noh rfl
theorem x_259_24  : exG TB d 259 24 L st A = exG TB d 259 25 L (.int (nI 1) :: st) A := x_nx (op := o_push 1 (.int 1)) rfl rfl
theorem x_259_25  : exG TB d 259 25 L (.int i2 :: .int i1 :: st) A = exG TB d 259 26 L (.int (i1 - i2) :: st) A := x_nx (op := o_iop (fun x y => x - y)) rfl rfl
theorem x_259_26  : exG TB d 259 26 L [v] A = ck (okv 1 v) (some (.inl (some v), A)) := x_outg (op := o_ret 1) rfl rfl
theorem e_260 {j1 : Int32} {j2 : Int32} : evG TB (d + 1) 260 [.ref p, .int j1, .int j2] A = exG TB d 260 0 [some (.ref p), some (.int j1), some (.int j2), none, none, none] [] A := evG_eq TB d 260 _ A
theorem x_260_0  : exG TB d 260 0 L st A = exG TB d 260 1 L (.int (nI 0) :: st) A := x_nx (op := o_push 1 (.int 0)) rfl rfl
theorem x_260_1  : exG TB d 260 1 (a0 :: a1 :: a2 :: a3 :: r9) (.int i1 :: st) A = exG TB d 260 2 (a0 :: a1 :: a2 :: some (.int i1) :: r9) st A := x_nx (op := o_istore 3 1) rfl rfl
theorem x_260_2  : exG TB d 260 2 (some v :: r9) st A = rg v (exG TB d 260 3 (some v :: r9) (v :: st) A) := x_rg (op := o_aload 0 1) rfl rfl
theorem x_260_3  : exG TB d 260 3 L (.ref p :: st) A = kv (gf A p 11) d 260 6 L st A := x_bd (op := o_get 11) rfl rfl (fun _ => rfl)
theorem x_260_6  : exG TB d 260 6 L [.ref p] A = kw (sel (gc A p) [(3, 40)]) [.ref p] d 260 9 L [] A := x_cvb (op := o_cv [(3, 40)] 0 3 false none) rfl rfl x_noh rfl
theorem x_260_9  : exG TB d 260 9 (a0 :: a1 :: a2 :: a3 :: a4 :: r9) (v :: st) A = rg v (exG TB d 260 11 (a0 :: a1 :: a2 :: a3 :: some v :: r9) st A) := x_rgt (op := o_astore 4 2) rfl rfl
theorem x_260_11  : exG TB d 260 11 (a0 :: a1 :: a2 :: a3 :: some v :: r9) st A = rg v (exG TB d 260 13 (a0 :: a1 :: a2 :: a3 :: some v :: r9) (v :: st) A) := x_rg (op := o_aload 4 2) rfl rfl
theorem x_260_13  : exG TB d 260 13 L [.ref p] A = kw (sel (gc A p) [(7, 50), (24, 86), (25, 92)]) [.ref p] d 260 18 L [] A := x_cvb (op := o_cv [(7, 50), (24, 86), (25, 92)] 0 5 false none) rfl rfl x_noh rfl
theorem x_260_18  : exG TB d 260 18 L (.int i1 :: st) A = if i1 = nI 0 then exG TB d 260 62 L st A else exG TB d 260 21 L st A := x_if (op := o_if (fun x => decide (x = 0)) 62) rfl rfl rfl
theorem x_260_21  : exG TB d 260 21 (a0 :: a1 :: a2 :: a3 :: some v :: r9) st A = rg v (exG TB d 260 23 (a0 :: a1 :: a2 :: a3 :: some v :: r9) (v :: st) A) := x_rg (op := o_aload 4 2) rfl rfl
theorem x_260_23  : exG TB d 260 23 L [.ref p] A = kw (sel (gc A p) [(7, 51), (24, 89), (25, 95)]) [.ref p] d 260 28 L [] A := x_cvb (op := o_cv [(7, 51), (24, 89), (25, 95)] 0 5 false none) rfl rfl x_noh rfl
theorem x_260_28n  : exG TB d 260 28 L (.null :: st) A = exG TB d 260 31 L (.null :: st) A := x_nx (op := o_cast [17]) rfl rfl
theorem x_260_28r  : exG TB d 260 28 L (.ref p :: st) A = ck (cin (gcs A p) [17]) (exG TB d 260 31 L (.ref p :: st) A) := x_gd (op := o_cast [17]) rfl rfl
theorem x_260_31  : exG TB d 260 31 (a0 :: a1 :: a2 :: a3 :: a4 :: a5 :: r9) (v :: st) A = rg v (exG TB d 260 33 (a0 :: a1 :: a2 :: a3 :: a4 :: some v :: r9) st A) := x_rgt (op := o_astore 5 2) rfl rfl
theorem x_260_33  : exG TB d 260 33 (a0 :: a1 :: a2 :: some (.int i1) :: r9) st A = exG TB d 260 34 (a0 :: a1 :: a2 :: some (.int i1) :: r9) (.int i1 :: st) A := x_nx (op := o_iload 3 1) rfl rfl
theorem x_260_34  : exG TB d 260 34 (a0 :: a1 :: a2 :: a3 :: a4 :: some v :: r9) st A = rg v (exG TB d 260 36 (a0 :: a1 :: a2 :: a3 :: a4 :: some v :: r9) (v :: st) A) := x_rg (op := o_aload 5 2) rfl rfl
theorem x_260_36  : exG TB d 260 36 L (.ref p :: st) A = kv (gf A p 93) d 260 39 L st A := x_bd (op := o_get 93) rfl rfl (fun _ => rfl)
theorem x_260_39  : exG TB d 260 39 (a0 :: some (.int i1) :: r9) st A = exG TB d 260 40 (a0 :: some (.int i1) :: r9) (.int i1 :: st) A := x_nx (op := o_iload 1 1) rfl rfl
theorem x_260_40  : exG TB d 260 40 L (.int i2 :: .int i1 :: st) A = if ¬ i1 = i2 then exG TB d 260 56 L st A else exG TB d 260 43 L st A := x_if (op := o_icmp (fun x y => decide (¬ x = y)) 56) rfl rfl rfl
theorem x_260_43  : exG TB d 260 43 (a0 :: a1 :: a2 :: a3 :: a4 :: some v :: r9) st A = rg v (exG TB d 260 45 (a0 :: a1 :: a2 :: a3 :: a4 :: some v :: r9) (v :: st) A) := x_rg (op := o_aload 5 2) rfl rfl
theorem x_260_45  : exG TB d 260 45 L (.ref p :: st) A = kv (gf A p 95) d 260 48 L st A := x_bd (op := o_get 95) rfl rfl (fun _ => rfl)
theorem x_260_48  : exG TB d 260 48 (a0 :: a1 :: some (.int i1) :: r9) st A = exG TB d 260 49 (a0 :: a1 :: some (.int i1) :: r9) (.int i1 :: st) A := x_nx (op := o_iload 2 1) rfl rfl
theorem x_260_49  : exG TB d 260 49 L (.int i2 :: .int i1 :: st) A = if ¬ i1 = i2 then exG TB d 260 56 L st A else exG TB d 260 52 L st A := x_if (op := o_icmp (fun x y => decide (¬ x = y)) 56) rfl rfl rfl
theorem x_260_52  : exG TB d 260 52 L st A = exG TB d 260 53 L (.int (nI 1) :: st) A := x_nx (op := o_push 1 (.int 1)) rfl rfl
theorem x_260_53  : exG TB d 260 53 L st A = exG TB d 260 57 L st A := x_nx (op := o_goto 57) rfl rfl
theorem x_260_56  : exG TB d 260 56 L st A = exG TB d 260 57 L (.int (nI 0) :: st) A := x_nx (op := o_push 1 (.int 0)) rfl rfl
theorem x_260_57  : exG TB d 260 57 L (.int i2 :: .int i1 :: st) A = exG TB d 260 58 L (.int (i1 + i2) :: st) A := x_nx (op := o_iop (fun x y => x + y)) rfl rfl
theorem x_260_58  : exG TB d 260 58 (a0 :: a1 :: a2 :: a3 :: r9) (.int i1 :: st) A = exG TB d 260 59 (a0 :: a1 :: a2 :: some (.int i1) :: r9) st A := x_nx (op := o_istore 3 1) rfl rfl
theorem x_260_59  : exG TB d 260 59 L st A = exG TB d 260 11 L st A := x_nx (op := o_goto 11) rfl rfl
theorem x_260_62  : exG TB d 260 62 (a0 :: a1 :: a2 :: some (.int i1) :: r9) st A = exG TB d 260 63 (a0 :: a1 :: a2 :: some (.int i1) :: r9) (.int i1 :: st) A := x_nx (op := o_iload 3 1) rfl rfl
theorem x_260_63  : exG TB d 260 63 L [v] A = ck (okv 1 v) (some (.inl (some v), A)) := x_outg (op := o_ret 1) rfl rfl
theorem e_261 {j1 : Int32} {j2 : Int32} : evG TB (d + 1) 261 [.ref p, .int j1, .int j2] A = exG TB d 261 0 [some (.ref p), some (.int j1), some (.int j2), none] [] A := evG_eq TB d 261 _ A
theorem x_261_0  : exG TB d 261 0 (a0 :: some (.int i1) :: r9) st A = exG TB d 261 1 (a0 :: some (.int i1) :: r9) (.int i1 :: st) A := x_nx (op := o_iload 1 1) rfl rfl
theorem x_261_1  : exG TB d 261 1 (a0 :: a1 :: some (.int i1) :: r9) st A = exG TB d 261 2 (a0 :: a1 :: some (.int i1) :: r9) (.int i1 :: st) A := x_nx (op := o_iload 2 1) rfl rfl
theorem x_261_2  : exG TB d 261 2 L (.int i2 :: .int i1 :: st) A = if ¬ i1 = i2 then exG TB d 261 7 L st A else exG TB d 261 5 L st A := x_if (op := o_icmp (fun x y => decide (¬ x = y)) 7) rfl rfl rfl
theorem x_261_5  : exG TB d 261 5 L st A = exG TB d 261 6 L (.int (nI 0) :: st) A := x_nx (op := o_push 1 (.int 0)) rfl rfl
theorem x_261_6  : exG TB d 261 6 L [v] A = ck (okv 1 v) (some (.inl (some v), A)) := x_outg (op := o_ret 1) rfl rfl
theorem x_261_7  : exG TB d 261 7 L st A = exG TB d 261 10 L (.ref (nx A) :: st) (newo A 16 6 dv16) := x_nx (op := o_new 16 6 dv16) rfl rfl
theorem x_261_10  : exG TB d 261 10 L (v :: st) A = ck (c1 v) (exG TB d 261 11 L (v :: v :: st) A) := x_gd (op := o_dup) rfl rfl
theorem x_261_11  : exG TB d 261 11 (some v :: r9) st A = rg v (exG TB d 261 12 (some v :: r9) (v :: st) A) := x_rg (op := o_aload 0 1) rfl rfl
theorem x_261_12  : exG TB d 261 12 L (.ref p :: st) A = kv (gf A p 6) d 261 15 L st A := x_bd (op := o_get 6) rfl rfl (fun _ => rfl)
theorem x_261_15  : exG TB d 261 15 (a0 :: some (.int i1) :: r9) st A = exG TB d 261 16 (a0 :: some (.int i1) :: r9) (.int i1 :: st) A := x_nx (op := o_iload 1 1) rfl rfl
theorem x_261_16  : exG TB d 261 16 (a0 :: a1 :: some (.int i1) :: r9) st A = exG TB d 261 17 (a0 :: a1 :: some (.int i1) :: r9) (.int i1 :: st) A := x_nx (op := o_iload 2 1) rfl rfl
theorem x_261_17  : exG TB d 261 17 L [b2, b1, b0, .ref p, w0] A = kc0 (evG TB d 234 [.ref p, b0, b1, b2] A) d 261 20 L [w0] := x_c0 (op := o_ci 234 3) rfl rfl x_noh rfl
theorem x_261_20  : exG TB d 261 20 (a0 :: a1 :: a2 :: a3 :: r9) (v :: st) A = rg v (exG TB d 261 21 (a0 :: a1 :: a2 :: some v :: r9) st A) := x_rgt (op := o_astore 3 1) rfl rfl
theorem x_261_21  : exG TB d 261 21 (a0 :: a1 :: a2 :: some v :: r9) st A = rg v (exG TB d 261 22 (a0 :: a1 :: a2 :: some v :: r9) (v :: st) A) := x_rg (op := o_aload 3 1) rfl rfl
theorem x_261_22  : exG TB d 261 22 L [.ref p] A = kw (sel (gc A p) [(16, 228)]) [.ref p] d 261 25 L [] A := x_cvb (op := o_cv [(16, 228)] 0 3 false none) rfl rfl x_noh rfl
theorem x_261_25  : exG TB d 261 25 L [.ref p] A = kw (sel (gc A p) [(16, 230), (15, 230)]) [.ref p] d 261 28 L [] A := x_cvb (op := o_cv [(16, 230), (15, 230)] 0 3 false none) rfl rfl x_noh rfl
theorem x_261_28  : exG TB d 261 28 L (.int i1 :: st) A = if i1 = nI 0 then exG TB d 261 38 L st A else exG TB d 261 31 L st A := x_if (op := o_if (fun x => decide (x = 0)) 38) rfl rfl rfl
theorem x_261_31  : exG TB d 261 31 (a0 :: a1 :: a2 :: some v :: r9) st A = rg v (exG TB d 261 32 (a0 :: a1 :: a2 :: some v :: r9) (v :: st) A) := x_rg (op := o_aload 3 1) rfl rfl
theorem x_261_32  : exG TB d 261 32 L (.ref p :: st) A = kv (gf A p 88) d 261 35 L st A := x_bd (op := o_get 88) rfl rfl (fun _ => rfl)
theorem x_261_35  : exG TB d 261 35 L st A = exG TB d 261 39 L st A := x_nx (op := o_goto 39) rfl rfl
theorem x_261_38  : exG TB d 261 38 L st A = exG TB d 261 39 L (.int nN :: st) A := x_nx (op := o_push 1 (.int (-1))) rfl rfl
theorem x_261_39  : exG TB d 261 39 L [v] A = ck (okv 1 v) (some (.inl (some v), A)) := x_outg (op := o_ret 1) rfl rfl
theorem e_262 {j2 : Int32} {j3 : Int32} : evG TB (d + 1) 262 [.ref p, b1, .int j2, .int j3] A = rg b1 (exG TB d 262 0 [some (.ref p), some (b1), some (.int j2), some (.int j3)] [] A) := by
  rw [evG_eq]
  show (bif (true && (isR b1 && (true && (true && true)))) then exG TB d 262 0 [some (.ref p), some (b1), some (.int j2), some (.int j3)] [] A else none) = _
  unfold rg
  cases isR b1 <;> rfl
theorem x_262_0  : exG TB d 262 0 (a0 :: some v :: r9) st A = rg v (exG TB d 262 1 (a0 :: some v :: r9) (v :: st) A) := x_rg (op := o_aload 1 1) rfl rfl
theorem x_262_1  : exG TB d 262 1 (a0 :: a1 :: a2 :: some (.int i1) :: r9) st A = exG TB d 262 2 (a0 :: a1 :: a2 :: some (.int i1) :: r9) (.int i1 :: st) A := x_nx (op := o_iload 3 1) rfl rfl
theorem x_262_2  : exG TB d 262 2 L (v :: .ref p :: st) A = ck ((gf A p 94).isSome && okv 1 v) (exG TB d 262 5 L st (setf A p 94 v)) := x_gd (op := o_put 94 1) rfl rfl
theorem x_262_5  : exG TB d 262 5 (a0 :: some v :: r9) st A = rg v (exG TB d 262 6 (a0 :: some v :: r9) (v :: st) A) := x_rg (op := o_aload 1 1) rfl rfl
theorem x_262_6  : exG TB d 262 6 L (.ref p :: st) A = kv (gf A p 92) d 262 9 L st A := x_bd (op := o_get 92) rfl rfl (fun _ => rfl)
theorem x_262_9  : exG TB d 262 9 L (.int i1 :: st) A = if i1 = nI 0 then exG TB d 262 35 L st A else exG TB d 262 12 L st A := x_if (op := o_if (fun x => decide (x = 0)) 35) rfl rfl rfl
theorem x_262_12  : exG TB d 262 12 (a0 :: a1 :: a2 :: some (.int i1) :: r9) st A = exG TB d 262 13 (a0 :: a1 :: a2 :: some (.int i1) :: r9) (.int i1 :: st) A := x_nx (op := o_iload 3 1) rfl rfl
theorem x_262_13  : exG TB d 262 13 (some v :: r9) st A = rg v (exG TB d 262 14 (some v :: r9) (v :: st) A) := x_rg (op := o_aload 0 1) rfl rfl
theorem x_262_14  : exG TB d 262 14 L (.ref p :: st) A = kv (gf A p 7) d 262 17 L st A := x_bd (op := o_get 7) rfl rfl (fun _ => rfl)
theorem x_262_17  : exG TB d 262 17 L st A = exG TB d 262 18 L (.int (nI 4) :: st) A := x_nx (op := o_push 1 (.int 4)) rfl rfl
theorem x_262_18  : exG TB d 262 18 L (.int i1 :: .ref p :: st) A = ki (rdI 0 (ga A p) i1) d 262 19 L st A := x_bd (op := o_rdI 0) rfl rfl (fun _ => rfl)
theorem x_262_19  : exG TB d 262 19 L (.int i2 :: .int i1 :: st) A = if i2 ≤ i1 then exG TB d 262 35 L st A else exG TB d 262 22 L st A := x_if (op := o_icmp (fun x y => decide (y ≤ x)) 35) rfl rfl rfl
theorem x_262_22  : exG TB d 262 22 (a0 :: some v :: r9) st A = rg v (exG TB d 262 23 (a0 :: some v :: r9) (v :: st) A) := x_rg (op := o_aload 1 1) rfl rfl
theorem x_262_23  : exG TB d 262 23 (a0 :: a1 :: some (.int i1) :: r9) st A = exG TB d 262 24 (a0 :: a1 :: some (.int i1) :: r9) (.int i1 :: st) A := x_nx (op := o_iload 2 1) rfl rfl
theorem x_262_24  : exG TB d 262 24 L (v :: .ref p :: st) A = ck ((gf A p 93).isSome && okv 1 v) (exG TB d 262 27 L st (setf A p 93 v)) := x_gd (op := o_put 93 1) rfl rfl
theorem x_262_27  : exG TB d 262 27 (a0 :: some v :: r9) st A = rg v (exG TB d 262 28 (a0 :: some v :: r9) (v :: st) A) := x_rg (op := o_aload 1 1) rfl rfl
theorem x_262_28  : exG TB d 262 28 L st A = exG TB d 262 29 L (.int (nI 0) :: st) A := x_nx (op := o_push 1 (.int 0)) rfl rfl
theorem x_262_29  : exG TB d 262 29 L (v :: .ref p :: st) A = ck ((gf A p 95).isSome && okv 1 v) (exG TB d 262 32 L st (setf A p 95 v)) := x_gd (op := o_put 95 1) rfl rfl
theorem x_262_32  : exG TB d 262 32 L st A = exG TB d 262 41 L st A := x_nx (op := o_goto 41) rfl rfl
theorem x_262_35  : exG TB d 262 35 (some v :: r9) st A = rg v (exG TB d 262 36 (some v :: r9) (v :: st) A) := x_rg (op := o_aload 0 1) rfl rfl
theorem x_262_36  : exG TB d 262 36 (a0 :: some v :: r9) st A = rg v (exG TB d 262 37 (a0 :: some v :: r9) (v :: st) A) := x_rg (op := o_aload 1 1) rfl rfl
theorem x_262_37  : exG TB d 262 37 (a0 :: a1 :: some (.int i1) :: r9) st A = exG TB d 262 38 (a0 :: a1 :: some (.int i1) :: r9) (.int i1 :: st) A := x_nx (op := o_iload 2 1) rfl rfl
theorem x_262_38  : exG TB d 262 38 L [b1, b0, .ref p] A = kw0 (sel (gc A p) [(1, 263)]) [.ref p, b0, b1] d 262 41 L [] A := x_c0b (op := o_cv [(1, 263)] 2 3 true none) rfl rfl x_noh rfl
theorem x_262_41  : exG TB d 262 41 (some v :: r9) st A = rg v (exG TB d 262 42 (some v :: r9) (v :: st) A) := x_rg (op := o_aload 0 1) rfl rfl
theorem x_262_42  : exG TB d 262 42 L (.ref p :: st) A = kv (gf A p 11) d 262 45 L st A := x_bd (op := o_get 11) rfl rfl (fun _ => rfl)
theorem x_262_45  : exG TB d 262 45 (a0 :: some v :: r9) st A = rg v (exG TB d 262 46 (a0 :: some v :: r9) (v :: st) A) := x_rg (op := o_aload 1 1) rfl rfl
theorem x_262_46  : exG TB d 262 46 L [b0, .ref p] A = kw (sel (gc A p) [(3, 43)]) [.ref p, b0] d 262 49 L [] A := x_cvb (op := o_cv [(3, 43)] 1 3 false none) rfl rfl x_noh rfl
theorem x_262_49  : exG TB d 262 49 L (v :: st) A = ck (c1 v) (exG TB d 262 50 L st A) := x_gd (op := o_pop) rfl rfl
theorem x_262_50  : exG TB d 262 50 (a0 :: some v :: r9) st A = rg v (exG TB d 262 51 (a0 :: some v :: r9) (v :: st) A) := x_rg (op := o_aload 1 1) rfl rfl
theorem x_262_51  : exG TB d 262 51 L (.ref p :: st) A = kv (gf A p 89) d 262 54 L st A := x_bd (op := o_get 89) rfl rfl (fun _ => rfl)
theorem x_262_54  : exG TB d 262 54 L [v] A = ck (okv 1 v) (some (.inl (some v), A)) := x_outg (op := o_ret 1) rfl rfl
theorem e_263 {j2 : Int32} : evG TB (d + 1) 263 [.ref p, b1, .int j2] A = rg b1 (exG TB d 263 0 [some (.ref p), some (b1), some (.int j2)] [] A) := by
  rw [evG_eq]
  show (bif (true && (isR b1 && (true && true))) then exG TB d 263 0 [some (.ref p), some (b1), some (.int j2)] [] A else none) = _
  unfold rg
  cases isR b1 <;> rfl
theorem x_263_0  : exG TB d 263 0 (a0 :: some v :: r9) st A = rg v (exG TB d 263 1 (a0 :: some v :: r9) (v :: st) A) := x_rg (op := o_aload 1 1) rfl rfl
theorem x_263_1  : exG TB d 263 1 (a0 :: a1 :: some (.int i1) :: r9) st A = exG TB d 263 2 (a0 :: a1 :: some (.int i1) :: r9) (.int i1 :: st) A := x_nx (op := o_iload 2 1) rfl rfl
theorem x_263_2  : exG TB d 263 2 L (v :: .ref p :: st) A = ck ((gf A p 93).isSome && okv 1 v) (exG TB d 263 5 L st (setf A p 93 v)) := x_gd (op := o_put 93 1) rfl rfl
theorem x_263_5  : exG TB d 263 5 (a0 :: some v :: r9) st A = rg v (exG TB d 263 6 (a0 :: some v :: r9) (v :: st) A) := x_rg (op := o_aload 1 1) rfl rfl
theorem x_263_6  : exG TB d 263 6 (some v :: r9) st A = rg v (exG TB d 263 7 (some v :: r9) (v :: st) A) := x_rg (op := o_aload 0 1) rfl rfl
theorem x_263_7  : exG TB d 263 7 L (.ref p :: st) A = kv (gf A p 10) d 263 10 L st A := x_bd (op := o_get 10) rfl rfl (fun _ => rfl)
theorem x_263_10  : exG TB d 263 10 (a0 :: a1 :: some (.int i1) :: r9) st A = exG TB d 263 11 (a0 :: a1 :: some (.int i1) :: r9) (.int i1 :: st) A := x_nx (op := o_iload 2 1) rfl rfl
theorem x_263_11  : exG TB d 263 11 L [b0, .ref p, w0] A = kw (sel (gc A p) [(3, 47)]) [.ref p, b0] d 263 14 L [w0] A := x_cvb (op := o_cv [(3, 47)] 1 3 false none) rfl rfl x_noh rfl
theorem x_263_14n  : exG TB d 263 14 L (.null :: st) A = exG TB d 263 17 L (.null :: st) A := x_nx (op := o_cast [13]) rfl rfl
theorem x_263_14r  : exG TB d 263 14 L (.ref p :: st) A = ck (cin (gcs A p) [13]) (exG TB d 263 17 L (.ref p :: st) A) := x_gd (op := o_cast [13]) rfl rfl
theorem x_263_17  : exG TB d 263 17 L (.ref p :: st) A = kv (gf A p 73) d 263 20 L st A := x_bd (op := o_get 73) rfl rfl (fun _ => rfl)
theorem x_263_20  : exG TB d 263 20 (a0 :: some v :: r9) st A = rg v (exG TB d 263 21 (a0 :: some v :: r9) (v :: st) A) := x_rg (op := o_aload 1 1) rfl rfl
theorem x_263_21  : exG TB d 263 21 L (.ref p :: st) A = kv (gf A p 91) d 263 24 L st A := x_bd (op := o_get 91) rfl rfl (fun _ => rfl)
theorem x_263_24  : exG TB d 263 24 L (.int i2 :: .int i1 :: st) A = if i1 < i2 then exG TB d 263 31 L st A else exG TB d 263 27 L st A := x_if (op := o_icmp (fun x y => decide (x < y)) 31) rfl rfl rfl
theorem x_263_27  : exG TB d 263 27 L st A = exG TB d 263 28 L (.int (nI 4) :: st) A := x_nx (op := o_push 1 (.int 4)) rfl rfl
theorem x_263_28  : exG TB d 263 28 L st A = exG TB d 263 32 L st A := x_nx (op := o_goto 32) rfl rfl
theorem x_263_31  : exG TB d 263 31 L st A = exG TB d 263 32 L (.int (nI 1) :: st) A := x_nx (op := o_push 1 (.int 1)) rfl rfl
theorem x_263_32  : exG TB d 263 32 L (v :: .ref p :: st) A = ck ((gf A p 95).isSome && okv 1 v) (exG TB d 263 35 L st (setf A p 95 v)) := x_gd (op := o_put 95 1) rfl rfl
theorem x_263_35  : exG TB d 263 35 L [] A = some (.inl none, A) := x_out (op := o_vret) rfl rfl
theorem e_264 {j1 : Int32} : evG TB (d + 1) 264 [.ref p, .int j1] A = exG TB d 264 0 [some (.ref p), some (.int j1), none, none, none, none, none] [] A := evG_eq TB d 264 _ A
theorem x_264_0  : exG TB d 264 0 L st A = exG TB d 264 3 L (.ref (nx A) :: st) (newo A 20 9 dv20) := x_nx (op := o_new 20 9 dv20) rfl rfl
theorem x_264_3  : exG TB d 264 3 L (v :: st) A = ck (c1 v) (exG TB d 264 4 L (v :: v :: st) A) := x_gd (op := o_dup) rfl rfl
theorem x_264_4  : exG TB d 264 4 L [.ref p, w0] A = kc0 (evG TB d 54 [.ref p] A) d 264 7 L [w0] := x_c0 (op := o_ci 54 0) rfl rfl x_noh rfl
theorem x_264_7  : exG TB d 264 7 (a0 :: a1 :: a2 :: r9) (v :: st) A = rg v (exG TB d 264 8 (a0 :: a1 :: some v :: r9) st A) := x_rgt (op := o_astore 2 1) rfl rfl
theorem x_264_8  : exG TB d 264 8 (some v :: r9) st A = rg v (exG TB d 264 9 (some v :: r9) (v :: st) A) := x_rg (op := o_aload 0 1) rfl rfl
theorem x_264_9  : exG TB d 264 9 L (.ref p :: st) A = kv (gf A p 11) d 264 12 L st A := x_bd (op := o_get 11) rfl rfl (fun _ => rfl)
theorem x_264_12  : exG TB d 264 12 L [.ref p] A = kw (sel (gc A p) [(3, 40)]) [.ref p] d 264 15 L [] A := x_cvb (op := o_cv [(3, 40)] 0 3 false none) rfl rfl x_noh rfl
theorem x_264_15  : exG TB d 264 15 (a0 :: a1 :: a2 :: a3 :: r9) (v :: st) A = rg v (exG TB d 264 16 (a0 :: a1 :: a2 :: some v :: r9) st A) := x_rgt (op := o_astore 3 1) rfl rfl
theorem x_264_16  : exG TB d 264 16 (a0 :: a1 :: a2 :: some v :: r9) st A = rg v (exG TB d 264 17 (a0 :: a1 :: a2 :: some v :: r9) (v :: st) A) := x_rg (op := o_aload 3 1) rfl rfl
theorem x_264_17  : exG TB d 264 17 L [.ref p] A = kw (sel (gc A p) [(7, 50), (24, 86), (25, 92)]) [.ref p] d 264 22 L [] A := x_cvb (op := o_cv [(7, 50), (24, 86), (25, 92)] 0 5 false none) rfl rfl x_noh rfl
theorem x_264_22  : exG TB d 264 22 L (.int i1 :: st) A = if i1 = nI 0 then exG TB d 264 81 L st A else exG TB d 264 25 L st A := x_if (op := o_if (fun x => decide (x = 0)) 81) rfl rfl rfl
theorem x_264_25  : exG TB d 264 25 (a0 :: a1 :: a2 :: some v :: r9) st A = rg v (exG TB d 264 26 (a0 :: a1 :: a2 :: some v :: r9) (v :: st) A) := x_rg (op := o_aload 3 1) rfl rfl
theorem x_264_26  : exG TB d 264 26 L [.ref p] A = kw (sel (gc A p) [(7, 51), (24, 89), (25, 95)]) [.ref p] d 264 31 L [] A := x_cvb (op := o_cv [(7, 51), (24, 89), (25, 95)] 0 5 false none) rfl rfl x_noh rfl
theorem x_264_31n  : exG TB d 264 31 L (.null :: st) A = exG TB d 264 34 L (.null :: st) A := x_nx (op := o_cast [17]) rfl rfl
theorem x_264_31r  : exG TB d 264 31 L (.ref p :: st) A = ck (cin (gcs A p) [17]) (exG TB d 264 34 L (.ref p :: st) A) := x_gd (op := o_cast [17]) rfl rfl
theorem x_264_34  : exG TB d 264 34 (a0 :: a1 :: a2 :: a3 :: a4 :: r9) (v :: st) A = rg v (exG TB d 264 36 (a0 :: a1 :: a2 :: a3 :: some v :: r9) st A) := x_rgt (op := o_astore 4 2) rfl rfl
theorem x_264_36  : exG TB d 264 36 (a0 :: a1 :: a2 :: a3 :: some v :: r9) st A = rg v (exG TB d 264 38 (a0 :: a1 :: a2 :: a3 :: some v :: r9) (v :: st) A) := x_rg (op := o_aload 4 2) rfl rfl
theorem x_264_38  : exG TB d 264 38 L (.ref p :: st) A = kv (gf A p 93) d 264 41 L st A := x_bd (op := o_get 93) rfl rfl (fun _ => rfl)
theorem x_264_41  : exG TB d 264 41 (a0 :: some (.int i1) :: r9) st A = exG TB d 264 42 (a0 :: some (.int i1) :: r9) (.int i1 :: st) A := x_nx (op := o_iload 1 1) rfl rfl
theorem x_264_42  : exG TB d 264 42 L (.int i2 :: .int i1 :: st) A = if ¬ i1 = i2 then exG TB d 264 78 L st A else exG TB d 264 45 L st A := x_if (op := o_icmp (fun x y => decide (¬ x = y)) 78) rfl rfl rfl
theorem x_264_45  : exG TB d 264 45 (a0 :: a1 :: a2 :: a3 :: some v :: r9) st A = rg v (exG TB d 264 47 (a0 :: a1 :: a2 :: a3 :: some v :: r9) (v :: st) A) := x_rg (op := o_aload 4 2) rfl rfl
theorem x_264_47  : exG TB d 264 47 L (.ref p :: st) A = kv (gf A p 95) d 264 50 L st A := x_bd (op := o_get 95) rfl rfl (fun _ => rfl)
theorem x_264_50  : exG TB d 264 50 L st A = exG TB d 264 51 L (.int (nI 1) :: st) A := x_nx (op := o_push 1 (.int 1)) rfl rfl
theorem x_264_51  : exG TB d 264 51 L (.int i2 :: .int i1 :: st) A = if ¬ i1 = i2 then exG TB d 264 78 L st A else exG TB d 264 54 L st A := x_if (op := o_icmp (fun x y => decide (¬ x = y)) 78) rfl rfl rfl
theorem x_264_54  : exG TB d 264 54 (a0 :: a1 :: some v :: r9) st A = rg v (exG TB d 264 55 (a0 :: a1 :: some v :: r9) (v :: st) A) := x_rg (op := o_aload 2 1) rfl rfl
theorem x_264_55  : exG TB d 264 55 L st A = exG TB d 264 57 L (.int (nI 120) :: st) A := x_nx (op := o_push 2 (.int 120)) rfl rfl
theorem x_264_57  : exG TB d 264 57 (a0 :: a1 :: a2 :: a3 :: some v :: r9) st A = rg v (exG TB d 264 59 (a0 :: a1 :: a2 :: a3 :: some v :: r9) (v :: st) A) := x_rg (op := o_aload 4 2) rfl rfl
theorem x_264_59  : exG TB d 264 59 L (.ref p :: st) A = kv (gf A p 91) d 264 62 L st A := x_bd (op := o_get 91) rfl rfl (fun _ => rfl)
theorem x_264_62  : exG TB d 264 62 L (.int i2 :: .int i1 :: st) A = exG TB d 264 63 L (.int (i1 * i2) :: st) A := x_nx (op := o_iop (fun x y => x * y)) rfl rfl
theorem x_264_63  : exG TB d 264 63 (a0 :: a1 :: a2 :: a3 :: some v :: r9) st A = rg v (exG TB d 264 65 (a0 :: a1 :: a2 :: a3 :: some v :: r9) (v :: st) A) := x_rg (op := o_aload 4 2) rfl rfl
theorem x_264_65  : exG TB d 264 65 L (.ref p :: st) A = kv (gf A p 89) d 264 68 L st A := x_bd (op := o_get 89) rfl rfl (fun _ => rfl)
theorem x_264_68  : exG TB d 264 68 L (.int i2 :: .int i1 :: st) A = exG TB d 264 69 L (.int (i1 + i2) :: st) A := x_nx (op := o_iop (fun x y => x + y)) rfl rfl
theorem x_264_69  : exG TB d 264 69 L [b0, w0] A = kc (evG TB d 25 [b0] A) d 264 72 L [w0] := x_cv (op := o_cs 25 1 false none) rfl rfl x_noh rfl
theorem x_264_72  : exG TB d 264 72 (a0 :: a1 :: a2 :: a3 :: some v :: r9) st A = rg v (exG TB d 264 74 (a0 :: a1 :: a2 :: a3 :: some v :: r9) (v :: st) A) := x_rg (op := o_aload 4 2) rfl rfl
theorem x_264_74  : exG TB d 264 74 L [b1, b0, .ref p] A = kw (sel (gc A p) [(20, 55)]) [.ref p, b0, b1] d 264 77 L [] A := x_cvb (op := o_cv [(20, 55)] 2 3 false none) rfl rfl x_noh rfl
theorem x_264_77  : exG TB d 264 77 L (v :: st) A = ck (c1 v) (exG TB d 264 78 L st A) := x_gd (op := o_pop) rfl rfl
theorem x_264_78  : exG TB d 264 78 L st A = exG TB d 264 16 L st A := x_nx (op := o_goto 16) rfl rfl
theorem x_264_81  : exG TB d 264 81 L st A = exG TB d 264 84 L (.ref (nx A) :: st) (newo A 3 3 dv3) := x_nx (op := o_new 3 3 dv3) rfl rfl
theorem x_264_84  : exG TB d 264 84 L (v :: st) A = ck (c1 v) (exG TB d 264 85 L (v :: v :: st) A) := x_gd (op := o_dup) rfl rfl
theorem x_264_85  : exG TB d 264 85 L st A = exG TB d 264 86 L (.int (nI 4) :: st) A := x_nx (op := o_push 1 (.int 4)) rfl rfl
theorem x_264_86  : exG TB d 264 86 L [b0, .ref p, w0] A = kc0 (evG TB d 39 [.ref p, b0] A) d 264 89 L [w0] := x_c0 (op := o_ci 39 1) rfl rfl x_noh rfl
theorem x_264_89  : exG TB d 264 89 (a0 :: a1 :: a2 :: a3 :: r9) (v :: st) A = rg v (exG TB d 264 90 (a0 :: a1 :: a2 :: some v :: r9) st A) := x_rgt (op := o_astore 3 1) rfl rfl
theorem x_264_90  : exG TB d 264 90 L st A = exG TB d 264 91 L (.null :: st) A := x_nx (op := o_push 1 .null) rfl rfl
theorem x_264_91  : exG TB d 264 91 (a0 :: a1 :: a2 :: a3 :: a4 :: r9) (v :: st) A = rg v (exG TB d 264 93 (a0 :: a1 :: a2 :: a3 :: some v :: r9) st A) := x_rgt (op := o_astore 4 2) rfl rfl
theorem x_264_93  : exG TB d 264 93 (a0 :: a1 :: some v :: r9) st A = rg v (exG TB d 264 94 (a0 :: a1 :: some v :: r9) (v :: st) A) := x_rg (op := o_aload 2 1) rfl rfl
theorem x_264_94  : exG TB d 264 94 L [.ref p] A = kw (sel (gc A p) [(20, 68)]) [.ref p] d 264 97 L [] A := x_cvb (op := o_cv [(20, 68)] 0 3 false none) rfl rfl x_noh rfl
theorem x_264_97  : exG TB d 264 97 L [.ref p] A = kw (sel (gc A p) [(23, 85)]) [.ref p] d 264 102 L [] A := x_cvb (op := o_cv [(23, 85)] 0 5 false none) rfl rfl x_noh rfl
theorem x_264_102  : exG TB d 264 102 (a0 :: a1 :: a2 :: a3 :: a4 :: a5 :: r9) (v :: st) A = rg v (exG TB d 264 104 (a0 :: a1 :: a2 :: a3 :: a4 :: some v :: r9) st A) := x_rgt (op := o_astore 5 2) rfl rfl
theorem x_264_104  : exG TB d 264 104 (a0 :: a1 :: a2 :: a3 :: a4 :: some v :: r9) st A = rg v (exG TB d 264 106 (a0 :: a1 :: a2 :: a3 :: a4 :: some v :: r9) (v :: st) A) := x_rg (op := o_aload 5 2) rfl rfl
theorem x_264_106  : exG TB d 264 106 L [.ref p] A = kw (sel (gc A p) [(7, 50), (24, 86), (25, 92)]) [.ref p] d 264 111 L [] A := x_cvb (op := o_cv [(7, 50), (24, 86), (25, 92)] 0 5 false none) rfl rfl x_noh rfl
theorem x_264_111  : exG TB d 264 111 L (.int i1 :: st) A = if i1 = nI 0 then exG TB d 264 184 L st A else exG TB d 264 114 L st A := x_if (op := o_if (fun x => decide (x = 0)) 184) rfl rfl rfl
theorem x_264_114  : exG TB d 264 114 (a0 :: a1 :: a2 :: a3 :: a4 :: some v :: r9) st A = rg v (exG TB d 264 116 (a0 :: a1 :: a2 :: a3 :: a4 :: some v :: r9) (v :: st) A) := x_rg (op := o_aload 5 2) rfl rfl
theorem x_264_116  : exG TB d 264 116 L [.ref p] A = kw (sel (gc A p) [(7, 51), (24, 89), (25, 95)]) [.ref p] d 264 121 L [] A := x_cvb (op := o_cv [(7, 51), (24, 89), (25, 95)] 0 5 false none) rfl rfl x_noh rfl
theorem x_264_121n  : exG TB d 264 121 L (.null :: st) A = exG TB d 264 124 L (.null :: st) A := x_nx (op := o_cast [17]) rfl rfl
theorem x_264_121r  : exG TB d 264 121 L (.ref p :: st) A = ck (cin (gcs A p) [17]) (exG TB d 264 124 L (.ref p :: st) A) := x_gd (op := o_cast [17]) rfl rfl
theorem x_264_124  : exG TB d 264 124 (a0 :: a1 :: a2 :: a3 :: a4 :: a5 :: a6 :: r9) (v :: st) A = rg v (exG TB d 264 126 (a0 :: a1 :: a2 :: a3 :: a4 :: a5 :: some v :: r9) st A) := x_rgt (op := o_astore 6 2) rfl rfl
theorem x_264_126  : exG TB d 264 126 (a0 :: a1 :: a2 :: a3 :: some v :: r9) st A = rg v (exG TB d 264 128 (a0 :: a1 :: a2 :: a3 :: some v :: r9) (v :: st) A) := x_rg (op := o_aload 4 2) rfl rfl
theorem x_264_128n  : exG TB d 264 128 L (.null :: st) A = exG TB d 264 149 L st A := x_nx (op := o_ifnull 149) rfl rfl
theorem x_264_128r  : exG TB d 264 128 L (.ref p :: st) A = exG TB d 264 131 L st A := x_nx (op := o_ifnull 149) rfl rfl
theorem x_264_131  : exG TB d 264 131 (a0 :: a1 :: a2 :: a3 :: some v :: r9) st A = rg v (exG TB d 264 133 (a0 :: a1 :: a2 :: a3 :: some v :: r9) (v :: st) A) := x_rg (op := o_aload 4 2) rfl rfl
theorem x_264_133  : exG TB d 264 133 (a0 :: a1 :: a2 :: a3 :: a4 :: a5 :: some v :: r9) st A = rg v (exG TB d 264 135 (a0 :: a1 :: a2 :: a3 :: a4 :: a5 :: some v :: r9) (v :: st) A) := x_rg (op := o_aload 6 2) rfl rfl
theorem x_264_135  : exG TB d 264 135 (some v :: r9) st A = rg v (exG TB d 264 136 (some v :: r9) (v :: st) A) := x_rg (op := o_aload 0 1) rfl rfl
theorem x_264_136  : exG TB d 264 136 L (.ref p :: st) A = kv (gf A p 6) d 264 139 L st A := x_bd (op := o_get 6) rfl rfl (fun _ => rfl)
theorem x_264_139  : exG TB d 264 139 (some v :: r9) st A = rg v (exG TB d 264 140 (some v :: r9) (v :: st) A) := x_rg (op := o_aload 0 1) rfl rfl
theorem x_264_140  : exG TB d 264 140 L (.ref p :: st) A = kv (gf A p 7) d 264 143 L st A := x_bd (op := o_get 7) rfl rfl (fun _ => rfl)
theorem x_264_143  : exG TB d 264 143 L [b2, b1, b0, .ref p] A = kw (sel (gc A p) [(26, 242)]) [.ref p, b0, b1, b2] d 264 146 L [] A := x_cvb (op := o_cv [(26, 242)] 3 3 false none) rfl rfl x_noh rfl
theorem x_264_146  : exG TB d 264 146 L (.int i1 :: st) A = if ¬ i1 = nI 0 then exG TB d 264 181 L st A else exG TB d 264 149 L st A := x_if (op := o_if (fun x => decide (¬ x = 0)) 181) rfl rfl rfl
theorem x_264_149  : exG TB d 264 149 L st A = exG TB d 264 152 L (.ref (nx A) :: st) (newo A 26 7 dv26) := x_nx (op := o_new 26 7 dv26) rfl rfl
theorem x_264_152  : exG TB d 264 152 L (v :: st) A = ck (c1 v) (exG TB d 264 153 L (v :: v :: st) A) := x_gd (op := o_dup) rfl rfl
theorem x_264_153  : exG TB d 264 153 (a0 :: a1 :: a2 :: a3 :: a4 :: a5 :: some v :: r9) st A = rg v (exG TB d 264 155 (a0 :: a1 :: a2 :: a3 :: a4 :: a5 :: some v :: r9) (v :: st) A) := x_rg (op := o_aload 6 2) rfl rfl
theorem x_264_155  : exG TB d 264 155 (some v :: r9) st A = rg v (exG TB d 264 156 (some v :: r9) (v :: st) A) := x_rg (op := o_aload 0 1) rfl rfl
theorem x_264_156  : exG TB d 264 156 L (.ref p :: st) A = kv (gf A p 10) d 264 159 L st A := x_bd (op := o_get 10) rfl rfl (fun _ => rfl)
theorem x_264_159  : exG TB d 264 159 (a0 :: some (.int i1) :: r9) st A = exG TB d 264 160 (a0 :: some (.int i1) :: r9) (.int i1 :: st) A := x_nx (op := o_iload 1 1) rfl rfl
theorem x_264_160  : exG TB d 264 160 L [b0, .ref p, w0, w1, w2] A = kw (sel (gc A p) [(3, 47)]) [.ref p, b0] d 264 163 L [w0, w1, w2] A := x_cvb (op := o_cv [(3, 47)] 1 3 false none) rfl rfl x_noh rfl
theorem x_264_163n  : exG TB d 264 163 L (.null :: st) A = exG TB d 264 166 L (.null :: st) A := x_nx (op := o_cast [13]) rfl rfl
theorem x_264_163r  : exG TB d 264 163 L (.ref p :: st) A = ck (cin (gcs A p) [13]) (exG TB d 264 166 L (.ref p :: st) A) := x_gd (op := o_cast [13]) rfl rfl
theorem x_264_166  : exG TB d 264 166 L (.ref p :: st) A = kv (gf A p 69) d 264 169 L st A := x_bd (op := o_get 69) rfl rfl (fun _ => rfl)
theorem x_264_169  : exG TB d 264 169 L [b1, b0, .ref p, w0] A = kc0 (evG TB d 243 [.ref p, b0, b1] A) d 264 172 L [w0] := x_c0 (op := o_ci 243 2) rfl rfl x_noh rfl
theorem x_264_172  : exG TB d 264 172 (a0 :: a1 :: a2 :: a3 :: a4 :: r9) (v :: st) A = rg v (exG TB d 264 174 (a0 :: a1 :: a2 :: a3 :: some v :: r9) st A) := x_rgt (op := o_astore 4 2) rfl rfl
theorem x_264_174  : exG TB d 264 174 (a0 :: a1 :: a2 :: some v :: r9) st A = rg v (exG TB d 264 175 (a0 :: a1 :: a2 :: some v :: r9) (v :: st) A) := x_rg (op := o_aload 3 1) rfl rfl
theorem x_264_175  : exG TB d 264 175 (a0 :: a1 :: a2 :: a3 :: some v :: r9) st A = rg v (exG TB d 264 177 (a0 :: a1 :: a2 :: a3 :: some v :: r9) (v :: st) A) := x_rg (op := o_aload 4 2) rfl rfl
theorem x_264_177  : exG TB d 264 177 L [b0, .ref p] A = kw (sel (gc A p) [(3, 43)]) [.ref p, b0] d 264 180 L [] A := x_cvb (op := o_cv [(3, 43)] 1 3 false none) rfl rfl x_noh rfl
theorem x_264_180  : exG TB d 264 180 L (v :: st) A = ck (c1 v) (exG TB d 264 181 L st A) := x_gd (op := o_pop) rfl rfl
theorem x_264_181  : exG TB d 264 181 L st A = exG TB d 264 104 L st A := x_nx (op := o_goto 104) rfl rfl
theorem x_264_184  : exG TB d 264 184 (a0 :: a1 :: a2 :: some v :: r9) st A = rg v (exG TB d 264 185 (a0 :: a1 :: a2 :: some v :: r9) (v :: st) A) := x_rg (op := o_aload 3 1) rfl rfl
theorem x_264_185  : exG TB d 264 185 L [v] A = ck (okv 0 v) (some (.inl (some v), A)) := x_outg (op := o_ret 0) rfl rfl
theorem e_265 {j1 : Int32} {j2 : Int32} : evG TB (d + 1) 265 [.ref p, .int j1, .int j2] A = exG TB d 265 0 [some (.ref p), some (.int j1), some (.int j2), none, none] [] A := evG_eq TB d 265 _ A
theorem x_265_0  : exG TB d 265 0 (some v :: r9) st A = rg v (exG TB d 265 1 (some v :: r9) (v :: st) A) := x_rg (op := o_aload 0 1) rfl rfl
theorem x_265_1  : exG TB d 265 1 (a0 :: some (.int i1) :: r9) st A = exG TB d 265 2 (a0 :: some (.int i1) :: r9) (.int i1 :: st) A := x_nx (op := o_iload 1 1) rfl rfl
theorem x_265_2  : exG TB d 265 2 L [b0, .ref p] A = kw (sel (gc A p) [(1, 264)]) [.ref p, b0] d 265 5 L [] A := x_cvb (op := o_cv [(1, 264)] 1 3 false none) rfl rfl x_noh rfl
theorem x_265_5  : exG TB d 265 5 (a0 :: a1 :: a2 :: a3 :: r9) (v :: st) A = rg v (exG TB d 265 6 (a0 :: a1 :: a2 :: some v :: r9) st A) := x_rgt (op := o_astore 3 1) rfl rfl
theorem x_265_6  : exG TB d 265 6 L st A = exG TB d 265 7 L (.int (nI 0) :: st) A := x_nx (op := o_push 1 (.int 0)) rfl rfl
theorem x_265_7  : exG TB d 265 7 (a0 :: a1 :: a2 :: a3 :: a4 :: r9) (.int i1 :: st) A = exG TB d 265 9 (a0 :: a1 :: a2 :: a3 :: some (.int i1) :: r9) st A := x_nx (op := o_istore 4 2) rfl rfl
theorem x_265_9  : exG TB d 265 9 (a0 :: a1 :: a2 :: a3 :: some (.int i1) :: r9) st A = exG TB d 265 11 (a0 :: a1 :: a2 :: a3 :: some (.int i1) :: r9) (.int i1 :: st) A := x_nx (op := o_iload 4 2) rfl rfl
theorem x_265_11  : exG TB d 265 11 (a0 :: a1 :: a2 :: some v :: r9) st A = rg v (exG TB d 265 12 (a0 :: a1 :: a2 :: some v :: r9) (v :: st) A) := x_rg (op := o_aload 3 1) rfl rfl
theorem x_265_12  : exG TB d 265 12 L [.ref p, w0] A = kw (sel (gc A p) [(3, 42)]) [.ref p] d 265 15 L [w0] A := x_cvb (op := o_cv [(3, 42)] 0 3 false none) rfl rfl x_noh rfl
theorem x_265_15  : exG TB d 265 15 L (.int i2 :: .int i1 :: st) A = if i2 ≤ i1 then exG TB d 265 72 L st A else exG TB d 265 18 L st A := x_if (op := o_icmp (fun x y => decide (y ≤ x)) 72) rfl rfl rfl
theorem x_265_18  : exG TB d 265 18 (some v :: r9) st A = rg v (exG TB d 265 19 (some v :: r9) (v :: st) A) := x_rg (op := o_aload 0 1) rfl rfl
theorem x_265_19  : exG TB d 265 19 L (.ref p :: st) A = kv (gf A p 12) d 265 22 L st A := x_bd (op := o_get 12) rfl rfl (fun _ => rfl)
theorem x_265_22  : exG TB d 265 22 L [.ref p] A = kw (sel (gc A p) [(3, 42)]) [.ref p] d 265 25 L [] A := x_cvb (op := o_cv [(3, 42)] 0 3 false none) rfl rfl x_noh rfl
theorem x_265_25  : exG TB d 265 25 L st A = exG TB d 265 27 L (.int (nI 60) :: st) A := x_nx (op := o_push 2 (.int 60)) rfl rfl
theorem x_265_27  : exG TB d 265 27 L (.int i2 :: .int i1 :: st) A = if i2 ≤ i1 then exG TB d 265 72 L st A else exG TB d 265 30 L st A := x_if (op := o_icmp (fun x y => decide (y ≤ x)) 72) rfl rfl rfl
theorem x_265_30  : exG TB d 265 30 (some v :: r9) st A = rg v (exG TB d 265 31 (some v :: r9) (v :: st) A) := x_rg (op := o_aload 0 1) rfl rfl
theorem x_265_31  : exG TB d 265 31 (a0 :: a1 :: a2 :: some v :: r9) st A = rg v (exG TB d 265 32 (a0 :: a1 :: a2 :: some v :: r9) (v :: st) A) := x_rg (op := o_aload 3 1) rfl rfl
theorem x_265_32  : exG TB d 265 32 (a0 :: a1 :: a2 :: a3 :: some (.int i1) :: r9) st A = exG TB d 265 34 (a0 :: a1 :: a2 :: a3 :: some (.int i1) :: r9) (.int i1 :: st) A := x_nx (op := o_iload 4 2) rfl rfl
theorem x_265_34  : exG TB d 265 34 L [b0, .ref p, w0] A = kw (sel (gc A p) [(3, 47)]) [.ref p, b0] d 265 37 L [w0] A := x_cvb (op := o_cv [(3, 47)] 1 3 false none) rfl rfl x_noh rfl
theorem x_265_37n  : exG TB d 265 37 L (.null :: st) A = exG TB d 265 40 L (.null :: st) A := x_nx (op := o_cast [26]) rfl rfl
theorem x_265_37r  : exG TB d 265 37 L (.ref p :: st) A = ck (cin (gcs A p) [26]) (exG TB d 265 40 L (.ref p :: st) A) := x_gd (op := o_cast [26]) rfl rfl
theorem x_265_40  : exG TB d 265 40 (a0 :: a1 :: some (.int i1) :: r9) st A = exG TB d 265 41 (a0 :: a1 :: some (.int i1) :: r9) (.int i1 :: st) A := x_nx (op := o_iload 2 1) rfl rfl
theorem x_265_41  : exG TB d 265 41 L [b1, b0, .ref p] A = kw (sel (gc A p) [(1, 266)]) [.ref p, b0, b1] d 265 44 L [] A := x_cvb (op := o_cv [(1, 266)] 2 3 false none) rfl rfl x_noh rfl
theorem x_265_44  : exG TB d 265 44 L (.int i1 :: st) A = if i1 = nI 0 then exG TB d 265 72 L st A else exG TB d 265 47 L st A := x_if (op := o_if (fun x => decide (x = 0)) 72) rfl rfl rfl
theorem x_265_47  : exG TB d 265 47 (some v :: r9) st A = rg v (exG TB d 265 48 (some v :: r9) (v :: st) A) := x_rg (op := o_aload 0 1) rfl rfl
theorem x_265_48  : exG TB d 265 48 (some v :: r9) st A = rg v (exG TB d 265 49 (some v :: r9) (v :: st) A) := x_rg (op := o_aload 0 1) rfl rfl
theorem x_265_49  : exG TB d 265 49 (a0 :: some (.int i1) :: r9) st A = exG TB d 265 50 (a0 :: some (.int i1) :: r9) (.int i1 :: st) A := x_nx (op := o_iload 1 1) rfl rfl
theorem x_265_50  : exG TB d 265 50 (a0 :: a1 :: a2 :: some v :: r9) st A = rg v (exG TB d 265 51 (a0 :: a1 :: a2 :: some v :: r9) (v :: st) A) := x_rg (op := o_aload 3 1) rfl rfl
theorem x_265_51  : exG TB d 265 51 (a0 :: a1 :: a2 :: a3 :: some (.int i1) :: r9) st A = exG TB d 265 53 (a0 :: a1 :: a2 :: a3 :: some (.int i1) :: r9) (.int i1 :: st) A := x_nx (op := o_iload 4 2) rfl rfl
theorem x_265_53  : exG TB d 265 53 L [b0, .ref p, w0, w1, w2] A = kw (sel (gc A p) [(3, 47)]) [.ref p, b0] d 265 56 L [w0, w1, w2] A := x_cvb (op := o_cv [(3, 47)] 1 3 false none) rfl rfl x_noh rfl
theorem x_265_56n  : exG TB d 265 56 L (.null :: st) A = exG TB d 265 59 L (.null :: st) A := x_nx (op := o_cast [26]) rfl rfl
theorem x_265_56r  : exG TB d 265 56 L (.ref p :: st) A = ck (cin (gcs A p) [26]) (exG TB d 265 59 L (.ref p :: st) A) := x_gd (op := o_cast [26]) rfl rfl
theorem x_265_59  : exG TB d 265 59 L st A = exG TB d 265 60 L (.int (nI 0) :: st) A := x_nx (op := o_push 1 (.int 0)) rfl rfl
theorem x_265_60  : exG TB d 265 60 L [b2, b1, b0, .ref p, w0] A = kw (sel (gc A p) [(1, 267)]) [.ref p, b0, b1, b2] d 265 63 L [w0] A := x_cvb (op := o_cv [(1, 267)] 3 3 false none) rfl rfl x_noh rfl
theorem x_265_63  : exG TB d 265 63 L [b0, .ref p] A = kw0 (sel (gc A p) [(1, 270)]) [.ref p, b0] d 265 66 L [] A := x_c0b (op := o_cv [(1, 270)] 1 3 true none) rfl rfl x_noh rfl
theorem x_265_66  : exG TB d 265 66 (a0 :: a1 :: a2 :: a3 :: some (.int i1) :: r9) st A = exG TB d 265 69 (a0 :: a1 :: a2 :: a3 :: some (.int (i1 + (nI 1))) :: r9) st A := x_nx (op := o_iinc 4 1) rfl rfl
theorem x_265_69  : exG TB d 265 69 L st A = exG TB d 265 9 L st A := x_nx (op := o_goto 9) rfl rfl
theorem x_265_72  : exG TB d 265 72 (a0 :: a1 :: a2 :: a3 :: some (.int i1) :: r9) st A = exG TB d 265 74 (a0 :: a1 :: a2 :: a3 :: some (.int i1) :: r9) (.int i1 :: st) A := x_nx (op := o_iload 4 2) rfl rfl
theorem x_265_74  : exG TB d 265 74 L [v] A = ck (okv 1 v) (some (.inl (some v), A)) := x_outg (op := o_ret 1) rfl rfl
theorem e_266 {j2 : Int32} : evG TB (d + 1) 266 [.ref p, b1, .int j2] A = rg b1 (exG TB d 266 0 [some (.ref p), some (b1), some (.int j2)] [] A) := by
  rw [evG_eq]
  show (bif (true && (isR b1 && (true && true))) then exG TB d 266 0 [some (.ref p), some (b1), some (.int j2)] [] A else none) = _
  unfold rg
  cases isR b1 <;> rfl
theorem x_266_0  : exG TB d 266 0 (a0 :: some v :: r9) st A = rg v (exG TB d 266 1 (a0 :: some v :: r9) (v :: st) A) := x_rg (op := o_aload 1 1) rfl rfl
theorem x_266_1  : exG TB d 266 1 L [.ref p] A = kw (sel (gc A p) [(26, 245)]) [.ref p] d 266 4 L [] A := x_cvb (op := o_cv [(26, 245)] 0 3 false none) rfl rfl x_noh rfl
theorem x_266_4  : exG TB d 266 4 (some v :: r9) st A = rg v (exG TB d 266 5 (some v :: r9) (v :: st) A) := x_rg (op := o_aload 0 1) rfl rfl
theorem x_266_5  : exG TB d 266 5 L (.ref p :: st) A = kv (gf A p 7) d 266 8 L st A := x_bd (op := o_get 7) rfl rfl (fun _ => rfl)
theorem x_266_8  : exG TB d 266 8 L st A = exG TB d 266 9 L (.int (nI 0) :: st) A := x_nx (op := o_push 1 (.int 0)) rfl rfl
theorem x_266_9  : exG TB d 266 9 L (.int i1 :: .ref p :: st) A = ki (rdI 0 (ga A p) i1) d 266 10 L st A := x_bd (op := o_rdI 0) rfl rfl (fun _ => rfl)
theorem x_266_10  : exG TB d 266 10 L (.int i2 :: .int i1 :: st) A = exG TB d 266 11 L (.int (i1 + i2) :: st) A := x_nx (op := o_iop (fun x y => x + y)) rfl rfl
theorem x_266_11  : exG TB d 266 11 (a0 :: a1 :: some (.int i1) :: r9) st A = exG TB d 266 12 (a0 :: a1 :: some (.int i1) :: r9) (.int i1 :: st) A := x_nx (op := o_iload 2 1) rfl rfl
theorem x_266_12  : exG TB d 266 12 L (.int i2 :: .int i1 :: st) A = if i2 ≤ i1 then exG TB d 266 19 L st A else exG TB d 266 15 L st A := x_if (op := o_icmp (fun x y => decide (y ≤ x)) 19) rfl rfl rfl
theorem x_266_15  : exG TB d 266 15 L st A = exG TB d 266 16 L (.int (nI 1) :: st) A := x_nx (op := o_push 1 (.int 1)) rfl rfl
theorem x_266_16  : exG TB d 266 16 L st A = exG TB d 266 20 L st A := x_nx (op := o_goto 20) rfl rfl
theorem x_266_19  : exG TB d 266 19 L st A = exG TB d 266 20 L (.int (nI 0) :: st) A := x_nx (op := o_push 1 (.int 0)) rfl rfl
theorem x_266_20  : exG TB d 266 20 L [v] A = ck (okv 5 v) (some (.inl (some v), A)) := x_outg (op := o_ret 5) rfl rfl
theorem e_267 {j1 : Int32} {j3 : Int32} : evG TB (d + 1) 267 [.ref p, .int j1, b2, .int j3] A = rg b2 (exG TB d 267 0 [some (.ref p), some (.int j1), some (b2), some (.int j3), none, none, none] [] A) := by
  rw [evG_eq]
  show (bif (true && (true && (isR b2 && (true && true)))) then exG TB d 267 0 [some (.ref p), some (.int j1), some (b2), some (.int j3), none, none, none] [] A else none) = _
  unfold rg
  cases isR b2 <;> rfl
theorem x_267_0  : exG TB d 267 0 (some v :: r9) st A = rg v (exG TB d 267 1 (some v :: r9) (v :: st) A) := x_rg (op := o_aload 0 1) rfl rfl
theorem x_267_1  : exG TB d 267 1 L (.ref p :: st) A = kv (gf A p 10) d 267 4 L st A := x_bd (op := o_get 10) rfl rfl (fun _ => rfl)
theorem x_267_4  : exG TB d 267 4 (a0 :: some (.int i1) :: r9) st A = exG TB d 267 5 (a0 :: some (.int i1) :: r9) (.int i1 :: st) A := x_nx (op := o_iload 1 1) rfl rfl
theorem x_267_5  : exG TB d 267 5 L [b0, .ref p] A = kw (sel (gc A p) [(3, 47)]) [.ref p, b0] d 267 8 L [] A := x_cvb (op := o_cv [(3, 47)] 1 3 false none) rfl rfl x_noh rfl
theorem x_267_8n  : exG TB d 267 8 L (.null :: st) A = exG TB d 267 11 L (.null :: st) A := x_nx (op := o_cast [13]) rfl rfl
theorem x_267_8r  : exG TB d 267 8 L (.ref p :: st) A = ck (cin (gcs A p) [13]) (exG TB d 267 11 L (.ref p :: st) A) := x_gd (op := o_cast [13]) rfl rfl
theorem x_267_11  : exG TB d 267 11 L (.ref p :: st) A = kv (gf A p 70) d 267 14 L st A := x_bd (op := o_get 70) rfl rfl (fun _ => rfl)
theorem x_267_14  : exG TB d 267 14 (a0 :: a1 :: a2 :: a3 :: a4 :: r9) (.int i1 :: st) A = exG TB d 267 16 (a0 :: a1 :: a2 :: a3 :: some (.int i1) :: r9) st A := x_nx (op := o_istore 4 2) rfl rfl
theorem x_267_16  : exG TB d 267 16 (some v :: r9) st A = rg v (exG TB d 267 17 (some v :: r9) (v :: st) A) := x_rg (op := o_aload 0 1) rfl rfl
theorem x_267_17  : exG TB d 267 17 L (.ref p :: st) A = kv (gf A p 7) d 267 20 L st A := x_bd (op := o_get 7) rfl rfl (fun _ => rfl)
theorem x_267_20  : exG TB d 267 20 L st A = exG TB d 267 22 L (.int (nI 6) :: st) A := x_nx (op := o_push 2 (.int 6)) rfl rfl
theorem x_267_22  : exG TB d 267 22 L (.int i1 :: .ref p :: st) A = ki (rdI 0 (ga A p) i1) d 267 23 L st A := x_bd (op := o_rdI 0) rfl rfl (fun _ => rfl)
theorem x_267_23  : exG TB d 267 23 (a0 :: a1 :: some v :: r9) st A = rg v (exG TB d 267 24 (a0 :: a1 :: some v :: r9) (v :: st) A) := x_rg (op := o_aload 2 1) rfl rfl
theorem x_267_24  : exG TB d 267 24 L [.ref p, w0] A = kw (sel (gc A p) [(26, 247)]) [.ref p] d 267 27 L [w0] A := x_cvb (op := o_cv [(26, 247)] 0 3 false none) rfl rfl x_noh rfl
theorem x_267_27  : exG TB d 267 27 L (.int i2 :: .int i1 :: st) A = exG TB d 267 28 L (.int (i1 * i2) :: st) A := x_nx (op := o_iop (fun x y => x * y)) rfl rfl
theorem x_267_28  : exG TB d 267 28 (a0 :: a1 :: a2 :: a3 :: a4 :: a5 :: r9) (.int i1 :: st) A = exG TB d 267 30 (a0 :: a1 :: a2 :: a3 :: a4 :: some (.int i1) :: r9) st A := x_nx (op := o_istore 5 2) rfl rfl
theorem x_267_30  : exG TB d 267 30 (some v :: r9) st A = rg v (exG TB d 267 31 (some v :: r9) (v :: st) A) := x_rg (op := o_aload 0 1) rfl rfl
theorem x_267_31  : exG TB d 267 31 (some v :: r9) st A = rg v (exG TB d 267 32 (some v :: r9) (v :: st) A) := x_rg (op := o_aload 0 1) rfl rfl
theorem x_267_32  : exG TB d 267 32 (a0 :: a1 :: a2 :: a3 :: some (.int i1) :: r9) st A = exG TB d 267 34 (a0 :: a1 :: a2 :: a3 :: some (.int i1) :: r9) (.int i1 :: st) A := x_nx (op := o_iload 4 2) rfl rfl
theorem x_267_34  : exG TB d 267 34 L [b0, .ref p, w0] A = kw (sel (gc A p) [(1, 268)]) [.ref p, b0] d 267 37 L [w0] A := x_cvb (op := o_cv [(1, 268)] 1 3 false none) rfl rfl x_noh rfl
theorem x_267_37  : exG TB d 267 37 (a0 :: a1 :: a2 :: some (.int i1) :: r9) st A = exG TB d 267 38 (a0 :: a1 :: a2 :: some (.int i1) :: r9) (.int i1 :: st) A := x_nx (op := o_iload 3 1) rfl rfl
theorem x_267_38  : exG TB d 267 38 L [b1, b0, .ref p] A = kw (sel (gc A p) [(1, 269)]) [.ref p, b0, b1] d 267 41 L [] A := x_cvb (op := o_cv [(1, 269)] 2 3 false none) rfl rfl x_noh rfl
theorem x_267_41  : exG TB d 267 41 (a0 :: a1 :: a2 :: a3 :: a4 :: a5 :: a6 :: r9) (.int i1 :: st) A = exG TB d 267 43 (a0 :: a1 :: a2 :: a3 :: a4 :: a5 :: some (.int i1) :: r9) st A := x_nx (op := o_istore 6 2) rfl rfl
theorem x_267_43  : exG TB d 267 43 L st A = exG TB d 267 46 L (.ref (nx A) :: st) (newo A 27 10 dv27) := x_nx (op := o_new 27 10 dv27) rfl rfl
theorem x_267_46  : exG TB d 267 46 L (v :: st) A = ck (c1 v) (exG TB d 267 47 L (v :: v :: st) A) := x_gd (op := o_dup) rfl rfl
theorem x_267_47  : exG TB d 267 47 (a0 :: some (.int i1) :: r9) st A = exG TB d 267 48 (a0 :: some (.int i1) :: r9) (.int i1 :: st) A := x_nx (op := o_iload 1 1) rfl rfl
theorem x_267_48  : exG TB d 267 48 (a0 :: a1 :: a2 :: a3 :: some (.int i1) :: r9) st A = exG TB d 267 50 (a0 :: a1 :: a2 :: a3 :: some (.int i1) :: r9) (.int i1 :: st) A := x_nx (op := o_iload 4 2) rfl rfl
theorem x_267_50  : exG TB d 267 50 (a0 :: a1 :: some v :: r9) st A = rg v (exG TB d 267 51 (a0 :: a1 :: some v :: r9) (v :: st) A) := x_rg (op := o_aload 2 1) rfl rfl
theorem x_267_51  : exG TB d 267 51 (a0 :: a1 :: a2 :: a3 :: a4 :: a5 :: some (.int i1) :: r9) st A = exG TB d 267 53 (a0 :: a1 :: a2 :: a3 :: a4 :: a5 :: some (.int i1) :: r9) (.int i1 :: st) A := x_nx (op := o_iload 6 2) rfl rfl
theorem x_267_53  : exG TB d 267 53 (a0 :: a1 :: a2 :: a3 :: a4 :: some (.int i1) :: r9) st A = exG TB d 267 55 (a0 :: a1 :: a2 :: a3 :: a4 :: some (.int i1) :: r9) (.int i1 :: st) A := x_nx (op := o_iload 5 2) rfl rfl
theorem x_267_55  : exG TB d 267 55 (a0 :: a1 :: a2 :: a3 :: some (.int i1) :: r9) st A = exG TB d 267 57 (a0 :: a1 :: a2 :: a3 :: some (.int i1) :: r9) (.int i1 :: st) A := x_nx (op := o_iload 4 2) rfl rfl
theorem x_267_57  : exG TB d 267 57 L st A = exG TB d 267 58 L (.int nN :: st) A := x_nx (op := o_push 1 (.int (-1))) rfl rfl
theorem x_267_58  : exG TB d 267 58 L (.int i2 :: .int i1 :: st) A = if ¬ i1 = i2 then exG TB d 267 71 L st A else exG TB d 267 61 L st A := x_if (op := o_icmp (fun x y => decide (¬ x = y)) 71) rfl rfl rfl
theorem x_267_61  : exG TB d 267 61 (some v :: r9) st A = rg v (exG TB d 267 62 (some v :: r9) (v :: st) A) := x_rg (op := o_aload 0 1) rfl rfl
theorem x_267_62  : exG TB d 267 62 L (.ref p :: st) A = kv (gf A p 7) d 267 65 L st A := x_bd (op := o_get 7) rfl rfl (fun _ => rfl)
theorem x_267_65  : exG TB d 267 65 L st A = exG TB d 267 67 L (.int (nI 7) :: st) A := x_nx (op := o_push 2 (.int 7)) rfl rfl
theorem x_267_67  : exG TB d 267 67 L (.int i1 :: .ref p :: st) A = ki (rdI 0 (ga A p) i1) d 267 68 L st A := x_bd (op := o_rdI 0) rfl rfl (fun _ => rfl)
theorem x_267_68  : exG TB d 267 68 L st A = exG TB d 267 72 L st A := x_nx (op := o_goto 72) rfl rfl
theorem x_267_71  : exG TB d 267 71 L st A = exG TB d 267 72 L (.int (nI 0) :: st) A := x_nx (op := o_push 1 (.int 0)) rfl rfl
theorem x_267_72  : exG TB d 267 72 L [b5, b4, b3, b2, b1, b0, .ref p, w0] A = kc0 (evG TB d 249 [.ref p, b0, b1, b2, b3, b4, b5] A) d 267 75 L [w0] := x_c0 (op := o_ci 249 6) rfl rfl x_noh rfl
theorem x_267_75  : exG TB d 267 75 L [v] A = ck (okv 0 v) (some (.inl (some v), A)) := x_outg (op := o_ret 0) rfl rfl
theorem e_268 {j1 : Int32} : evG TB (d + 1) 268 [.ref p, .int j1] A = exG TB d 268 0 [some (.ref p), some (.int j1)] [] A := evG_eq TB d 268 _ A
theorem x_268_0  : exG TB d 268 0 (a0 :: some (.int i1) :: r9) st A = exG TB d 268 1 (a0 :: some (.int i1) :: r9) (.int i1 :: st) A := x_nx (op := o_iload 1 1) rfl rfl
theorem x_268_1  : exG TB d 268 1 L st A = exG TB d 268 2 L (.int nN :: st) A := x_nx (op := o_push 1 (.int (-1))) rfl rfl
theorem x_268_2  : exG TB d 268 2 L (.int i2 :: .int i1 :: st) A = if ¬ i1 = i2 then exG TB d 268 9 L st A else exG TB d 268 5 L st A := x_if (op := o_icmp (fun x y => decide (¬ x = y)) 9) rfl rfl rfl
theorem x_268_5  : exG TB d 268 5 L st A = exG TB d 268 6 L (.null :: st) A := x_nx (op := o_push 1 .null) rfl rfl
theorem x_268_6  : exG TB d 268 6 L st A = exG TB d 268 15 L st A := x_nx (op := o_goto 15) rfl rfl
theorem x_268_9  : exG TB d 268 9 (some v :: r9) st A = rg v (exG TB d 268 10 (some v :: r9) (v :: st) A) := x_rg (op := o_aload 0 1) rfl rfl
theorem x_268_10  : exG TB d 268 10 L (.ref p :: st) A = kv (gf A p 8) d 268 13 L st A := x_bd (op := o_get 8) rfl rfl (fun _ => rfl)
theorem x_268_13  : exG TB d 268 13 (a0 :: some (.int i1) :: r9) st A = exG TB d 268 14 (a0 :: some (.int i1) :: r9) (.int i1 :: st) A := x_nx (op := o_iload 1 1) rfl rfl
theorem x_268_14  : exG TB d 268 14 L (.int i1 :: .ref p :: st) A = kq (rdQ (ga A p) i1) d 268 15 L st A := x_bd (op := o_rdQ) rfl rfl (fun _ => rfl)
theorem x_268_15  : exG TB d 268 15 L [v] A = ck (okv 0 v) (some (.inl (some v), A)) := x_outg (op := o_ret 0) rfl rfl
theorem e_269 {j2 : Int32} : evG TB (d + 1) 269 [.ref p, b1, .int j2] A = rg b1 (exG TB d 269 0 [some (.ref p), some (b1), some (.int j2), none] [] A) := by
  rw [evG_eq]
  show (bif (true && (isR b1 && (true && true))) then exG TB d 269 0 [some (.ref p), some (b1), some (.int j2), none] [] A else none) = _
  unfold rg
  cases isR b1 <;> rfl
theorem x_269_0  : exG TB d 269 0 (a0 :: some v :: r9) st A = rg v (exG TB d 269 1 (a0 :: some v :: r9) (v :: st) A) := x_rg (op := o_aload 1 1) rfl rfl
theorem x_269_1  : exG TB d 269 1 (a0 :: a1 :: some (.int i1) :: r9) st A = exG TB d 269 2 (a0 :: a1 :: some (.int i1) :: r9) (.int i1 :: st) A := x_nx (op := o_iload 2 1) rfl rfl
theorem x_269_2n  : exG TB d 269 2 L [b0, .null] A = exG TB d 269 6 L [.ref (nx A)] (newo A 34 8 (fun _ => none)) := x_nx (op := o_cvN [(12, 420)] 1 false 34 8 6) rfl rfl
theorem x_269_2  : exG TB d 269 2 L [b0, .ref p] A = kwh [] (sel (gc A p) [(12, 420)]) [.ref p, b0] d 269 5 L [] A := x_cvb (op := o_cvN [(12, 420)] 1 false 34 8 6) rfl rfl x_hd rfl
theorem x_269_5  : exG TB d 269 5 L [v] A = ck (okv 1 v) (some (.inl (some v), A)) := x_outg (op := o_ret 1) rfl rfl
theorem x_269_6  : exG TB d 269 6 (a0 :: a1 :: a2 :: a3 :: r9) (v :: st) A = rg v (exG TB d 269 7 (a0 :: a1 :: a2 :: some v :: r9) st A) := x_rgt (op := o_astore 3 1) rfl rfl
theorem x_269_7  : exG TB d 269 7 L st A = exG TB d 269 8 L (.int (nI 0) :: st) A := x_nx (op := o_push 1 (.int 0)) rfl rfl
theorem x_269_8  : exG TB d 269 8 L [v] A = ck (okv 1 v) (some (.inl (some v), A)) := x_outg (op := o_ret 1) rfl rfl
theorem e_270  : evG TB (d + 1) 270 [.ref p, b1] A = rg b1 (exG TB d 270 0 [some (.ref p), some (b1), none, none, none, none, none] [] A) := by
  rw [evG_eq]
  show (bif (true && (isR b1 && true)) then exG TB d 270 0 [some (.ref p), some (b1), none, none, none, none, none] [] A else none) = _
  unfold rg
  cases isR b1 <;> rfl
theorem x_270_0  : exG TB d 270 0 (some v :: r9) st A = rg v (exG TB d 270 1 (some v :: r9) (v :: st) A) := x_rg (op := o_aload 0 1) rfl rfl
theorem x_270_1  : exG TB d 270 1 L (.ref p :: st) A = kv (gf A p 10) d 270 4 L st A := x_bd (op := o_get 10) rfl rfl (fun _ => rfl)
theorem x_270_4  : exG TB d 270 4 (a0 :: some v :: r9) st A = rg v (exG TB d 270 5 (a0 :: some v :: r9) (v :: st) A) := x_rg (op := o_aload 1 1) rfl rfl
theorem x_270_5  : exG TB d 270 5 L (.ref p :: st) A = kv (gf A p 133) d 270 8 L st A := x_bd (op := o_get 133) rfl rfl (fun _ => rfl)
theorem x_270_8  : exG TB d 270 8 L [b0, .ref p] A = kw (sel (gc A p) [(3, 47)]) [.ref p, b0] d 270 11 L [] A := x_cvb (op := o_cv [(3, 47)] 1 3 false none) rfl rfl x_noh rfl
theorem x_270_11n  : exG TB d 270 11 L (.null :: st) A = exG TB d 270 14 L (.null :: st) A := x_nx (op := o_cast [13]) rfl rfl
theorem x_270_11r  : exG TB d 270 11 L (.ref p :: st) A = ck (cin (gcs A p) [13]) (exG TB d 270 14 L (.ref p :: st) A) := x_gd (op := o_cast [13]) rfl rfl
theorem x_270_14  : exG TB d 270 14 (a0 :: a1 :: a2 :: r9) (v :: st) A = rg v (exG TB d 270 15 (a0 :: a1 :: some v :: r9) st A) := x_rgt (op := o_astore 2 1) rfl rfl
theorem x_270_15  : exG TB d 270 15 (some v :: r9) st A = rg v (exG TB d 270 16 (some v :: r9) (v :: st) A) := x_rg (op := o_aload 0 1) rfl rfl
theorem x_270_16  : exG TB d 270 16 (a0 :: some v :: r9) st A = rg v (exG TB d 270 17 (a0 :: some v :: r9) (v :: st) A) := x_rg (op := o_aload 1 1) rfl rfl
theorem x_270_17  : exG TB d 270 17 L (.ref p :: st) A = kv (gf A p 134) d 270 20 L st A := x_bd (op := o_get 134) rfl rfl (fun _ => rfl)
theorem x_270_20  : exG TB d 270 20 L [b0, .ref p] A = kw (sel (gc A p) [(1, 268)]) [.ref p, b0] d 270 23 L [] A := x_cvb (op := o_cv [(1, 268)] 1 3 false none) rfl rfl x_noh rfl
theorem x_270_23  : exG TB d 270 23 (a0 :: a1 :: a2 :: a3 :: r9) (v :: st) A = rg v (exG TB d 270 24 (a0 :: a1 :: a2 :: some v :: r9) st A) := x_rgt (op := o_astore 3 1) rfl rfl
theorem x_270_24  : exG TB d 270 24 (a0 :: a1 :: a2 :: some v :: r9) st A = rg v (exG TB d 270 25 (a0 :: a1 :: a2 :: some v :: r9) (v :: st) A) := x_rg (op := o_aload 3 1) rfl rfl
theorem x_270_25  : exG TB d 270 25 (a0 :: some v :: r9) st A = rg v (exG TB d 270 26 (a0 :: some v :: r9) (v :: st) A) := x_rg (op := o_aload 1 1) rfl rfl
theorem x_270_26  : exG TB d 270 26 L (.ref p :: st) A = kv (gf A p 135) d 270 29 L st A := x_bd (op := o_get 135) rfl rfl (fun _ => rfl)
theorem x_270_29n  : exG TB d 270 29 L [b0, .null] A = exG TB d 270 35 L [.ref (nx A)] (newo A 34 8 (fun _ => none)) := x_nx (op := o_cvN [(12, 421)] 1 true 34 8 35) rfl rfl
theorem x_270_29  : exG TB d 270 29 L [b0, .ref p] A = kw0h [] (sel (gc A p) [(12, 421)]) [.ref p, b0] d 270 32 L [] A := x_c0b (op := o_cvN [(12, 421)] 1 true 34 8 35) rfl rfl x_hd rfl
theorem x_270_32  : exG TB d 270 32 L st A = exG TB d 270 50 L st A := x_nx (op := o_goto 50) rfl rfl
theorem x_270_35  : exG TB d 270 35 (a0 :: a1 :: a2 :: a3 :: a4 :: r9) (v :: st) A = rg v (exG TB d 270 37 (a0 :: a1 :: a2 :: a3 :: some v :: r9) st A) := x_rgt (op := o_astore 4 2) rfl rfl
theorem x_270_37  : exG TB d 270 37 (a0 :: a1 :: some v :: r9) st A = rg v (exG TB d 270 38 (a0 :: a1 :: some v :: r9) (v :: st) A) := x_rg (op := o_aload 2 1) rfl rfl
theorem x_270_38  : exG TB d 270 38 L (v :: st) A = ck (c1 v) (exG TB d 270 39 L (v :: v :: st) A) := x_gd (op := o_dup) rfl rfl
theorem x_270_39  : exG TB d 270 39 L (.ref p :: st) A = kv (gf A p 71) d 270 42 L st A := x_bd (op := o_get 71) rfl rfl (fun _ => rfl)
theorem x_270_42  : exG TB d 270 42 (a0 :: some v :: r9) st A = rg v (exG TB d 270 43 (a0 :: some v :: r9) (v :: st) A) := x_rg (op := o_aload 1 1) rfl rfl
theorem x_270_43  : exG TB d 270 43 L (.ref p :: st) A = kv (gf A p 135) d 270 46 L st A := x_bd (op := o_get 135) rfl rfl (fun _ => rfl)
theorem x_270_46  : exG TB d 270 46 L (.int i2 :: .int i1 :: st) A = exG TB d 270 47 L (.int (i1 + i2) :: st) A := x_nx (op := o_iop (fun x y => x + y)) rfl rfl
theorem x_270_47  : exG TB d 270 47 L (v :: .ref p :: st) A = ck ((gf A p 71).isSome && okv 1 v) (exG TB d 270 50 L st (setf A p 71 v)) := x_gd (op := o_put 71 1) rfl rfl
theorem x_270_50  : exG TB d 270 50 (a0 :: some v :: r9) st A = rg v (exG TB d 270 51 (a0 :: some v :: r9) (v :: st) A) := x_rg (op := o_aload 1 1) rfl rfl
theorem x_270_51  : exG TB d 270 51 L (.ref p :: st) A = kv (gf A p 140) d 270 54 L st A := x_bd (op := o_get 140) rfl rfl (fun _ => rfl)
theorem x_270_54  : exG TB d 270 54 (a0 :: a1 :: a2 :: a3 :: a4 :: r9) (v :: st) A = rg v (exG TB d 270 56 (a0 :: a1 :: a2 :: a3 :: some v :: r9) st A) := x_rgt (op := o_astore 4 2) rfl rfl
theorem x_270_56  : exG TB d 270 56 L st A = exG TB d 270 57 L (.int (nI 0) :: st) A := x_nx (op := o_push 1 (.int 0)) rfl rfl
theorem x_270_57  : exG TB d 270 57 (a0 :: a1 :: a2 :: a3 :: a4 :: a5 :: r9) (.int i1 :: st) A = exG TB d 270 59 (a0 :: a1 :: a2 :: a3 :: a4 :: some (.int i1) :: r9) st A := x_nx (op := o_istore 5 2) rfl rfl
theorem x_270_59  : exG TB d 270 59 (a0 :: a1 :: a2 :: a3 :: a4 :: some (.int i1) :: r9) st A = exG TB d 270 61 (a0 :: a1 :: a2 :: a3 :: a4 :: some (.int i1) :: r9) (.int i1 :: st) A := x_nx (op := o_iload 5 2) rfl rfl
theorem x_270_61  : exG TB d 270 61 (a0 :: a1 :: a2 :: a3 :: some v :: r9) st A = rg v (exG TB d 270 63 (a0 :: a1 :: a2 :: a3 :: some v :: r9) (v :: st) A) := x_rg (op := o_aload 4 2) rfl rfl
theorem x_270_63  : exG TB d 270 63 L (.ref p :: st) A = kv (gf A p 127) d 270 66 L st A := x_bd (op := o_get 127) rfl rfl (fun _ => rfl)
theorem x_270_66  : exG TB d 270 66 L [.ref p, w0] A = kw (sel (gc A p) [(3, 42)]) [.ref p] d 270 69 L [w0] A := x_cvb (op := o_cv [(3, 42)] 0 3 false none) rfl rfl x_noh rfl
theorem x_270_69  : exG TB d 270 69 L (.int i2 :: .int i1 :: st) A = if i2 ≤ i1 then exG TB d 270 137 L st A else exG TB d 270 72 L st A := x_if (op := o_icmp (fun x y => decide (y ≤ x)) 137) rfl rfl rfl
theorem x_270_72  : exG TB d 270 72 (a0 :: a1 :: a2 :: a3 :: some v :: r9) st A = rg v (exG TB d 270 74 (a0 :: a1 :: a2 :: a3 :: some v :: r9) (v :: st) A) := x_rg (op := o_aload 4 2) rfl rfl
theorem x_270_74  : exG TB d 270 74 L (.ref p :: st) A = kv (gf A p 127) d 270 77 L st A := x_bd (op := o_get 127) rfl rfl (fun _ => rfl)
theorem x_270_77  : exG TB d 270 77 (a0 :: a1 :: a2 :: a3 :: a4 :: some (.int i1) :: r9) st A = exG TB d 270 79 (a0 :: a1 :: a2 :: a3 :: a4 :: some (.int i1) :: r9) (.int i1 :: st) A := x_nx (op := o_iload 5 2) rfl rfl
theorem x_270_79  : exG TB d 270 79 L [b0, .ref p] A = kw (sel (gc A p) [(3, 47)]) [.ref p, b0] d 270 82 L [] A := x_cvb (op := o_cv [(3, 47)] 1 3 false none) rfl rfl x_noh rfl
theorem x_270_82n  : exG TB d 270 82 L (.null :: st) A = exG TB d 270 85 L (.null :: st) A := x_nx (op := o_cast [17]) rfl rfl
theorem x_270_82r  : exG TB d 270 82 L (.ref p :: st) A = ck (cin (gcs A p) [17]) (exG TB d 270 85 L (.ref p :: st) A) := x_gd (op := o_cast [17]) rfl rfl
theorem x_270_85  : exG TB d 270 85 (a0 :: a1 :: a2 :: a3 :: a4 :: a5 :: a6 :: r9) (v :: st) A = rg v (exG TB d 270 87 (a0 :: a1 :: a2 :: a3 :: a4 :: a5 :: some v :: r9) st A) := x_rgt (op := o_astore 6 2) rfl rfl
theorem x_270_87  : exG TB d 270 87 (a0 :: a1 :: a2 :: a3 :: a4 :: a5 :: some v :: r9) st A = rg v (exG TB d 270 89 (a0 :: a1 :: a2 :: a3 :: a4 :: a5 :: some v :: r9) (v :: st) A) := x_rg (op := o_aload 6 2) rfl rfl
theorem x_270_89  : exG TB d 270 89 L st A = exG TB d 270 90 L (.int (nI 3) :: st) A := x_nx (op := o_push 1 (.int 3)) rfl rfl
theorem x_270_90  : exG TB d 270 90 L (v :: .ref p :: st) A = ck ((gf A p 95).isSome && okv 1 v) (exG TB d 270 93 L st (setf A p 95 v)) := x_gd (op := o_put 95 1) rfl rfl
theorem x_270_93  : exG TB d 270 93 (a0 :: a1 :: a2 :: a3 :: a4 :: a5 :: some v :: r9) st A = rg v (exG TB d 270 95 (a0 :: a1 :: a2 :: a3 :: a4 :: a5 :: some v :: r9) (v :: st) A) := x_rg (op := o_aload 6 2) rfl rfl
theorem x_270_95  : exG TB d 270 95 (some v :: r9) st A = rg v (exG TB d 270 96 (some v :: r9) (v :: st) A) := x_rg (op := o_aload 0 1) rfl rfl
theorem x_270_96  : exG TB d 270 96 L (.ref p :: st) A = kv (gf A p 12) d 270 99 L st A := x_bd (op := o_get 12) rfl rfl (fun _ => rfl)
theorem x_270_99  : exG TB d 270 99 L [.ref p, w0] A = kw (sel (gc A p) [(3, 42)]) [.ref p] d 270 102 L [w0] A := x_cvb (op := o_cv [(3, 42)] 0 3 false none) rfl rfl x_noh rfl
theorem x_270_102  : exG TB d 270 102 L (v :: .ref p :: st) A = ck ((gf A p 96).isSome && okv 1 v) (exG TB d 270 105 L st (setf A p 96 v)) := x_gd (op := o_put 96 1) rfl rfl
theorem x_270_105  : exG TB d 270 105 (a0 :: a1 :: some v :: r9) st A = rg v (exG TB d 270 106 (a0 :: a1 :: some v :: r9) (v :: st) A) := x_rg (op := o_aload 2 1) rfl rfl
theorem x_270_106  : exG TB d 270 106 (a0 :: a1 :: some v :: r9) st A = rg v (exG TB d 270 107 (a0 :: a1 :: some v :: r9) (v :: st) A) := x_rg (op := o_aload 2 1) rfl rfl
theorem x_270_107  : exG TB d 270 107 L (.ref p :: st) A = kv (gf A p 73) d 270 110 L st A := x_bd (op := o_get 73) rfl rfl (fun _ => rfl)
theorem x_270_110  : exG TB d 270 110 (a0 :: a1 :: a2 :: a3 :: a4 :: a5 :: some v :: r9) st A = rg v (exG TB d 270 112 (a0 :: a1 :: a2 :: a3 :: a4 :: a5 :: some v :: r9) (v :: st) A) := x_rg (op := o_aload 6 2) rfl rfl
theorem x_270_112  : exG TB d 270 112 L (.ref p :: st) A = kv (gf A p 91) d 270 115 L st A := x_bd (op := o_get 91) rfl rfl (fun _ => rfl)
theorem x_270_115  : exG TB d 270 115 L [b1, b0, w0] A = kc (evG TB d 6 [b0, b1] A) d 270 118 L [w0] := x_cv (op := o_cs 6 2 false none) rfl rfl x_noh rfl
theorem x_270_118  : exG TB d 270 118 L (v :: .ref p :: st) A = ck ((gf A p 73).isSome && okv 1 v) (exG TB d 270 121 L st (setf A p 73 v)) := x_gd (op := o_put 73 1) rfl rfl
theorem x_270_121  : exG TB d 270 121 (a0 :: a1 :: some v :: r9) st A = rg v (exG TB d 270 122 (a0 :: a1 :: some v :: r9) (v :: st) A) := x_rg (op := o_aload 2 1) rfl rfl
theorem x_270_122  : exG TB d 270 122 L (v :: st) A = ck (c1 v) (exG TB d 270 123 L (v :: v :: st) A) := x_gd (op := o_dup) rfl rfl
theorem x_270_123  : exG TB d 270 123 L (.ref p :: st) A = kv (gf A p 72) d 270 126 L st A := x_bd (op := o_get 72) rfl rfl (fun _ => rfl)
theorem x_270_126  : exG TB d 270 126 L st A = exG TB d 270 127 L (.int (nI 1) :: st) A := x_nx (op := o_push 1 (.int 1)) rfl rfl
theorem x_270_127  : exG TB d 270 127 L (.int i2 :: .int i1 :: st) A = exG TB d 270 128 L (.int (i1 + i2) :: st) A := x_nx (op := o_iop (fun x y => x + y)) rfl rfl
theorem x_270_128  : exG TB d 270 128 L (v :: .ref p :: st) A = ck ((gf A p 72).isSome && okv 1 v) (exG TB d 270 131 L st (setf A p 72 v)) := x_gd (op := o_put 72 1) rfl rfl
theorem x_270_131  : exG TB d 270 131 (a0 :: a1 :: a2 :: a3 :: a4 :: some (.int i1) :: r9) st A = exG TB d 270 134 (a0 :: a1 :: a2 :: a3 :: a4 :: some (.int (i1 + (nI 1))) :: r9) st A := x_nx (op := o_iinc 5 1) rfl rfl
theorem x_270_134  : exG TB d 270 134 L st A = exG TB d 270 59 L st A := x_nx (op := o_goto 59) rfl rfl
theorem x_270_137  : exG TB d 270 137 (a0 :: a1 :: a2 :: a3 :: some v :: r9) st A = rg v (exG TB d 270 139 (a0 :: a1 :: a2 :: a3 :: some v :: r9) (v :: st) A) := x_rg (op := o_aload 4 2) rfl rfl
theorem x_270_139  : exG TB d 270 139 L [.ref p] A = kw (sel (gc A p) [(26, 248)]) [.ref p] d 270 142 L [] A := x_cvb (op := o_cv [(26, 248)] 0 3 false none) rfl rfl x_noh rfl
theorem x_270_142  : exG TB d 270 142 (a0 :: a1 :: a2 :: a3 :: a4 :: a5 :: r9) (v :: st) A = rg v (exG TB d 270 144 (a0 :: a1 :: a2 :: a3 :: a4 :: some v :: r9) st A) := x_rgt (op := o_astore 5 2) rfl rfl
theorem x_270_144  : exG TB d 270 144 L st A = exG TB d 270 145 L (.int (nI 0) :: st) A := x_nx (op := o_push 1 (.int 0)) rfl rfl
theorem x_270_145  : exG TB d 270 145 (a0 :: a1 :: a2 :: a3 :: a4 :: a5 :: a6 :: r9) (.int i1 :: st) A = exG TB d 270 147 (a0 :: a1 :: a2 :: a3 :: a4 :: a5 :: some (.int i1) :: r9) st A := x_nx (op := o_istore 6 2) rfl rfl
theorem x_270_147  : exG TB d 270 147 (a0 :: a1 :: a2 :: a3 :: a4 :: a5 :: some (.int i1) :: r9) st A = exG TB d 270 149 (a0 :: a1 :: a2 :: a3 :: a4 :: a5 :: some (.int i1) :: r9) (.int i1 :: st) A := x_nx (op := o_iload 6 2) rfl rfl
theorem x_270_149  : exG TB d 270 149 (a0 :: a1 :: a2 :: a3 :: a4 :: some v :: r9) st A = rg v (exG TB d 270 151 (a0 :: a1 :: a2 :: a3 :: a4 :: some v :: r9) (v :: st) A) := x_rg (op := o_aload 5 2) rfl rfl
theorem x_270_151  : exG TB d 270 151 L (.ref p :: st) A = ki (aln (ga A p)) d 270 152 L st A := x_bd (op := o_alen) rfl rfl (fun _ => rfl)
theorem x_270_152  : exG TB d 270 152 L (.int i2 :: .int i1 :: st) A = if i2 ≤ i1 then exG TB d 270 194 L st A else exG TB d 270 155 L st A := x_if (op := o_icmp (fun x y => decide (y ≤ x)) 194) rfl rfl rfl
theorem x_270_155  : exG TB d 270 155 (some v :: r9) st A = rg v (exG TB d 270 156 (some v :: r9) (v :: st) A) := x_rg (op := o_aload 0 1) rfl rfl
theorem x_270_156  : exG TB d 270 156 (a0 :: a1 :: a2 :: a3 :: some v :: r9) st A = rg v (exG TB d 270 158 (a0 :: a1 :: a2 :: a3 :: some v :: r9) (v :: st) A) := x_rg (op := o_aload 4 2) rfl rfl
theorem x_270_158  : exG TB d 270 158 L (.ref p :: st) A = kv (gf A p 128) d 270 161 L st A := x_bd (op := o_get 128) rfl rfl (fun _ => rfl)
theorem x_270_161  : exG TB d 270 161 (a0 :: a1 :: a2 :: a3 :: a4 :: a5 :: some (.int i1) :: r9) st A = exG TB d 270 163 (a0 :: a1 :: a2 :: a3 :: a4 :: a5 :: some (.int i1) :: r9) (.int i1 :: st) A := x_nx (op := o_iload 6 2) rfl rfl
theorem x_270_163  : exG TB d 270 163 L [b0, .ref p, w0] A = kw (sel (gc A p) [(3, 47)]) [.ref p, b0] d 270 166 L [w0] A := x_cvb (op := o_cv [(3, 47)] 1 3 false none) rfl rfl x_noh rfl
theorem x_270_166n  : exG TB d 270 166 L (.null :: st) A = exG TB d 270 169 L (.null :: st) A := x_nx (op := o_cast [21]) rfl rfl
theorem x_270_166r  : exG TB d 270 166 L (.ref p :: st) A = ck (cin (gcs A p) [21]) (exG TB d 270 169 L (.ref p :: st) A) := x_gd (op := o_cast [21]) rfl rfl
theorem x_270_169  : exG TB d 270 169 L [.ref p, w0] A = kw (sel (gcs A p) [(21, 21)]) [.ref p] d 270 172 L [w0] A := x_cvb (op := o_cvs [(21, 21)] 0 3 false) rfl rfl x_noh rfl
theorem x_270_172  : exG TB d 270 172 (a0 :: a1 :: a2 :: a3 :: a4 :: some v :: r9) st A = rg v (exG TB d 270 174 (a0 :: a1 :: a2 :: a3 :: a4 :: some v :: r9) (v :: st) A) := x_rg (op := o_aload 5 2) rfl rfl
theorem x_270_174  : exG TB d 270 174 (a0 :: a1 :: a2 :: a3 :: a4 :: a5 :: some (.int i1) :: r9) st A = exG TB d 270 176 (a0 :: a1 :: a2 :: a3 :: a4 :: a5 :: some (.int i1) :: r9) (.int i1 :: st) A := x_nx (op := o_iload 6 2) rfl rfl
theorem x_270_176  : exG TB d 270 176 L (.int i1 :: .ref p :: st) A = ki (rdI 2 (ga A p) i1) d 270 177 L st A := x_bd (op := o_rdI 2) rfl rfl (fun _ => rfl)
theorem x_270_177  : exG TB d 270 177 L (.int i1 :: st) A = if ¬ i1 = nI 0 then exG TB d 270 184 L st A else exG TB d 270 180 L st A := x_if (op := o_if (fun x => decide (¬ x = 0)) 184) rfl rfl rfl
theorem x_270_180  : exG TB d 270 180 L st A = exG TB d 270 181 L (.int (nI 1) :: st) A := x_nx (op := o_push 1 (.int 1)) rfl rfl
theorem x_270_181  : exG TB d 270 181 L st A = exG TB d 270 185 L st A := x_nx (op := o_goto 185) rfl rfl
theorem x_270_184  : exG TB d 270 184 L st A = exG TB d 270 185 L (.int (nI 0) :: st) A := x_nx (op := o_push 1 (.int 0)) rfl rfl
theorem x_270_185  : exG TB d 270 185 L [b1, b0, .ref p] A = kw0 (sel (gc A p) [(1, 271)]) [.ref p, b0, b1] d 270 188 L [] A := x_c0b (op := o_cv [(1, 271)] 2 3 true none) rfl rfl x_noh rfl
theorem x_270_188  : exG TB d 270 188 (a0 :: a1 :: a2 :: a3 :: a4 :: a5 :: some (.int i1) :: r9) st A = exG TB d 270 191 (a0 :: a1 :: a2 :: a3 :: a4 :: a5 :: some (.int (i1 + (nI 1))) :: r9) st A := x_nx (op := o_iinc 6 1) rfl rfl
theorem x_270_191  : exG TB d 270 191 L st A = exG TB d 270 147 L st A := x_nx (op := o_goto 147) rfl rfl
theorem x_270_194  : exG TB d 270 194 (a0 :: a1 :: some v :: r9) st A = rg v (exG TB d 270 195 (a0 :: a1 :: some v :: r9) (v :: st) A) := x_rg (op := o_aload 2 1) rfl rfl
theorem x_270_195  : exG TB d 270 195 L (v :: st) A = ck (c1 v) (exG TB d 270 196 L (v :: v :: st) A) := x_gd (op := o_dup) rfl rfl
theorem x_270_196  : exG TB d 270 196 L (.ref p :: st) A = kv (gf A p 74) d 270 199 L st A := x_bd (op := o_get 74) rfl rfl (fun _ => rfl)
theorem x_270_199  : exG TB d 270 199 L st A = exG TB d 270 200 L (.int (nI 1) :: st) A := x_nx (op := o_push 1 (.int 1)) rfl rfl
theorem x_270_200  : exG TB d 270 200 L (.int i2 :: .int i1 :: st) A = exG TB d 270 201 L (.int (i1 + i2) :: st) A := x_nx (op := o_iop (fun x y => x + y)) rfl rfl
theorem x_270_201  : exG TB d 270 201 L (v :: .ref p :: st) A = ck ((gf A p 74).isSome && okv 1 v) (exG TB d 270 204 L st (setf A p 74 v)) := x_gd (op := o_put 74 1) rfl rfl
theorem x_270_204  : exG TB d 270 204 (some v :: r9) st A = rg v (exG TB d 270 205 (some v :: r9) (v :: st) A) := x_rg (op := o_aload 0 1) rfl rfl
theorem x_270_205  : exG TB d 270 205 L (.ref p :: st) A = kv (gf A p 12) d 270 208 L st A := x_bd (op := o_get 12) rfl rfl (fun _ => rfl)
theorem x_270_208  : exG TB d 270 208 (a0 :: some v :: r9) st A = rg v (exG TB d 270 209 (a0 :: some v :: r9) (v :: st) A) := x_rg (op := o_aload 1 1) rfl rfl
theorem x_270_209  : exG TB d 270 209 L [b0, .ref p] A = kw (sel (gc A p) [(3, 43)]) [.ref p, b0] d 270 212 L [] A := x_cvb (op := o_cv [(3, 43)] 1 3 false none) rfl rfl x_noh rfl
theorem x_270_212  : exG TB d 270 212 L (v :: st) A = ck (c1 v) (exG TB d 270 213 L st A) := x_gd (op := o_pop) rfl rfl
theorem x_270_213  : exG TB d 270 213 L [] A = some (.inl none, A) := x_out (op := o_vret) rfl rfl
theorem e_271 {j1 : Int32} {j2 : Int32} : evG TB (d + 1) 271 [.ref p, .int j1, .int j2] A = exG TB d 271 0 [some (.ref p), some (.int j1), some (.int j2), none, none] [] A := evG_eq TB d 271 _ A
theorem x_271_0  : exG TB d 271 0 L st A = exG TB d 271 3 L (.ref (nx A) :: st) (newo A 8 2 dv8) := x_nx (op := o_new 8 2 dv8) rfl rfl
theorem x_271_3  : exG TB d 271 3 L (v :: st) A = ck (c1 v) (exG TB d 271 4 L (v :: v :: st) A) := x_gd (op := o_dup) rfl rfl
theorem x_271_4  : exG TB d 271 4 (a0 :: some (.int i1) :: r9) st A = exG TB d 271 5 (a0 :: some (.int i1) :: r9) (.int i1 :: st) A := x_nx (op := o_iload 1 1) rfl rfl
theorem x_271_5  : exG TB d 271 5 (a0 :: a1 :: some (.int i1) :: r9) st A = exG TB d 271 6 (a0 :: a1 :: some (.int i1) :: r9) (.int i1 :: st) A := x_nx (op := o_iload 2 1) rfl rfl
theorem x_271_6  : exG TB d 271 6 L [b1, b0, .ref p, w0] A = kc0 (evG TB d 279 [.ref p, b0, b1] A) d 271 9 L [w0] := x_c0 (op := o_ci 279 2) rfl rfl x_noh rfl
theorem x_271_9  : exG TB d 271 9 (a0 :: a1 :: a2 :: a3 :: r9) (v :: st) A = rg v (exG TB d 271 10 (a0 :: a1 :: a2 :: some v :: r9) st A) := x_rgt (op := o_astore 3 1) rfl rfl
theorem x_271_10  : exG TB d 271 10 (some v :: r9) st A = rg v (exG TB d 271 11 (some v :: r9) (v :: st) A) := x_rg (op := o_aload 0 1) rfl rfl
theorem x_271_11  : exG TB d 271 11 L (.ref p :: st) A = kv (gf A p 13) d 271 14 L st A := x_bd (op := o_get 13) rfl rfl (fun _ => rfl)
theorem x_271_14  : exG TB d 271 14 (a0 :: a1 :: a2 :: some v :: r9) st A = rg v (exG TB d 271 15 (a0 :: a1 :: a2 :: some v :: r9) (v :: st) A) := x_rg (op := o_aload 3 1) rfl rfl
theorem x_271_15  : exG TB d 271 15 L [b0, .ref p] A = kw (sel (gc A p) [(6, 29)]) [.ref p, b0] d 271 18 L [] A := x_cvb (op := o_cv [(6, 29)] 1 3 false none) rfl rfl x_noh rfl
theorem x_271_18n  : exG TB d 271 18 L (.null :: st) A = exG TB d 271 21 L (.null :: st) A := x_nx (op := o_cast [21]) rfl rfl
theorem x_271_18r  : exG TB d 271 18 L (.ref p :: st) A = ck (cin (gcs A p) [21]) (exG TB d 271 21 L (.ref p :: st) A) := x_gd (op := o_cast [21]) rfl rfl
theorem x_271_21  : exG TB d 271 21 (a0 :: a1 :: a2 :: a3 :: a4 :: r9) (v :: st) A = rg v (exG TB d 271 23 (a0 :: a1 :: a2 :: a3 :: some v :: r9) st A) := x_rgt (op := o_astore 4 2) rfl rfl
theorem x_271_23  : exG TB d 271 23 (some v :: r9) st A = rg v (exG TB d 271 24 (some v :: r9) (v :: st) A) := x_rg (op := o_aload 0 1) rfl rfl
theorem x_271_24  : exG TB d 271 24 L (.ref p :: st) A = kv (gf A p 13) d 271 27 L st A := x_bd (op := o_get 13) rfl rfl (fun _ => rfl)
theorem x_271_27  : exG TB d 271 27 (a0 :: a1 :: a2 :: some v :: r9) st A = rg v (exG TB d 271 28 (a0 :: a1 :: a2 :: some v :: r9) (v :: st) A) := x_rg (op := o_aload 3 1) rfl rfl
theorem x_271_28  : exG TB d 271 28 (a0 :: a1 :: a2 :: a3 :: some v :: r9) st A = rg v (exG TB d 271 30 (a0 :: a1 :: a2 :: a3 :: some v :: r9) (v :: st) A) := x_rg (op := o_aload 4 2) rfl rfl
theorem x_271_30n  : exG TB d 271 30 L (.null :: st) A = exG TB d 271 33 L st A := x_nx (op := o_ifnonnull 37) rfl rfl
theorem x_271_30r  : exG TB d 271 30 L (.ref p :: st) A = exG TB d 271 37 L st A := x_nx (op := o_ifnonnull 37) rfl rfl
theorem x_271_33  : exG TB d 271 33 L st A = exG TB d 271 34 L (.int (nI 1) :: st) A := x_nx (op := o_push 1 (.int 1)) rfl rfl
theorem x_271_34  : exG TB d 271 34 L st A = exG TB d 271 44 L st A := x_nx (op := o_goto 44) rfl rfl
theorem x_271_37  : exG TB d 271 37 (a0 :: a1 :: a2 :: a3 :: some v :: r9) st A = rg v (exG TB d 271 39 (a0 :: a1 :: a2 :: a3 :: some v :: r9) (v :: st) A) := x_rg (op := o_aload 4 2) rfl rfl
theorem x_271_39  : exG TB d 271 39 L [.ref p, w0, w1] A = kw (sel (gcs A p) [(21, 21)]) [.ref p] d 271 42 L [w0, w1] A := x_cvb (op := o_cvs [(21, 21)] 0 3 false) rfl rfl x_noh rfl
theorem x_271_42  : exG TB d 271 42 L st A = exG TB d 271 43 L (.int (nI 1) :: st) A := x_nx (op := o_push 1 (.int 1)) rfl rfl
theorem x_271_43  : exG TB d 271 43 L (.int i2 :: .int i1 :: st) A = exG TB d 271 44 L (.int (i1 + i2) :: st) A := x_nx (op := o_iop (fun x y => x + y)) rfl rfl
theorem x_271_44  : exG TB d 271 44 L [b0, w0, w1] A = kc (evG TB d 25 [b0] A) d 271 47 L [w0, w1] := x_cv (op := o_cs 25 1 false none) rfl rfl x_noh rfl
theorem x_271_47  : exG TB d 271 47 L [b1, b0, .ref p] A = kw (sel (gc A p) [(6, 32)]) [.ref p, b0, b1] d 271 50 L [] A := x_cvb (op := o_cv [(6, 32)] 2 3 false none) rfl rfl x_noh rfl
theorem x_271_50  : exG TB d 271 50 L (v :: st) A = ck (c1 v) (exG TB d 271 51 L st A) := x_gd (op := o_pop) rfl rfl
theorem x_271_51  : exG TB d 271 51 L [] A = some (.inl none, A) := x_out (op := o_vret) rfl rfl
theorem e_272 {j1 : Int32} {j2 : Int32} : evG TB (d + 1) 272 [.ref p, .int j1, .int j2] A = exG TB d 272 0 [some (.ref p), some (.int j1), some (.int j2), none, none, none] [] A := evG_eq TB d 272 _ A
theorem x_272_0  : exG TB d 272 0 (some v :: r9) st A = rg v (exG TB d 272 1 (some v :: r9) (v :: st) A) := x_rg (op := o_aload 0 1) rfl rfl
theorem x_272_1  : exG TB d 272 1 (a0 :: some (.int i1) :: r9) st A = exG TB d 272 2 (a0 :: some (.int i1) :: r9) (.int i1 :: st) A := x_nx (op := o_iload 1 1) rfl rfl
theorem x_272_2  : exG TB d 272 2 L [b0, .ref p] A = kw (sel (gc A p) [(1, 264)]) [.ref p, b0] d 272 5 L [] A := x_cvb (op := o_cv [(1, 264)] 1 3 false none) rfl rfl x_noh rfl
theorem x_272_5  : exG TB d 272 5 (a0 :: a1 :: a2 :: a3 :: r9) (v :: st) A = rg v (exG TB d 272 6 (a0 :: a1 :: a2 :: some v :: r9) st A) := x_rgt (op := o_astore 3 1) rfl rfl
theorem x_272_6  : exG TB d 272 6 L st A = exG TB d 272 7 L (.int (nI 0) :: st) A := x_nx (op := o_push 1 (.int 0)) rfl rfl
theorem x_272_7  : exG TB d 272 7 (a0 :: a1 :: a2 :: a3 :: a4 :: r9) (.int i1 :: st) A = exG TB d 272 9 (a0 :: a1 :: a2 :: a3 :: some (.int i1) :: r9) st A := x_nx (op := o_istore 4 2) rfl rfl
theorem x_272_9  : exG TB d 272 9 L st A = exG TB d 272 10 L (.int (nI 0) :: st) A := x_nx (op := o_push 1 (.int 0)) rfl rfl
theorem x_272_10  : exG TB d 272 10 (a0 :: a1 :: a2 :: a3 :: a4 :: a5 :: r9) (.int i1 :: st) A = exG TB d 272 12 (a0 :: a1 :: a2 :: a3 :: a4 :: some (.int i1) :: r9) st A := x_nx (op := o_istore 5 2) rfl rfl
theorem x_272_12  : exG TB d 272 12 (a0 :: a1 :: a2 :: a3 :: a4 :: some (.int i1) :: r9) st A = exG TB d 272 14 (a0 :: a1 :: a2 :: a3 :: a4 :: some (.int i1) :: r9) (.int i1 :: st) A := x_nx (op := o_iload 5 2) rfl rfl
theorem x_272_14  : exG TB d 272 14 (a0 :: a1 :: a2 :: some v :: r9) st A = rg v (exG TB d 272 15 (a0 :: a1 :: a2 :: some v :: r9) (v :: st) A) := x_rg (op := o_aload 3 1) rfl rfl
theorem x_272_15  : exG TB d 272 15 L [.ref p, w0] A = kw (sel (gc A p) [(3, 42)]) [.ref p] d 272 18 L [w0] A := x_cvb (op := o_cv [(3, 42)] 0 3 false none) rfl rfl x_noh rfl
theorem x_272_18  : exG TB d 272 18 L (.int i2 :: .int i1 :: st) A = if i2 ≤ i1 then exG TB d 272 83 L st A else exG TB d 272 21 L st A := x_if (op := o_icmp (fun x y => decide (y ≤ x)) 83) rfl rfl rfl
theorem x_272_21  : exG TB d 272 21 (some v :: r9) st A = rg v (exG TB d 272 22 (some v :: r9) (v :: st) A) := x_rg (op := o_aload 0 1) rfl rfl
theorem x_272_22  : exG TB d 272 22 L (.ref p :: st) A = kv (gf A p 12) d 272 25 L st A := x_bd (op := o_get 12) rfl rfl (fun _ => rfl)
theorem x_272_25  : exG TB d 272 25 L [.ref p] A = kw (sel (gc A p) [(3, 42)]) [.ref p] d 272 28 L [] A := x_cvb (op := o_cv [(3, 42)] 0 3 false none) rfl rfl x_noh rfl
theorem x_272_28  : exG TB d 272 28 (a0 :: a1 :: a2 :: a3 :: a4 :: some (.int i1) :: r9) st A = exG TB d 272 30 (a0 :: a1 :: a2 :: a3 :: a4 :: some (.int i1) :: r9) (.int i1 :: st) A := x_nx (op := o_iload 5 2) rfl rfl
theorem x_272_30  : exG TB d 272 30 L (.int i2 :: .int i1 :: st) A = exG TB d 272 31 L (.int (i1 + i2) :: st) A := x_nx (op := o_iop (fun x y => x + y)) rfl rfl
theorem x_272_31  : exG TB d 272 31 L st A = exG TB d 272 33 L (.int (nI 60) :: st) A := x_nx (op := o_push 2 (.int 60)) rfl rfl
theorem x_272_33  : exG TB d 272 33 L (.int i2 :: .int i1 :: st) A = if i2 ≤ i1 then exG TB d 272 83 L st A else exG TB d 272 36 L st A := x_if (op := o_icmp (fun x y => decide (y ≤ x)) 83) rfl rfl rfl
theorem x_272_36  : exG TB d 272 36 (some v :: r9) st A = rg v (exG TB d 272 37 (some v :: r9) (v :: st) A) := x_rg (op := o_aload 0 1) rfl rfl
theorem x_272_37  : exG TB d 272 37 (a0 :: a1 :: a2 :: some v :: r9) st A = rg v (exG TB d 272 38 (a0 :: a1 :: a2 :: some v :: r9) (v :: st) A) := x_rg (op := o_aload 3 1) rfl rfl
theorem x_272_38  : exG TB d 272 38 (a0 :: a1 :: a2 :: a3 :: a4 :: some (.int i1) :: r9) st A = exG TB d 272 40 (a0 :: a1 :: a2 :: a3 :: a4 :: some (.int i1) :: r9) (.int i1 :: st) A := x_nx (op := o_iload 5 2) rfl rfl
theorem x_272_40  : exG TB d 272 40 L [b0, .ref p, w0] A = kw (sel (gc A p) [(3, 47)]) [.ref p, b0] d 272 43 L [w0] A := x_cvb (op := o_cv [(3, 47)] 1 3 false none) rfl rfl x_noh rfl
theorem x_272_43n  : exG TB d 272 43 L (.null :: st) A = exG TB d 272 46 L (.null :: st) A := x_nx (op := o_cast [26]) rfl rfl
theorem x_272_43r  : exG TB d 272 43 L (.ref p :: st) A = ck (cin (gcs A p) [26]) (exG TB d 272 46 L (.ref p :: st) A) := x_gd (op := o_cast [26]) rfl rfl
theorem x_272_46  : exG TB d 272 46 (a0 :: a1 :: some (.int i1) :: r9) st A = exG TB d 272 47 (a0 :: a1 :: some (.int i1) :: r9) (.int i1 :: st) A := x_nx (op := o_iload 2 1) rfl rfl
theorem x_272_47  : exG TB d 272 47 L [b1, b0, .ref p] A = kw (sel (gc A p) [(1, 266)]) [.ref p, b0, b1] d 272 50 L [] A := x_cvb (op := o_cv [(1, 266)] 2 3 false none) rfl rfl x_noh rfl
theorem x_272_50  : exG TB d 272 50 L (.int i1 :: st) A = if i1 = nI 0 then exG TB d 272 83 L st A else exG TB d 272 53 L st A := x_if (op := o_if (fun x => decide (x = 0)) 83) rfl rfl rfl
theorem x_272_53  : exG TB d 272 53 (a0 :: a1 :: a2 :: a3 :: some (.int i1) :: r9) st A = exG TB d 272 55 (a0 :: a1 :: a2 :: a3 :: some (.int i1) :: r9) (.int i1 :: st) A := x_nx (op := o_iload 4 2) rfl rfl
theorem x_272_55  : exG TB d 272 55 (some v :: r9) st A = rg v (exG TB d 272 56 (some v :: r9) (v :: st) A) := x_rg (op := o_aload 0 1) rfl rfl
theorem x_272_56  : exG TB d 272 56 (a0 :: some (.int i1) :: r9) st A = exG TB d 272 57 (a0 :: some (.int i1) :: r9) (.int i1 :: st) A := x_nx (op := o_iload 1 1) rfl rfl
theorem x_272_57  : exG TB d 272 57 (a0 :: a1 :: a2 :: some v :: r9) st A = rg v (exG TB d 272 58 (a0 :: a1 :: a2 :: some v :: r9) (v :: st) A) := x_rg (op := o_aload 3 1) rfl rfl
theorem x_272_58  : exG TB d 272 58 (a0 :: a1 :: a2 :: a3 :: a4 :: some (.int i1) :: r9) st A = exG TB d 272 60 (a0 :: a1 :: a2 :: a3 :: a4 :: some (.int i1) :: r9) (.int i1 :: st) A := x_nx (op := o_iload 5 2) rfl rfl
theorem x_272_60  : exG TB d 272 60 L [b0, .ref p, w0, w1, w2] A = kw (sel (gc A p) [(3, 47)]) [.ref p, b0] d 272 63 L [w0, w1, w2] A := x_cvb (op := o_cv [(3, 47)] 1 3 false none) rfl rfl x_noh rfl
theorem x_272_63n  : exG TB d 272 63 L (.null :: st) A = exG TB d 272 66 L (.null :: st) A := x_nx (op := o_cast [26]) rfl rfl
theorem x_272_63r  : exG TB d 272 63 L (.ref p :: st) A = ck (cin (gcs A p) [26]) (exG TB d 272 66 L (.ref p :: st) A) := x_gd (op := o_cast [26]) rfl rfl
theorem x_272_66  : exG TB d 272 66 (a0 :: a1 :: a2 :: a3 :: a4 :: some (.int i1) :: r9) st A = exG TB d 272 68 (a0 :: a1 :: a2 :: a3 :: a4 :: some (.int i1) :: r9) (.int i1 :: st) A := x_nx (op := o_iload 5 2) rfl rfl
theorem x_272_68  : exG TB d 272 68 L [b2, b1, b0, .ref p, w0] A = kw (sel (gc A p) [(1, 267)]) [.ref p, b0, b1, b2] d 272 71 L [w0] A := x_cvb (op := o_cv [(1, 267)] 3 3 false none) rfl rfl x_noh rfl
theorem x_272_71  : exG TB d 272 71 L (.ref p :: st) A = kv (gf A p 135) d 272 74 L st A := x_bd (op := o_get 135) rfl rfl (fun _ => rfl)
theorem x_272_74  : exG TB d 272 74 L (.int i2 :: .int i1 :: st) A = exG TB d 272 75 L (.int (i1 + i2) :: st) A := x_nx (op := o_iop (fun x y => x + y)) rfl rfl
theorem x_272_75  : exG TB d 272 75 (a0 :: a1 :: a2 :: a3 :: a4 :: r9) (.int i1 :: st) A = exG TB d 272 77 (a0 :: a1 :: a2 :: a3 :: some (.int i1) :: r9) st A := x_nx (op := o_istore 4 2) rfl rfl
theorem x_272_77  : exG TB d 272 77 (a0 :: a1 :: a2 :: a3 :: a4 :: some (.int i1) :: r9) st A = exG TB d 272 80 (a0 :: a1 :: a2 :: a3 :: a4 :: some (.int (i1 + (nI 1))) :: r9) st A := x_nx (op := o_iinc 5 1) rfl rfl
theorem x_272_80  : exG TB d 272 80 L st A = exG TB d 272 12 L st A := x_nx (op := o_goto 12) rfl rfl
theorem x_272_83  : exG TB d 272 83 (a0 :: a1 :: a2 :: a3 :: some (.int i1) :: r9) st A = exG TB d 272 85 (a0 :: a1 :: a2 :: a3 :: some (.int i1) :: r9) (.int i1 :: st) A := x_nx (op := o_iload 4 2) rfl rfl
theorem x_272_85  : exG TB d 272 85 L [v] A = ck (okv 1 v) (some (.inl (some v), A)) := x_outg (op := o_ret 1) rfl rfl
theorem e_273 {j2 : Int32} : evG TB (d + 1) 273 [.ref p, b1, .int j2] A = rg b1 (exG TB d 273 0 [some (.ref p), some (b1), some (.int j2), none, none, none] [] A) := by
  rw [evG_eq]
  show (bif (true && (isR b1 && (true && true))) then exG TB d 273 0 [some (.ref p), some (b1), some (.int j2), none, none, none] [] A else none) = _
  unfold rg
  cases isR b1 <;> rfl
theorem x_273_0  : exG TB d 273 0 (some v :: r9) st A = rg v (exG TB d 273 1 (some v :: r9) (v :: st) A) := x_rg (op := o_aload 0 1) rfl rfl
theorem x_273_1  : exG TB d 273 1 (a0 :: some v :: r9) st A = rg v (exG TB d 273 2 (a0 :: some v :: r9) (v :: st) A) := x_rg (op := o_aload 1 1) rfl rfl
theorem x_273_2  : exG TB d 273 2 (a0 :: a1 :: some (.int i1) :: r9) st A = exG TB d 273 3 (a0 :: a1 :: some (.int i1) :: r9) (.int i1 :: st) A := x_nx (op := o_iload 2 1) rfl rfl
theorem x_273_3  : exG TB d 273 3 L [b1, b0, .ref p] A = kw (sel (gc A p) [(1, 274)]) [.ref p, b0, b1] d 273 6 L [] A := x_cvb (op := o_cv [(1, 274)] 2 3 false none) rfl rfl x_noh rfl
theorem x_273_6  : exG TB d 273 6 (a0 :: a1 :: a2 :: a3 :: r9) (.int i1 :: st) A = exG TB d 273 7 (a0 :: a1 :: a2 :: some (.int i1) :: r9) st A := x_nx (op := o_istore 3 1) rfl rfl
theorem x_273_7  : exG TB d 273 7 (a0 :: some v :: r9) st A = rg v (exG TB d 273 8 (a0 :: some v :: r9) (v :: st) A) := x_rg (op := o_aload 1 1) rfl rfl
theorem x_273_8  : exG TB d 273 8 (a0 :: a1 :: a2 :: some (.int i1) :: r9) st A = exG TB d 273 9 (a0 :: a1 :: a2 :: some (.int i1) :: r9) (.int i1 :: st) A := x_nx (op := o_iload 3 1) rfl rfl
theorem x_273_9  : exG TB d 273 9 L (.int i1 :: st) A = if i1 ≤ nI 0 then exG TB d 273 16 L st A else exG TB d 273 12 L st A := x_if (op := o_if (fun x => decide (x ≤ 0)) 16) rfl rfl rfl
theorem x_273_12  : exG TB d 273 12 L st A = exG TB d 273 13 L (.int (nI 1) :: st) A := x_nx (op := o_push 1 (.int 1)) rfl rfl
theorem x_273_13  : exG TB d 273 13 L st A = exG TB d 273 17 L st A := x_nx (op := o_goto 17) rfl rfl
theorem x_273_16  : exG TB d 273 16 L st A = exG TB d 273 17 L (.int (nI 2) :: st) A := x_nx (op := o_push 1 (.int 2)) rfl rfl
theorem x_273_17  : exG TB d 273 17 L (v :: .ref p :: st) A = ck ((gf A p 141).isSome && okv 1 v) (exG TB d 273 20 L st (setf A p 141 v)) := x_gd (op := o_put 141 1) rfl rfl
theorem x_273_20  : exG TB d 273 20 (a0 :: some v :: r9) st A = rg v (exG TB d 273 21 (a0 :: some v :: r9) (v :: st) A) := x_rg (op := o_aload 1 1) rfl rfl
theorem x_273_21  : exG TB d 273 21 (a0 :: a1 :: a2 :: some (.int i1) :: r9) st A = exG TB d 273 22 (a0 :: a1 :: a2 :: some (.int i1) :: r9) (.int i1 :: st) A := x_nx (op := o_iload 3 1) rfl rfl
theorem x_273_22  : exG TB d 273 22 L (v :: .ref p :: st) A = ck ((gf A p 142).isSome && okv 1 v) (exG TB d 273 25 L st (setf A p 142 v)) := x_gd (op := o_put 142 1) rfl rfl
theorem x_273_25  : exG TB d 273 25 (some v :: r9) st A = rg v (exG TB d 273 26 (some v :: r9) (v :: st) A) := x_rg (op := o_aload 0 1) rfl rfl
theorem x_273_26  : exG TB d 273 26 (a0 :: some v :: r9) st A = rg v (exG TB d 273 27 (a0 :: some v :: r9) (v :: st) A) := x_rg (op := o_aload 1 1) rfl rfl
theorem x_273_27  : exG TB d 273 27 L (.ref p :: st) A = kv (gf A p 134) d 273 30 L st A := x_bd (op := o_get 134) rfl rfl (fun _ => rfl)
theorem x_273_30  : exG TB d 273 30 L [b0, .ref p] A = kw (sel (gc A p) [(1, 268)]) [.ref p, b0] d 273 33 L [] A := x_cvb (op := o_cv [(1, 268)] 1 3 false none) rfl rfl x_noh rfl
theorem x_273_33  : exG TB d 273 33 (a0 :: a1 :: a2 :: a3 :: a4 :: r9) (v :: st) A = rg v (exG TB d 273 35 (a0 :: a1 :: a2 :: a3 :: some v :: r9) st A) := x_rgt (op := o_astore 4 2) rfl rfl
theorem x_273_35  : exG TB d 273 35 (a0 :: a1 :: a2 :: some (.int i1) :: r9) st A = exG TB d 273 36 (a0 :: a1 :: a2 :: some (.int i1) :: r9) (.int i1 :: st) A := x_nx (op := o_iload 3 1) rfl rfl
theorem x_273_36  : exG TB d 273 36 L (.int i1 :: st) A = if ¬ i1 = nI 0 then exG TB d 273 41 L st A else exG TB d 273 39 L st A := x_if (op := o_if (fun x => decide (¬ x = 0)) 41) rfl rfl rfl
theorem x_273_39  : exG TB d 273 39 L st A = exG TB d 273 40 L (.int (nI 0) :: st) A := x_nx (op := o_push 1 (.int 0)) rfl rfl
theorem x_273_40  : exG TB d 273 40 L [v] A = ck (okv 1 v) (some (.inl (some v), A)) := x_outg (op := o_ret 1) rfl rfl
theorem x_273_41  : exG TB d 273 41 (a0 :: a1 :: a2 :: a3 :: some v :: r9) st A = rg v (exG TB d 273 43 (a0 :: a1 :: a2 :: a3 :: some v :: r9) (v :: st) A) := x_rg (op := o_aload 4 2) rfl rfl
theorem x_273_43  : exG TB d 273 43 (a0 :: a1 :: a2 :: some (.int i1) :: r9) st A = exG TB d 273 44 (a0 :: a1 :: a2 :: some (.int i1) :: r9) (.int i1 :: st) A := x_nx (op := o_iload 3 1) rfl rfl
theorem x_273_44n  : exG TB d 273 44 L [b0, .null] A = exG TB d 273 50 L [.ref (nx A)] (newo A 34 8 (fun _ => none)) := x_nx (op := o_cvN [(12, 422)] 1 true 34 8 50) rfl rfl
theorem x_273_44  : exG TB d 273 44 L [b0, .ref p] A = kw0h [] (sel (gc A p) [(12, 422)]) [.ref p, b0] d 273 47 L [] A := x_c0b (op := o_cvN [(12, 422)] 1 true 34 8 50) rfl rfl x_hd rfl
theorem x_273_47  : exG TB d 273 47 L st A = exG TB d 273 75 L st A := x_nx (op := o_goto 75) rfl rfl
theorem x_273_50  : exG TB d 273 50 (a0 :: a1 :: a2 :: a3 :: a4 :: a5 :: r9) (v :: st) A = rg v (exG TB d 273 52 (a0 :: a1 :: a2 :: a3 :: a4 :: some v :: r9) st A) := x_rgt (op := o_astore 5 2) rfl rfl
theorem x_273_52  : exG TB d 273 52 (some v :: r9) st A = rg v (exG TB d 273 53 (some v :: r9) (v :: st) A) := x_rg (op := o_aload 0 1) rfl rfl
theorem x_273_53  : exG TB d 273 53 L (.ref p :: st) A = kv (gf A p 10) d 273 56 L st A := x_bd (op := o_get 10) rfl rfl (fun _ => rfl)
theorem x_273_56  : exG TB d 273 56 (a0 :: some v :: r9) st A = rg v (exG TB d 273 57 (a0 :: some v :: r9) (v :: st) A) := x_rg (op := o_aload 1 1) rfl rfl
theorem x_273_57  : exG TB d 273 57 L (.ref p :: st) A = kv (gf A p 133) d 273 60 L st A := x_bd (op := o_get 133) rfl rfl (fun _ => rfl)
theorem x_273_60  : exG TB d 273 60 L [b0, .ref p] A = kw (sel (gc A p) [(3, 47)]) [.ref p, b0] d 273 63 L [] A := x_cvb (op := o_cv [(3, 47)] 1 3 false none) rfl rfl x_noh rfl
theorem x_273_63n  : exG TB d 273 63 L (.null :: st) A = exG TB d 273 66 L (.null :: st) A := x_nx (op := o_cast [13]) rfl rfl
theorem x_273_63r  : exG TB d 273 63 L (.ref p :: st) A = ck (cin (gcs A p) [13]) (exG TB d 273 66 L (.ref p :: st) A) := x_gd (op := o_cast [13]) rfl rfl
theorem x_273_66  : exG TB d 273 66 L (v :: st) A = ck (c1 v) (exG TB d 273 67 L (v :: v :: st) A) := x_gd (op := o_dup) rfl rfl
theorem x_273_67  : exG TB d 273 67 L (.ref p :: st) A = kv (gf A p 71) d 273 70 L st A := x_bd (op := o_get 71) rfl rfl (fun _ => rfl)
theorem x_273_70  : exG TB d 273 70 (a0 :: a1 :: a2 :: some (.int i1) :: r9) st A = exG TB d 273 71 (a0 :: a1 :: a2 :: some (.int i1) :: r9) (.int i1 :: st) A := x_nx (op := o_iload 3 1) rfl rfl
theorem x_273_71  : exG TB d 273 71 L (.int i2 :: .int i1 :: st) A = exG TB d 273 72 L (.int (i1 - i2) :: st) A := x_nx (op := o_iop (fun x y => x - y)) rfl rfl
theorem x_273_72  : exG TB d 273 72 L (v :: .ref p :: st) A = ck ((gf A p 71).isSome && okv 1 v) (exG TB d 273 75 L st (setf A p 71 v)) := x_gd (op := o_put 71 1) rfl rfl
theorem x_273_75  : exG TB d 273 75 (a0 :: a1 :: a2 :: some (.int i1) :: r9) st A = exG TB d 273 76 (a0 :: a1 :: a2 :: some (.int i1) :: r9) (.int i1 :: st) A := x_nx (op := o_iload 3 1) rfl rfl
theorem x_273_76  : exG TB d 273 76 L [v] A = ck (okv 1 v) (some (.inl (some v), A)) := x_outg (op := o_ret 1) rfl rfl
theorem e_274 {j2 : Int32} : evG TB (d + 1) 274 [.ref p, b1, .int j2] A = rg b1 (exG TB d 274 0 [some (.ref p), some (b1), some (.int j2)] [] A) := by
  rw [evG_eq]
  show (bif (true && (isR b1 && (true && true))) then exG TB d 274 0 [some (.ref p), some (b1), some (.int j2)] [] A else none) = _
  unfold rg
  cases isR b1 <;> rfl
theorem x_274_0  : exG TB d 274 0 (a0 :: a1 :: some (.int i1) :: r9) st A = exG TB d 274 1 (a0 :: a1 :: some (.int i1) :: r9) (.int i1 :: st) A := x_nx (op := o_iload 2 1) rfl rfl
theorem x_274_1  : exG TB d 274 1 L (.int i1 :: st) A = if ¬ i1 = nI 0 then exG TB d 274 12 L st A else exG TB d 274 4 L st A := x_if (op := o_if (fun x => decide (¬ x = 0)) 12) rfl rfl rfl
theorem x_274_4  : exG TB d 274 4 (some v :: r9) st A = rg v (exG TB d 274 5 (some v :: r9) (v :: st) A) := x_rg (op := o_aload 0 1) rfl rfl
theorem x_274_5  : exG TB d 274 5 (a0 :: some v :: r9) st A = rg v (exG TB d 274 6 (a0 :: some v :: r9) (v :: st) A) := x_rg (op := o_aload 1 1) rfl rfl
theorem x_274_6  : exG TB d 274 6 L [b0, .ref p] A = kw (sel (gc A p) [(1, 275)]) [.ref p, b0] d 274 9 L [] A := x_cvb (op := o_cv [(1, 275)] 1 3 false none) rfl rfl x_noh rfl
theorem x_274_9  : exG TB d 274 9 L st A = exG TB d 274 30 L st A := x_nx (op := o_goto 30) rfl rfl
theorem x_274_12  : exG TB d 274 12 (a0 :: a1 :: some (.int i1) :: r9) st A = exG TB d 274 13 (a0 :: a1 :: some (.int i1) :: r9) (.int i1 :: st) A := x_nx (op := o_iload 2 1) rfl rfl
theorem x_274_13  : exG TB d 274 13 L st A = exG TB d 274 14 L (.int (nI 1) :: st) A := x_nx (op := o_push 1 (.int 1)) rfl rfl
theorem x_274_14  : exG TB d 274 14 L (.int i2 :: .int i1 :: st) A = if ¬ i1 = i2 then exG TB d 274 25 L st A else exG TB d 274 17 L st A := x_if (op := o_icmp (fun x y => decide (¬ x = y)) 25) rfl rfl rfl
theorem x_274_17  : exG TB d 274 17 (some v :: r9) st A = rg v (exG TB d 274 18 (some v :: r9) (v :: st) A) := x_rg (op := o_aload 0 1) rfl rfl
theorem x_274_18  : exG TB d 274 18 (a0 :: some v :: r9) st A = rg v (exG TB d 274 19 (a0 :: some v :: r9) (v :: st) A) := x_rg (op := o_aload 1 1) rfl rfl
theorem x_274_19  : exG TB d 274 19 L [b0, .ref p] A = kw (sel (gc A p) [(1, 276)]) [.ref p, b0] d 274 22 L [] A := x_cvb (op := o_cv [(1, 276)] 1 3 false none) rfl rfl x_noh rfl
theorem x_274_22  : exG TB d 274 22 L st A = exG TB d 274 30 L st A := x_nx (op := o_goto 30) rfl rfl
theorem x_274_25  : exG TB d 274 25 (some v :: r9) st A = rg v (exG TB d 274 26 (some v :: r9) (v :: st) A) := x_rg (op := o_aload 0 1) rfl rfl
theorem x_274_26  : exG TB d 274 26 (a0 :: some v :: r9) st A = rg v (exG TB d 274 27 (a0 :: some v :: r9) (v :: st) A) := x_rg (op := o_aload 1 1) rfl rfl
theorem x_274_27  : exG TB d 274 27 L [b0, .ref p] A = kw (sel (gc A p) [(1, 277)]) [.ref p, b0] d 274 30 L [] A := x_cvb (op := o_cv [(1, 277)] 1 3 false none) rfl rfl x_noh rfl
theorem x_274_30  : exG TB d 274 30 L [v] A = ck (okv 1 v) (some (.inl (some v), A)) := x_outg (op := o_ret 1) rfl rfl
theorem e_275  : evG TB (d + 1) 275 [.ref p, b1] A = rg b1 (exG TB d 275 0 [some (.ref p), some (b1), none, none] [] A) := by
  rw [evG_eq]
  show (bif (true && (isR b1 && true)) then exG TB d 275 0 [some (.ref p), some (b1), none, none] [] A else none) = _
  unfold rg
  cases isR b1 <;> rfl
theorem x_275_0  : exG TB d 275 0 L st A = exG TB d 275 2 L (.int (nI 101) :: st) A := x_nx (op := o_push 2 (.int 101)) rfl rfl
theorem x_275_2  : exG TB d 275 2 (a0 :: a1 :: a2 :: r9) (.int i1 :: st) A = exG TB d 275 3 (a0 :: a1 :: some (.int i1) :: r9) st A := x_nx (op := o_istore 2 1) rfl rfl
theorem x_275_3  : exG TB d 275 3 L st A = exG TB d 275 4 L (.int (nI 0) :: st) A := x_nx (op := o_push 1 (.int 0)) rfl rfl
theorem x_275_4  : exG TB d 275 4 (a0 :: a1 :: a2 :: a3 :: r9) (.int i1 :: st) A = exG TB d 275 5 (a0 :: a1 :: a2 :: some (.int i1) :: r9) st A := x_nx (op := o_istore 3 1) rfl rfl
theorem x_275_5  : exG TB d 275 5 (a0 :: a1 :: a2 :: some (.int i1) :: r9) st A = exG TB d 275 6 (a0 :: a1 :: a2 :: some (.int i1) :: r9) (.int i1 :: st) A := x_nx (op := o_iload 3 1) rfl rfl
theorem x_275_6  : exG TB d 275 6 (a0 :: some v :: r9) st A = rg v (exG TB d 275 7 (a0 :: some v :: r9) (v :: st) A) := x_rg (op := o_aload 1 1) rfl rfl
theorem x_275_7  : exG TB d 275 7 L (.ref p :: st) A = kv (gf A p 140) d 275 10 L st A := x_bd (op := o_get 140) rfl rfl (fun _ => rfl)
theorem x_275_10  : exG TB d 275 10 L (.ref p :: st) A = kv (gf A p 127) d 275 13 L st A := x_bd (op := o_get 127) rfl rfl (fun _ => rfl)
theorem x_275_13  : exG TB d 275 13 L [.ref p, w0] A = kw (sel (gc A p) [(3, 42)]) [.ref p] d 275 16 L [w0] A := x_cvb (op := o_cv [(3, 42)] 0 3 false none) rfl rfl x_noh rfl
theorem x_275_16  : exG TB d 275 16 L (.int i2 :: .int i1 :: st) A = if i2 ≤ i1 then exG TB d 275 47 L st A else exG TB d 275 19 L st A := x_if (op := o_icmp (fun x y => decide (y ≤ x)) 47) rfl rfl rfl
theorem x_275_19  : exG TB d 275 19 (a0 :: a1 :: some (.int i1) :: r9) st A = exG TB d 275 20 (a0 :: a1 :: some (.int i1) :: r9) (.int i1 :: st) A := x_nx (op := o_iload 2 1) rfl rfl
theorem x_275_20  : exG TB d 275 20 (a0 :: some v :: r9) st A = rg v (exG TB d 275 21 (a0 :: some v :: r9) (v :: st) A) := x_rg (op := o_aload 1 1) rfl rfl
theorem x_275_21  : exG TB d 275 21 L (.ref p :: st) A = kv (gf A p 140) d 275 24 L st A := x_bd (op := o_get 140) rfl rfl (fun _ => rfl)
theorem x_275_24  : exG TB d 275 24 L (.ref p :: st) A = kv (gf A p 127) d 275 27 L st A := x_bd (op := o_get 127) rfl rfl (fun _ => rfl)
theorem x_275_27  : exG TB d 275 27 (a0 :: a1 :: a2 :: some (.int i1) :: r9) st A = exG TB d 275 28 (a0 :: a1 :: a2 :: some (.int i1) :: r9) (.int i1 :: st) A := x_nx (op := o_iload 3 1) rfl rfl
theorem x_275_28  : exG TB d 275 28 L [b0, .ref p, w0] A = kw (sel (gc A p) [(3, 47)]) [.ref p, b0] d 275 31 L [w0] A := x_cvb (op := o_cv [(3, 47)] 1 3 false none) rfl rfl x_noh rfl
theorem x_275_31n  : exG TB d 275 31 L (.null :: st) A = exG TB d 275 34 L (.null :: st) A := x_nx (op := o_cast [17]) rfl rfl
theorem x_275_31r  : exG TB d 275 31 L (.ref p :: st) A = ck (cin (gcs A p) [17]) (exG TB d 275 34 L (.ref p :: st) A) := x_gd (op := o_cast [17]) rfl rfl
theorem x_275_34  : exG TB d 275 34 L (.ref p :: st) A = kv (gf A p 94) d 275 37 L st A := x_bd (op := o_get 94) rfl rfl (fun _ => rfl)
theorem x_275_37  : exG TB d 275 37 L [b1, b0] A = kc (evG TB d 7 [b0, b1] A) d 275 40 L [] := x_cv (op := o_cs 7 2 false none) rfl rfl x_noh rfl
theorem x_275_40  : exG TB d 275 40 (a0 :: a1 :: a2 :: r9) (.int i1 :: st) A = exG TB d 275 41 (a0 :: a1 :: some (.int i1) :: r9) st A := x_nx (op := o_istore 2 1) rfl rfl
theorem x_275_41  : exG TB d 275 41 (a0 :: a1 :: a2 :: some (.int i1) :: r9) st A = exG TB d 275 44 (a0 :: a1 :: a2 :: some (.int (i1 + (nI 1))) :: r9) st A := x_nx (op := o_iinc 3 1) rfl rfl
theorem x_275_44  : exG TB d 275 44 L st A = exG TB d 275 5 L st A := x_nx (op := o_goto 5) rfl rfl
theorem x_275_47  : exG TB d 275 47 (a0 :: some v :: r9) st A = rg v (exG TB d 275 48 (a0 :: some v :: r9) (v :: st) A) := x_rg (op := o_aload 1 1) rfl rfl
theorem x_275_48  : exG TB d 275 48 L [.ref p] A = kw (sel (gc A p) [(27, 251)]) [.ref p] d 275 51 L [] A := x_cvb (op := o_cv [(27, 251)] 0 3 false none) rfl rfl x_noh rfl
theorem x_275_51  : exG TB d 275 51 (a0 :: some v :: r9) st A = rg v (exG TB d 275 52 (a0 :: some v :: r9) (v :: st) A) := x_rg (op := o_aload 1 1) rfl rfl
theorem x_275_52  : exG TB d 275 52 L (.ref p :: st) A = kv (gf A p 140) d 275 55 L st A := x_bd (op := o_get 140) rfl rfl (fun _ => rfl)
theorem x_275_55  : exG TB d 275 55 L (.ref p :: st) A = kv (gf A p 127) d 275 58 L st A := x_bd (op := o_get 127) rfl rfl (fun _ => rfl)
theorem x_275_58  : exG TB d 275 58 L [.ref p, w0] A = kw (sel (gc A p) [(3, 42)]) [.ref p] d 275 61 L [w0] A := x_cvb (op := o_cv [(3, 42)] 0 3 false none) rfl rfl x_noh rfl
theorem x_275_61  : exG TB d 275 61 L (.int i2 :: .int i1 :: st) A = if ¬ i1 = i2 then exG TB d 275 78 L st A else exG TB d 275 64 L st A := x_if (op := o_icmp (fun x y => decide (¬ x = y)) 78) rfl rfl rfl
theorem x_275_64  : exG TB d 275 64 (a0 :: a1 :: some (.int i1) :: r9) st A = exG TB d 275 65 (a0 :: a1 :: some (.int i1) :: r9) (.int i1 :: st) A := x_nx (op := o_iload 2 1) rfl rfl
theorem x_275_65  : exG TB d 275 65 (some v :: r9) st A = rg v (exG TB d 275 66 (some v :: r9) (v :: st) A) := x_rg (op := o_aload 0 1) rfl rfl
theorem x_275_66  : exG TB d 275 66 L (.ref p :: st) A = kv (gf A p 7) d 275 69 L st A := x_bd (op := o_get 7) rfl rfl (fun _ => rfl)
theorem x_275_69  : exG TB d 275 69 L st A = exG TB d 275 70 L (.int (nI 5) :: st) A := x_nx (op := o_push 1 (.int 5)) rfl rfl
theorem x_275_70  : exG TB d 275 70 L (.int i1 :: .ref p :: st) A = ki (rdI 0 (ga A p) i1) d 275 71 L st A := x_bd (op := o_rdI 0) rfl rfl (fun _ => rfl)
theorem x_275_71  : exG TB d 275 71 L (.int i2 :: .int i1 :: st) A = if i2 ≤ i1 then exG TB d 275 78 L st A else exG TB d 275 74 L st A := x_if (op := o_icmp (fun x y => decide (y ≤ x)) 78) rfl rfl rfl
theorem x_275_74  : exG TB d 275 74 L st A = exG TB d 275 75 L (.int (nI 1) :: st) A := x_nx (op := o_push 1 (.int 1)) rfl rfl
theorem x_275_75  : exG TB d 275 75 L st A = exG TB d 275 79 L st A := x_nx (op := o_goto 79) rfl rfl
theorem x_275_78  : exG TB d 275 78 L st A = exG TB d 275 79 L (.int (nI 0) :: st) A := x_nx (op := o_push 1 (.int 0)) rfl rfl
theorem x_275_79  : exG TB d 275 79 (a0 :: a1 :: a2 :: a3 :: r9) (.int i1 :: st) A = exG TB d 275 80 (a0 :: a1 :: a2 :: some (.int i1) :: r9) st A := x_nx (op := o_istore 3 1) rfl rfl
theorem x_275_80  : exG TB d 275 80 (a0 :: a1 :: a2 :: some (.int i1) :: r9) st A = exG TB d 275 81 (a0 :: a1 :: a2 :: some (.int i1) :: r9) (.int i1 :: st) A := x_nx (op := o_iload 3 1) rfl rfl
theorem x_275_81  : exG TB d 275 81 L (.int i1 :: st) A = if i1 = nI 0 then exG TB d 275 91 L st A else exG TB d 275 84 L st A := x_if (op := o_if (fun x => decide (x = 0)) 91) rfl rfl rfl
theorem x_275_84  : exG TB d 275 84 (a0 :: some v :: r9) st A = rg v (exG TB d 275 85 (a0 :: some v :: r9) (v :: st) A) := x_rg (op := o_aload 1 1) rfl rfl
theorem x_275_85  : exG TB d 275 85 L (.ref p :: st) A = kv (gf A p 135) d 275 88 L st A := x_bd (op := o_get 135) rfl rfl (fun _ => rfl)
theorem x_275_88  : exG TB d 275 88 L st A = exG TB d 275 92 L st A := x_nx (op := o_goto 92) rfl rfl
theorem x_275_91  : exG TB d 275 91 L st A = exG TB d 275 92 L (.int (nI 0) :: st) A := x_nx (op := o_push 1 (.int 0)) rfl rfl
theorem x_275_92  : exG TB d 275 92 L [v] A = ck (okv 1 v) (some (.inl (some v), A)) := x_outg (op := o_ret 1) rfl rfl
theorem e_276  : evG TB (d + 1) 276 [.ref p, b1] A = rg b1 (exG TB d 276 0 [some (.ref p), some (b1), none, none, none] [] A) := by
  rw [evG_eq]
  show (bif (true && (isR b1 && true)) then exG TB d 276 0 [some (.ref p), some (b1), none, none, none] [] A else none) = _
  unfold rg
  cases isR b1 <;> rfl
theorem x_276_0  : exG TB d 276 0 (a0 :: some v :: r9) st A = rg v (exG TB d 276 1 (a0 :: some v :: r9) (v :: st) A) := x_rg (op := o_aload 1 1) rfl rfl
theorem x_276_1  : exG TB d 276 1 L (.ref p :: st) A = kv (gf A p 140) d 276 4 L st A := x_bd (op := o_get 140) rfl rfl (fun _ => rfl)
theorem x_276_4  : exG TB d 276 4 (a0 :: a1 :: a2 :: r9) (v :: st) A = rg v (exG TB d 276 5 (a0 :: a1 :: some v :: r9) st A) := x_rgt (op := o_astore 2 1) rfl rfl
theorem x_276_5  : exG TB d 276 5 (some v :: r9) st A = rg v (exG TB d 276 6 (some v :: r9) (v :: st) A) := x_rg (op := o_aload 0 1) rfl rfl
theorem x_276_6  : exG TB d 276 6 (a0 :: a1 :: some v :: r9) st A = rg v (exG TB d 276 7 (a0 :: a1 :: some v :: r9) (v :: st) A) := x_rg (op := o_aload 2 1) rfl rfl
theorem x_276_7  : exG TB d 276 7 L (.ref p :: st) A = kv (gf A p 128) d 276 10 L st A := x_bd (op := o_get 128) rfl rfl (fun _ => rfl)
theorem x_276_10  : exG TB d 276 10 L st A = exG TB d 276 11 L (.int (nI 0) :: st) A := x_nx (op := o_push 1 (.int 0)) rfl rfl
theorem x_276_11  : exG TB d 276 11 L [b0, .ref p, w0] A = kw (sel (gc A p) [(3, 47)]) [.ref p, b0] d 276 14 L [w0] A := x_cvb (op := o_cv [(3, 47)] 1 3 false none) rfl rfl x_noh rfl
theorem x_276_14n  : exG TB d 276 14 L (.null :: st) A = exG TB d 276 17 L (.null :: st) A := x_nx (op := o_cast [21]) rfl rfl
theorem x_276_14r  : exG TB d 276 14 L (.ref p :: st) A = ck (cin (gcs A p) [21]) (exG TB d 276 17 L (.ref p :: st) A) := x_gd (op := o_cast [21]) rfl rfl
theorem x_276_17  : exG TB d 276 17 L [.ref p, w0] A = kw (sel (gcs A p) [(21, 21)]) [.ref p] d 276 20 L [w0] A := x_cvb (op := o_cvs [(21, 21)] 0 3 false) rfl rfl x_noh rfl
theorem x_276_20  : exG TB d 276 20 (a0 :: a1 :: some v :: r9) st A = rg v (exG TB d 276 21 (a0 :: a1 :: some v :: r9) (v :: st) A) := x_rg (op := o_aload 2 1) rfl rfl
theorem x_276_21  : exG TB d 276 21 L (.ref p :: st) A = kv (gf A p 128) d 276 24 L st A := x_bd (op := o_get 128) rfl rfl (fun _ => rfl)
theorem x_276_24  : exG TB d 276 24 (a0 :: a1 :: some v :: r9) st A = rg v (exG TB d 276 25 (a0 :: a1 :: some v :: r9) (v :: st) A) := x_rg (op := o_aload 2 1) rfl rfl
theorem x_276_25  : exG TB d 276 25 L (.ref p :: st) A = kv (gf A p 128) d 276 28 L st A := x_bd (op := o_get 128) rfl rfl (fun _ => rfl)
theorem x_276_28  : exG TB d 276 28 L [.ref p, w0, w1, w2] A = kw (sel (gc A p) [(3, 42)]) [.ref p] d 276 31 L [w0, w1, w2] A := x_cvb (op := o_cv [(3, 42)] 0 3 false none) rfl rfl x_noh rfl
theorem x_276_31  : exG TB d 276 31 L st A = exG TB d 276 32 L (.int (nI 1) :: st) A := x_nx (op := o_push 1 (.int 1)) rfl rfl
theorem x_276_32  : exG TB d 276 32 L (.int i2 :: .int i1 :: st) A = exG TB d 276 33 L (.int (i1 - i2) :: st) A := x_nx (op := o_iop (fun x y => x - y)) rfl rfl
theorem x_276_33  : exG TB d 276 33 L [b0, .ref p, w0, w1] A = kw (sel (gc A p) [(3, 47)]) [.ref p, b0] d 276 36 L [w0, w1] A := x_cvb (op := o_cv [(3, 47)] 1 3 false none) rfl rfl x_noh rfl
theorem x_276_36n  : exG TB d 276 36 L (.null :: st) A = exG TB d 276 39 L (.null :: st) A := x_nx (op := o_cast [21]) rfl rfl
theorem x_276_36r  : exG TB d 276 36 L (.ref p :: st) A = ck (cin (gcs A p) [21]) (exG TB d 276 39 L (.ref p :: st) A) := x_gd (op := o_cast [21]) rfl rfl
theorem x_276_39  : exG TB d 276 39 L [.ref p, w0, w1] A = kw (sel (gcs A p) [(21, 21)]) [.ref p] d 276 42 L [w0, w1] A := x_cvb (op := o_cvs [(21, 21)] 0 3 false) rfl rfl x_noh rfl
theorem x_276_42  : exG TB d 276 42 L [b1, b0, .ref p] A = kw (sel (gc A p) [(1, 261)]) [.ref p, b0, b1] d 276 45 L [] A := x_cvb (op := o_cv [(1, 261)] 2 3 false none) rfl rfl x_noh rfl
theorem x_276_45  : exG TB d 276 45 (a0 :: a1 :: some v :: r9) st A = rg v (exG TB d 276 46 (a0 :: a1 :: some v :: r9) (v :: st) A) := x_rg (op := o_aload 2 1) rfl rfl
theorem x_276_46  : exG TB d 276 46 L (.ref p :: st) A = kv (gf A p 126) d 276 49 L st A := x_bd (op := o_get 126) rfl rfl (fun _ => rfl)
theorem x_276_49  : exG TB d 276 49 L (.int i2 :: .int i1 :: st) A = exG TB d 276 50 L (.int (i1 * i2) :: st) A := x_nx (op := o_iop (fun x y => x * y)) rfl rfl
theorem x_276_50  : exG TB d 276 50 (a0 :: a1 :: a2 :: a3 :: r9) (.int i1 :: st) A = exG TB d 276 51 (a0 :: a1 :: a2 :: some (.int i1) :: r9) st A := x_nx (op := o_istore 3 1) rfl rfl
theorem x_276_51  : exG TB d 276 51 (a0 :: a1 :: some v :: r9) st A = rg v (exG TB d 276 52 (a0 :: a1 :: some v :: r9) (v :: st) A) := x_rg (op := o_aload 2 1) rfl rfl
theorem x_276_52  : exG TB d 276 52 L (.ref p :: st) A = kv (gf A p 130) d 276 55 L st A := x_bd (op := o_get 130) rfl rfl (fun _ => rfl)
theorem x_276_55  : exG TB d 276 55 L (.int i1 :: st) A = if i1 ≤ nI 0 then exG TB d 276 74 L st A else exG TB d 276 58 L st A := x_if (op := o_if (fun x => decide (x ≤ 0)) 74) rfl rfl rfl
theorem x_276_58  : exG TB d 276 58 (a0 :: a1 :: a2 :: some (.int i1) :: r9) st A = exG TB d 276 59 (a0 :: a1 :: a2 :: some (.int i1) :: r9) (.int i1 :: st) A := x_nx (op := o_iload 3 1) rfl rfl
theorem x_276_59  : exG TB d 276 59 L (.int i1 :: st) A = if i1 < nI 0 then exG TB d 276 74 L st A else exG TB d 276 62 L st A := x_if (op := o_if (fun x => decide (x < 0)) 74) rfl rfl rfl
theorem x_276_62  : exG TB d 276 62 (a0 :: a1 :: a2 :: some (.int i1) :: r9) st A = exG TB d 276 63 (a0 :: a1 :: a2 :: some (.int i1) :: r9) (.int i1 :: st) A := x_nx (op := o_iload 3 1) rfl rfl
theorem x_276_63  : exG TB d 276 63 (a0 :: some v :: r9) st A = rg v (exG TB d 276 64 (a0 :: some v :: r9) (v :: st) A) := x_rg (op := o_aload 1 1) rfl rfl
theorem x_276_64  : exG TB d 276 64 L (.ref p :: st) A = kv (gf A p 136) d 276 67 L st A := x_bd (op := o_get 136) rfl rfl (fun _ => rfl)
theorem x_276_67  : exG TB d 276 67 L (.int i2 :: .int i1 :: st) A = if i2 ≤ i1 then exG TB d 276 74 L st A else exG TB d 276 70 L st A := x_if (op := o_icmp (fun x y => decide (y ≤ x)) 74) rfl rfl rfl
theorem x_276_70  : exG TB d 276 70 L st A = exG TB d 276 71 L (.int (nI 1) :: st) A := x_nx (op := o_push 1 (.int 1)) rfl rfl
theorem x_276_71  : exG TB d 276 71 L st A = exG TB d 276 75 L st A := x_nx (op := o_goto 75) rfl rfl
theorem x_276_74  : exG TB d 276 74 L st A = exG TB d 276 75 L (.int (nI 0) :: st) A := x_nx (op := o_push 1 (.int 0)) rfl rfl
theorem x_276_75  : exG TB d 276 75 (a0 :: a1 :: a2 :: a3 :: a4 :: r9) (.int i1 :: st) A = exG TB d 276 77 (a0 :: a1 :: a2 :: a3 :: some (.int i1) :: r9) st A := x_nx (op := o_istore 4 2) rfl rfl
theorem x_276_77  : exG TB d 276 77 (a0 :: a1 :: a2 :: a3 :: some (.int i1) :: r9) st A = exG TB d 276 79 (a0 :: a1 :: a2 :: a3 :: some (.int i1) :: r9) (.int i1 :: st) A := x_nx (op := o_iload 4 2) rfl rfl
theorem x_276_79  : exG TB d 276 79 L (.int i1 :: st) A = if i1 = nI 0 then exG TB d 276 95 L st A else exG TB d 276 82 L st A := x_if (op := o_if (fun x => decide (x = 0)) 95) rfl rfl rfl
theorem x_276_82  : exG TB d 276 82 (a0 :: some v :: r9) st A = rg v (exG TB d 276 83 (a0 :: some v :: r9) (v :: st) A) := x_rg (op := o_aload 1 1) rfl rfl
theorem x_276_83  : exG TB d 276 83 L (.ref p :: st) A = kv (gf A p 135) d 276 86 L st A := x_bd (op := o_get 135) rfl rfl (fun _ => rfl)
theorem x_276_86  : exG TB d 276 86 (a0 :: some v :: r9) st A = rg v (exG TB d 276 87 (a0 :: some v :: r9) (v :: st) A) := x_rg (op := o_aload 1 1) rfl rfl
theorem x_276_87  : exG TB d 276 87 (a0 :: a1 :: a2 :: some (.int i1) :: r9) st A = exG TB d 276 88 (a0 :: a1 :: a2 :: some (.int i1) :: r9) (.int i1 :: st) A := x_nx (op := o_iload 3 1) rfl rfl
theorem x_276_88  : exG TB d 276 88 L [b0, .ref p, w0] A = kw (sel (gc A p) [(27, 252)]) [.ref p, b0] d 276 91 L [w0] A := x_cvb (op := o_cv [(27, 252)] 1 3 false none) rfl rfl x_noh rfl
theorem x_276_91  : exG TB d 276 91 L (.int i2 :: .int i1 :: st) A = exG TB d 276 92 L (.int (i1 - i2) :: st) A := x_nx (op := o_iop (fun x y => x - y)) rfl rfl
theorem x_276_92  : exG TB d 276 92 L st A = exG TB d 276 96 L st A := x_nx (op := o_goto 96) rfl rfl
theorem x_276_95  : exG TB d 276 95 L st A = exG TB d 276 96 L (.int (nI 0) :: st) A := x_nx (op := o_push 1 (.int 0)) rfl rfl
theorem x_276_96  : exG TB d 276 96 L [v] A = ck (okv 1 v) (some (.inl (some v), A)) := x_outg (op := o_ret 1) rfl rfl
theorem e_277  : evG TB (d + 1) 277 [.ref p, b1] A = rg b1 (exG TB d 277 0 [some (.ref p), some (b1), none] [] A) := by
  rw [evG_eq]
  show (bif (true && (isR b1 && true)) then exG TB d 277 0 [some (.ref p), some (b1), none] [] A else none) = _
  unfold rg
  cases isR b1 <;> rfl
theorem x_277_0  : exG TB d 277 0 (a0 :: some v :: r9) st A = rg v (exG TB d 277 1 (a0 :: some v :: r9) (v :: st) A) := x_rg (op := o_aload 1 1) rfl rfl
theorem x_277_1  : exG TB d 277 1 L [.ref p] A = kw (sel (gc A p) [(27, 251)]) [.ref p] d 277 4 L [] A := x_cvb (op := o_cv [(27, 251)] 0 3 false none) rfl rfl x_noh rfl
theorem x_277_4  : exG TB d 277 4 (a0 :: a1 :: a2 :: r9) (.int i1 :: st) A = exG TB d 277 5 (a0 :: a1 :: some (.int i1) :: r9) st A := x_nx (op := o_istore 2 1) rfl rfl
theorem x_277_5  : exG TB d 277 5 (a0 :: a1 :: some (.int i1) :: r9) st A = exG TB d 277 6 (a0 :: a1 :: some (.int i1) :: r9) (.int i1 :: st) A := x_nx (op := o_iload 2 1) rfl rfl
theorem x_277_6  : exG TB d 277 6 L (.int i1 :: st) A = if i1 ≤ nI 0 then exG TB d 277 30 L st A else exG TB d 277 9 L st A := x_if (op := o_if (fun x => decide (x ≤ 0)) 30) rfl rfl rfl
theorem x_277_9  : exG TB d 277 9 (a0 :: a1 :: some (.int i1) :: r9) st A = exG TB d 277 10 (a0 :: a1 :: some (.int i1) :: r9) (.int i1 :: st) A := x_nx (op := o_iload 2 1) rfl rfl
theorem x_277_10  : exG TB d 277 10 (a0 :: some v :: r9) st A = rg v (exG TB d 277 11 (a0 :: some v :: r9) (v :: st) A) := x_rg (op := o_aload 1 1) rfl rfl
theorem x_277_11  : exG TB d 277 11 L (.ref p :: st) A = kv (gf A p 140) d 277 14 L st A := x_bd (op := o_get 140) rfl rfl (fun _ => rfl)
theorem x_277_14  : exG TB d 277 14 L (.ref p :: st) A = kv (gf A p 127) d 277 17 L st A := x_bd (op := o_get 127) rfl rfl (fun _ => rfl)
theorem x_277_17  : exG TB d 277 17 L [.ref p, w0] A = kw (sel (gc A p) [(3, 42)]) [.ref p] d 277 20 L [w0] A := x_cvb (op := o_cv [(3, 42)] 0 3 false none) rfl rfl x_noh rfl
theorem x_277_20  : exG TB d 277 20 L (.int i2 :: .int i1 :: st) A = if i2 ≤ i1 then exG TB d 277 30 L st A else exG TB d 277 23 L st A := x_if (op := o_icmp (fun x y => decide (y ≤ x)) 30) rfl rfl rfl
theorem x_277_23  : exG TB d 277 23 (a0 :: some v :: r9) st A = rg v (exG TB d 277 24 (a0 :: some v :: r9) (v :: st) A) := x_rg (op := o_aload 1 1) rfl rfl
theorem x_277_24  : exG TB d 277 24 L (.ref p :: st) A = kv (gf A p 138) d 277 27 L st A := x_bd (op := o_get 138) rfl rfl (fun _ => rfl)
theorem x_277_27  : exG TB d 277 27 L st A = exG TB d 277 31 L st A := x_nx (op := o_goto 31) rfl rfl
theorem x_277_30  : exG TB d 277 30 L st A = exG TB d 277 31 L (.int (nI 0) :: st) A := x_nx (op := o_push 1 (.int 0)) rfl rfl
theorem x_277_31  : exG TB d 277 31 L [v] A = ck (okv 1 v) (some (.inl (some v), A)) := x_outg (op := o_ret 1) rfl rfl
theorem e_278  : evG TB (d + 1) 278 [.ref p] A = exG TB d 278 0 [some (.ref p), none, none, none] [] A := evG_eq TB d 278 _ A
theorem x_278_0  : exG TB d 278 0 L st A = exG TB d 278 3 L (.ref (nx A) :: st) (newo A 1 8 dv1) := x_nx (op := o_new 1 8 dv1) rfl rfl
theorem x_278_3  : exG TB d 278 3 L (v :: st) A = ck (c1 v) (exG TB d 278 4 L (v :: v :: st) A) := x_gd (op := o_dup) rfl rfl
theorem x_278_4  : exG TB d 278 4 L [.ref p, w0] A = kc0 (evG TB d 256 [.ref p] A) d 278 7 L [w0] := x_c0 (op := o_ci 256 0) rfl rfl x_noh rfl
theorem x_278_7  : exG TB d 278 7 (a0 :: a1 :: r9) (v :: st) A = rg v (exG TB d 278 8 (a0 :: some v :: r9) st A) := x_rgt (op := o_astore 1 1) rfl rfl
theorem x_278_8  : exG TB d 278 8 (a0 :: some v :: r9) st A = rg v (exG TB d 278 9 (a0 :: some v :: r9) (v :: st) A) := x_rg (op := o_aload 1 1) rfl rfl
theorem x_278_9  : exG TB d 278 9 (some v :: r9) st A = rg v (exG TB d 278 10 (some v :: r9) (v :: st) A) := x_rg (op := o_aload 0 1) rfl rfl
theorem x_278_10  : exG TB d 278 10 L (.ref p :: st) A = kv (gf A p 6) d 278 13 L st A := x_bd (op := o_get 6) rfl rfl (fun _ => rfl)
theorem x_278_13  : exG TB d 278 13 L [.ref p, w0] A = kw (sel (gc A p) [(2, 286)]) [.ref p] d 278 16 L [w0] A := x_cvb (op := o_cv [(2, 286)] 0 3 false none) rfl rfl x_noh rfl
theorem x_278_16  : exG TB d 278 16 L (v :: .ref p :: st) A = ck ((gf A p 6).isSome && okv 0 v) (exG TB d 278 19 L st (setf A p 6 v)) := x_gd (op := o_put 6 0) rfl rfl
theorem x_278_19  : exG TB d 278 19 (a0 :: some v :: r9) st A = rg v (exG TB d 278 20 (a0 :: some v :: r9) (v :: st) A) := x_rg (op := o_aload 1 1) rfl rfl
theorem x_278_20  : exG TB d 278 20 (some v :: r9) st A = rg v (exG TB d 278 21 (some v :: r9) (v :: st) A) := x_rg (op := o_aload 0 1) rfl rfl
theorem x_278_21  : exG TB d 278 21 L (.ref p :: st) A = kv (gf A p 7) d 278 24 L st A := x_bd (op := o_get 7) rfl rfl (fun _ => rfl)
theorem x_278_24 (h9 : ga A p = some (0, (n9, .inl g9))) : exG TB d 278 24 L [.ref p, w0] A = exG TB d 278 27 L [.ref (nx A), w0] (newa A (0, (n9, .inl g9))) := x_nx (op := o_cln) rfl (by unfold o_cln; dsimp only; rw [h9]; rfl)
theorem x_278_27  : exG TB d 278 27 L (.ref p :: st) A = ck (atag (ga A p) 0) (exG TB d 278 30 L (.ref p :: st) A) := x_gd (op := o_casta 0) rfl rfl
theorem x_278_30  : exG TB d 278 30 L (v :: .ref p :: st) A = ck ((gf A p 7).isSome && okv 0 v) (exG TB d 278 33 L st (setf A p 7 v)) := x_gd (op := o_put 7 0) rfl rfl
theorem x_278_33  : exG TB d 278 33 L st A = exG TB d 278 34 L (.int (nI 0) :: st) A := x_nx (op := o_push 1 (.int 0)) rfl rfl
theorem x_278_34  : exG TB d 278 34 (a0 :: a1 :: a2 :: r9) (.int i1 :: st) A = exG TB d 278 35 (a0 :: a1 :: some (.int i1) :: r9) st A := x_nx (op := o_istore 2 1) rfl rfl
theorem x_278_35  : exG TB d 278 35 (a0 :: a1 :: some (.int i1) :: r9) st A = exG TB d 278 36 (a0 :: a1 :: some (.int i1) :: r9) (.int i1 :: st) A := x_nx (op := o_iload 2 1) rfl rfl
theorem x_278_36  : exG TB d 278 36 (some v :: r9) st A = rg v (exG TB d 278 37 (some v :: r9) (v :: st) A) := x_rg (op := o_aload 0 1) rfl rfl
theorem x_278_37  : exG TB d 278 37 L (.ref p :: st) A = kv (gf A p 9) d 278 40 L st A := x_bd (op := o_get 9) rfl rfl (fun _ => rfl)
theorem x_278_40  : exG TB d 278 40 L (.int i2 :: .int i1 :: st) A = if i2 ≤ i1 then exG TB d 278 64 L st A else exG TB d 278 43 L st A := x_if (op := o_icmp (fun x y => decide (y ≤ x)) 64) rfl rfl rfl
theorem x_278_43  : exG TB d 278 43 (a0 :: some v :: r9) st A = rg v (exG TB d 278 44 (a0 :: some v :: r9) (v :: st) A) := x_rg (op := o_aload 1 1) rfl rfl
theorem x_278_44  : exG TB d 278 44 L (.ref p :: st) A = kv (gf A p 8) d 278 47 L st A := x_bd (op := o_get 8) rfl rfl (fun _ => rfl)
theorem x_278_47  : exG TB d 278 47 (a0 :: a1 :: some (.int i1) :: r9) st A = exG TB d 278 48 (a0 :: a1 :: some (.int i1) :: r9) (.int i1 :: st) A := x_nx (op := o_iload 2 1) rfl rfl
theorem x_278_48  : exG TB d 278 48 (some v :: r9) st A = rg v (exG TB d 278 49 (some v :: r9) (v :: st) A) := x_rg (op := o_aload 0 1) rfl rfl
theorem x_278_49  : exG TB d 278 49 L (.ref p :: st) A = kv (gf A p 8) d 278 52 L st A := x_bd (op := o_get 8) rfl rfl (fun _ => rfl)
theorem x_278_52  : exG TB d 278 52 (a0 :: a1 :: some (.int i1) :: r9) st A = exG TB d 278 53 (a0 :: a1 :: some (.int i1) :: r9) (.int i1 :: st) A := x_nx (op := o_iload 2 1) rfl rfl
theorem x_278_53  : exG TB d 278 53 L (.int i1 :: .ref p :: st) A = kq (rdQ (ga A p) i1) d 278 54 L st A := x_bd (op := o_rdQ) rfl rfl (fun _ => rfl)
theorem x_278_54  : exG TB d 278 54 L [.ref p, w0, w1] A = kw (sel (gc A p) [(12, 423)]) [.ref p] d 278 57 L [w0, w1] A := x_cvb (op := o_cv [(12, 423)] 0 3 false none) rfl rfl x_noh rfl
theorem x_278_57r  : exG TB d 278 57 L (.ref q :: .int i1 :: .ref p :: st) A = ck (atag (ga A p) 7 && okq A [12] (.ref q)) (ka (wrQ (ga A p) i1 (some q)) p d 278 58 L st A) := x_gb (op := o_wrQ 7 [12]) rfl rfl (fun _ => rfl)
theorem x_278_57n  : exG TB d 278 57 L (.null :: .int i1 :: .ref p :: st) A = ck (atag (ga A p) 7 && okq A [12] (.null)) (ka (wrQ (ga A p) i1 none) p d 278 58 L st A) := x_gb (op := o_wrQ 7 [12]) rfl rfl (fun _ => rfl)
theorem x_278_58  : exG TB d 278 58 (a0 :: a1 :: some (.int i1) :: r9) st A = exG TB d 278 61 (a0 :: a1 :: some (.int (i1 + (nI 1))) :: r9) st A := x_nx (op := o_iinc 2 1) rfl rfl
theorem x_278_61  : exG TB d 278 61 L st A = exG TB d 278 35 L st A := x_nx (op := o_goto 35) rfl rfl
theorem x_278_64  : exG TB d 278 64 (a0 :: some v :: r9) st A = rg v (exG TB d 278 65 (a0 :: some v :: r9) (v :: st) A) := x_rg (op := o_aload 1 1) rfl rfl
theorem x_278_65  : exG TB d 278 65 (some v :: r9) st A = rg v (exG TB d 278 66 (some v :: r9) (v :: st) A) := x_rg (op := o_aload 0 1) rfl rfl
theorem x_278_66  : exG TB d 278 66 L (.ref p :: st) A = kv (gf A p 9) d 278 69 L st A := x_bd (op := o_get 9) rfl rfl (fun _ => rfl)
theorem x_278_69  : exG TB d 278 69 L (v :: .ref p :: st) A = ck ((gf A p 9).isSome && okv 1 v) (exG TB d 278 72 L st (setf A p 9 v)) := x_gd (op := o_put 9 1) rfl rfl
theorem x_278_72  : exG TB d 278 72 (some v :: r9) st A = rg v (exG TB d 278 73 (some v :: r9) (v :: st) A) := x_rg (op := o_aload 0 1) rfl rfl
theorem x_278_73  : exG TB d 278 73 L (.ref p :: st) A = kv (gf A p 10) d 278 76 L st A := x_bd (op := o_get 10) rfl rfl (fun _ => rfl)
theorem x_278_76  : exG TB d 278 76 L [.ref p] A = kw (sel (gc A p) [(3, 40)]) [.ref p] d 278 79 L [] A := x_cvb (op := o_cv [(3, 40)] 0 3 false none) rfl rfl x_noh rfl
theorem x_278_79  : exG TB d 278 79 (a0 :: a1 :: a2 :: r9) (v :: st) A = rg v (exG TB d 278 80 (a0 :: a1 :: some v :: r9) st A) := x_rgt (op := o_astore 2 1) rfl rfl
theorem x_278_80  : exG TB d 278 80 (a0 :: a1 :: some v :: r9) st A = rg v (exG TB d 278 81 (a0 :: a1 :: some v :: r9) (v :: st) A) := x_rg (op := o_aload 2 1) rfl rfl
theorem x_278_81  : exG TB d 278 81 L [.ref p] A = kw (sel (gc A p) [(7, 50), (24, 86), (25, 92)]) [.ref p] d 278 86 L [] A := x_cvb (op := o_cv [(7, 50), (24, 86), (25, 92)] 0 5 false none) rfl rfl x_noh rfl
theorem x_278_86  : exG TB d 278 86 L (.int i1 :: st) A = if i1 = nI 0 then exG TB d 278 114 L st A else exG TB d 278 89 L st A := x_if (op := o_if (fun x => decide (x = 0)) 114) rfl rfl rfl
theorem x_278_89  : exG TB d 278 89 (a0 :: a1 :: some v :: r9) st A = rg v (exG TB d 278 90 (a0 :: a1 :: some v :: r9) (v :: st) A) := x_rg (op := o_aload 2 1) rfl rfl
theorem x_278_90  : exG TB d 278 90 L [.ref p] A = kw (sel (gc A p) [(7, 51), (24, 89), (25, 95)]) [.ref p] d 278 95 L [] A := x_cvb (op := o_cv [(7, 51), (24, 89), (25, 95)] 0 5 false none) rfl rfl x_noh rfl
theorem x_278_95n  : exG TB d 278 95 L (.null :: st) A = exG TB d 278 98 L (.null :: st) A := x_nx (op := o_cast [13]) rfl rfl
theorem x_278_95r  : exG TB d 278 95 L (.ref p :: st) A = ck (cin (gcs A p) [13]) (exG TB d 278 98 L (.ref p :: st) A) := x_gd (op := o_cast [13]) rfl rfl
theorem x_278_98  : exG TB d 278 98 (a0 :: a1 :: a2 :: a3 :: r9) (v :: st) A = rg v (exG TB d 278 99 (a0 :: a1 :: a2 :: some v :: r9) st A) := x_rgt (op := o_astore 3 1) rfl rfl
theorem x_278_99  : exG TB d 278 99 (a0 :: some v :: r9) st A = rg v (exG TB d 278 100 (a0 :: some v :: r9) (v :: st) A) := x_rg (op := o_aload 1 1) rfl rfl
theorem x_278_100  : exG TB d 278 100 L (.ref p :: st) A = kv (gf A p 10) d 278 103 L st A := x_bd (op := o_get 10) rfl rfl (fun _ => rfl)
theorem x_278_103  : exG TB d 278 103 (a0 :: a1 :: a2 :: some v :: r9) st A = rg v (exG TB d 278 104 (a0 :: a1 :: a2 :: some v :: r9) (v :: st) A) := x_rg (op := o_aload 3 1) rfl rfl
theorem x_278_104  : exG TB d 278 104 L [.ref p, w0] A = kw (sel (gc A p) [(13, 425)]) [.ref p] d 278 107 L [w0] A := x_cvb (op := o_cv [(13, 425)] 0 3 false none) rfl rfl x_noh rfl
theorem x_278_107  : exG TB d 278 107 L [b0, .ref p] A = kw (sel (gc A p) [(3, 43)]) [.ref p, b0] d 278 110 L [] A := x_cvb (op := o_cv [(3, 43)] 1 3 false none) rfl rfl x_noh rfl
theorem x_278_110  : exG TB d 278 110 L (v :: st) A = ck (c1 v) (exG TB d 278 111 L st A) := x_gd (op := o_pop) rfl rfl
theorem x_278_111  : exG TB d 278 111 L st A = exG TB d 278 80 L st A := x_nx (op := o_goto 80) rfl rfl
theorem x_278_114  : exG TB d 278 114 (some v :: r9) st A = rg v (exG TB d 278 115 (some v :: r9) (v :: st) A) := x_rg (op := o_aload 0 1) rfl rfl
theorem x_278_115  : exG TB d 278 115 L (.ref p :: st) A = kv (gf A p 11) d 278 118 L st A := x_bd (op := o_get 11) rfl rfl (fun _ => rfl)
theorem x_278_118  : exG TB d 278 118 L [.ref p] A = kw (sel (gc A p) [(3, 40)]) [.ref p] d 278 121 L [] A := x_cvb (op := o_cv [(3, 40)] 0 3 false none) rfl rfl x_noh rfl
theorem x_278_121  : exG TB d 278 121 (a0 :: a1 :: a2 :: r9) (v :: st) A = rg v (exG TB d 278 122 (a0 :: a1 :: some v :: r9) st A) := x_rgt (op := o_astore 2 1) rfl rfl
theorem x_278_122  : exG TB d 278 122 (a0 :: a1 :: some v :: r9) st A = rg v (exG TB d 278 123 (a0 :: a1 :: some v :: r9) (v :: st) A) := x_rg (op := o_aload 2 1) rfl rfl
theorem x_278_123  : exG TB d 278 123 L [.ref p] A = kw (sel (gc A p) [(7, 50), (24, 86), (25, 92)]) [.ref p] d 278 128 L [] A := x_cvb (op := o_cv [(7, 50), (24, 86), (25, 92)] 0 5 false none) rfl rfl x_noh rfl
theorem x_278_128  : exG TB d 278 128 L (.int i1 :: st) A = if i1 = nI 0 then exG TB d 278 156 L st A else exG TB d 278 131 L st A := x_if (op := o_if (fun x => decide (x = 0)) 156) rfl rfl rfl
theorem x_278_131  : exG TB d 278 131 (a0 :: a1 :: some v :: r9) st A = rg v (exG TB d 278 132 (a0 :: a1 :: some v :: r9) (v :: st) A) := x_rg (op := o_aload 2 1) rfl rfl
theorem x_278_132  : exG TB d 278 132 L [.ref p] A = kw (sel (gc A p) [(7, 51), (24, 89), (25, 95)]) [.ref p] d 278 137 L [] A := x_cvb (op := o_cv [(7, 51), (24, 89), (25, 95)] 0 5 false none) rfl rfl x_noh rfl
theorem x_278_137n  : exG TB d 278 137 L (.null :: st) A = exG TB d 278 140 L (.null :: st) A := x_nx (op := o_cast [17]) rfl rfl
theorem x_278_137r  : exG TB d 278 137 L (.ref p :: st) A = ck (cin (gcs A p) [17]) (exG TB d 278 140 L (.ref p :: st) A) := x_gd (op := o_cast [17]) rfl rfl
theorem x_278_140  : exG TB d 278 140 (a0 :: a1 :: a2 :: a3 :: r9) (v :: st) A = rg v (exG TB d 278 141 (a0 :: a1 :: a2 :: some v :: r9) st A) := x_rgt (op := o_astore 3 1) rfl rfl
theorem x_278_141  : exG TB d 278 141 (a0 :: some v :: r9) st A = rg v (exG TB d 278 142 (a0 :: some v :: r9) (v :: st) A) := x_rg (op := o_aload 1 1) rfl rfl
theorem x_278_142  : exG TB d 278 142 L (.ref p :: st) A = kv (gf A p 11) d 278 145 L st A := x_bd (op := o_get 11) rfl rfl (fun _ => rfl)
theorem x_278_145  : exG TB d 278 145 (a0 :: a1 :: a2 :: some v :: r9) st A = rg v (exG TB d 278 146 (a0 :: a1 :: a2 :: some v :: r9) (v :: st) A) := x_rg (op := o_aload 3 1) rfl rfl
theorem x_278_146  : exG TB d 278 146 L [.ref p, w0] A = kw (sel (gc A p) [(17, 237)]) [.ref p] d 278 149 L [w0] A := x_cvb (op := o_cv [(17, 237)] 0 3 false none) rfl rfl x_noh rfl
theorem x_278_149  : exG TB d 278 149 L [b0, .ref p] A = kw (sel (gc A p) [(3, 43)]) [.ref p, b0] d 278 152 L [] A := x_cvb (op := o_cv [(3, 43)] 1 3 false none) rfl rfl x_noh rfl
theorem x_278_152  : exG TB d 278 152 L (v :: st) A = ck (c1 v) (exG TB d 278 153 L st A) := x_gd (op := o_pop) rfl rfl
theorem x_278_153  : exG TB d 278 153 L st A = exG TB d 278 122 L st A := x_nx (op := o_goto 122) rfl rfl
theorem x_278_156  : exG TB d 278 156 (some v :: r9) st A = rg v (exG TB d 278 157 (some v :: r9) (v :: st) A) := x_rg (op := o_aload 0 1) rfl rfl
theorem x_278_157  : exG TB d 278 157 L (.ref p :: st) A = kv (gf A p 12) d 278 160 L st A := x_bd (op := o_get 12) rfl rfl (fun _ => rfl)
theorem x_278_160  : exG TB d 278 160 L [.ref p] A = kw (sel (gc A p) [(3, 40)]) [.ref p] d 278 163 L [] A := x_cvb (op := o_cv [(3, 40)] 0 3 false none) rfl rfl x_noh rfl
theorem x_278_163  : exG TB d 278 163 (a0 :: a1 :: a2 :: r9) (v :: st) A = rg v (exG TB d 278 164 (a0 :: a1 :: some v :: r9) st A) := x_rgt (op := o_astore 2 1) rfl rfl
theorem x_278_164  : exG TB d 278 164 (a0 :: a1 :: some v :: r9) st A = rg v (exG TB d 278 165 (a0 :: a1 :: some v :: r9) (v :: st) A) := x_rg (op := o_aload 2 1) rfl rfl
theorem x_278_165  : exG TB d 278 165 L [.ref p] A = kw (sel (gc A p) [(7, 50), (24, 86), (25, 92)]) [.ref p] d 278 170 L [] A := x_cvb (op := o_cv [(7, 50), (24, 86), (25, 92)] 0 5 false none) rfl rfl x_noh rfl
theorem x_278_170  : exG TB d 278 170 L (.int i1 :: st) A = if i1 = nI 0 then exG TB d 278 198 L st A else exG TB d 278 173 L st A := x_if (op := o_if (fun x => decide (x = 0)) 198) rfl rfl rfl
theorem x_278_173  : exG TB d 278 173 (a0 :: a1 :: some v :: r9) st A = rg v (exG TB d 278 174 (a0 :: a1 :: some v :: r9) (v :: st) A) := x_rg (op := o_aload 2 1) rfl rfl
theorem x_278_174  : exG TB d 278 174 L [.ref p] A = kw (sel (gc A p) [(7, 51), (24, 89), (25, 95)]) [.ref p] d 278 179 L [] A := x_cvb (op := o_cv [(7, 51), (24, 89), (25, 95)] 0 5 false none) rfl rfl x_noh rfl
theorem x_278_179n  : exG TB d 278 179 L (.null :: st) A = exG TB d 278 182 L (.null :: st) A := x_nx (op := o_cast [27]) rfl rfl
theorem x_278_179r  : exG TB d 278 179 L (.ref p :: st) A = ck (cin (gcs A p) [27]) (exG TB d 278 182 L (.ref p :: st) A) := x_gd (op := o_cast [27]) rfl rfl
theorem x_278_182  : exG TB d 278 182 (a0 :: a1 :: a2 :: a3 :: r9) (v :: st) A = rg v (exG TB d 278 183 (a0 :: a1 :: a2 :: some v :: r9) st A) := x_rgt (op := o_astore 3 1) rfl rfl
theorem x_278_183  : exG TB d 278 183 (a0 :: some v :: r9) st A = rg v (exG TB d 278 184 (a0 :: some v :: r9) (v :: st) A) := x_rg (op := o_aload 1 1) rfl rfl
theorem x_278_184  : exG TB d 278 184 L (.ref p :: st) A = kv (gf A p 12) d 278 187 L st A := x_bd (op := o_get 12) rfl rfl (fun _ => rfl)
theorem x_278_187  : exG TB d 278 187 (a0 :: a1 :: a2 :: some v :: r9) st A = rg v (exG TB d 278 188 (a0 :: a1 :: a2 :: some v :: r9) (v :: st) A) := x_rg (op := o_aload 3 1) rfl rfl
theorem x_278_188  : exG TB d 278 188 L [.ref p, w0] A = kw (sel (gc A p) [(27, 253)]) [.ref p] d 278 191 L [w0] A := x_cvb (op := o_cv [(27, 253)] 0 3 false none) rfl rfl x_noh rfl
theorem x_278_191  : exG TB d 278 191 L [b0, .ref p] A = kw (sel (gc A p) [(3, 43)]) [.ref p, b0] d 278 194 L [] A := x_cvb (op := o_cv [(3, 43)] 1 3 false none) rfl rfl x_noh rfl
theorem x_278_194  : exG TB d 278 194 L (v :: st) A = ck (c1 v) (exG TB d 278 195 L st A) := x_gd (op := o_pop) rfl rfl
theorem x_278_195  : exG TB d 278 195 L st A = exG TB d 278 164 L st A := x_nx (op := o_goto 164) rfl rfl
theorem x_278_198  : exG TB d 278 198 (some v :: r9) st A = rg v (exG TB d 278 199 (some v :: r9) (v :: st) A) := x_rg (op := o_aload 0 1) rfl rfl
theorem x_278_199  : exG TB d 278 199 L (.ref p :: st) A = kv (gf A p 13) d 278 202 L st A := x_bd (op := o_get 13) rfl rfl (fun _ => rfl)
theorem x_278_202  : exG TB d 278 202 L [.ref p] A = kw (sel (gc A p) [(6, 38)]) [.ref p] d 278 205 L [] A := x_cvb (op := o_cv [(6, 38)] 0 3 false none) rfl rfl x_noh rfl
theorem x_278_205  : exG TB d 278 205 L [.ref p] A = kw (sel (gc A p) [(29, 102)]) [.ref p] d 278 210 L [] A := x_cvb (op := o_cv [(29, 102)] 0 5 false none) rfl rfl x_noh rfl
theorem x_278_210  : exG TB d 278 210 (a0 :: a1 :: a2 :: r9) (v :: st) A = rg v (exG TB d 278 211 (a0 :: a1 :: some v :: r9) st A) := x_rgt (op := o_astore 2 1) rfl rfl
theorem x_278_211  : exG TB d 278 211 (a0 :: a1 :: some v :: r9) st A = rg v (exG TB d 278 212 (a0 :: a1 :: some v :: r9) (v :: st) A) := x_rg (op := o_aload 2 1) rfl rfl
theorem x_278_212  : exG TB d 278 212 L [.ref p] A = kw (sel (gc A p) [(7, 50), (24, 86), (25, 92)]) [.ref p] d 278 217 L [] A := x_cvb (op := o_cv [(7, 50), (24, 86), (25, 92)] 0 5 false none) rfl rfl x_noh rfl
theorem x_278_217  : exG TB d 278 217 L (.int i1 :: st) A = if i1 = nI 0 then exG TB d 278 259 L st A else exG TB d 278 220 L st A := x_if (op := o_if (fun x => decide (x = 0)) 259) rfl rfl rfl
theorem x_278_220  : exG TB d 278 220 (a0 :: a1 :: some v :: r9) st A = rg v (exG TB d 278 221 (a0 :: a1 :: some v :: r9) (v :: st) A) := x_rg (op := o_aload 2 1) rfl rfl
theorem x_278_221  : exG TB d 278 221 L [.ref p] A = kw (sel (gc A p) [(7, 51), (24, 89), (25, 95)]) [.ref p] d 278 226 L [] A := x_cvb (op := o_cv [(7, 51), (24, 89), (25, 95)] 0 5 false none) rfl rfl x_noh rfl
theorem x_278_226n  : exG TB d 278 226 L (.null :: st) A = exG TB d 278 229 L (.null :: st) A := x_nx (op := o_cast [22, 28]) rfl rfl
theorem x_278_226r  : exG TB d 278 226 L (.ref p :: st) A = ck (cin (gcs A p) [22, 28]) (exG TB d 278 229 L (.ref p :: st) A) := x_gd (op := o_cast [22, 28]) rfl rfl
theorem x_278_229  : exG TB d 278 229 (a0 :: a1 :: a2 :: a3 :: r9) (v :: st) A = rg v (exG TB d 278 230 (a0 :: a1 :: a2 :: some v :: r9) st A) := x_rgt (op := o_astore 3 1) rfl rfl
theorem x_278_230  : exG TB d 278 230 (a0 :: some v :: r9) st A = rg v (exG TB d 278 231 (a0 :: some v :: r9) (v :: st) A) := x_rg (op := o_aload 1 1) rfl rfl
theorem x_278_231  : exG TB d 278 231 L (.ref p :: st) A = kv (gf A p 13) d 278 234 L st A := x_bd (op := o_get 13) rfl rfl (fun _ => rfl)
theorem x_278_234  : exG TB d 278 234 (a0 :: a1 :: a2 :: some v :: r9) st A = rg v (exG TB d 278 235 (a0 :: a1 :: a2 :: some v :: r9) (v :: st) A) := x_rg (op := o_aload 3 1) rfl rfl
theorem x_278_235  : exG TB d 278 235 L [.ref p, w0] A = kw (sel (gc A p) [(28, 98)]) [.ref p] d 278 240 L [w0] A := x_cvb (op := o_cv [(28, 98)] 0 5 false none) rfl rfl x_noh rfl
theorem x_278_240n  : exG TB d 278 240 L (.null :: st) A = exG TB d 278 243 L (.null :: st) A := x_nx (op := o_cast [8]) rfl rfl
theorem x_278_240r  : exG TB d 278 240 L (.ref p :: st) A = ck (cin (gcs A p) [8]) (exG TB d 278 243 L (.ref p :: st) A) := x_gd (op := o_cast [8]) rfl rfl
theorem x_278_243  : exG TB d 278 243 (a0 :: a1 :: a2 :: some v :: r9) st A = rg v (exG TB d 278 244 (a0 :: a1 :: a2 :: some v :: r9) (v :: st) A) := x_rg (op := o_aload 3 1) rfl rfl
theorem x_278_244  : exG TB d 278 244 L [.ref p, w0, w1] A = kw (sel (gc A p) [(28, 99)]) [.ref p] d 278 249 L [w0, w1] A := x_cvb (op := o_cv [(28, 99)] 0 5 false none) rfl rfl x_noh rfl
theorem x_278_249n  : exG TB d 278 249 L (.null :: st) A = exG TB d 278 252 L (.null :: st) A := x_nx (op := o_cast [21]) rfl rfl
theorem x_278_249r  : exG TB d 278 249 L (.ref p :: st) A = ck (cin (gcs A p) [21]) (exG TB d 278 252 L (.ref p :: st) A) := x_gd (op := o_cast [21]) rfl rfl
theorem x_278_252  : exG TB d 278 252 L [b1, b0, .ref p] A = kw (sel (gc A p) [(6, 32)]) [.ref p, b0, b1] d 278 255 L [] A := x_cvb (op := o_cv [(6, 32)] 2 3 false none) rfl rfl x_noh rfl
theorem x_278_255  : exG TB d 278 255 L (v :: st) A = ck (c1 v) (exG TB d 278 256 L st A) := x_gd (op := o_pop) rfl rfl
theorem x_278_256  : exG TB d 278 256 L st A = exG TB d 278 211 L st A := x_nx (op := o_goto 211) rfl rfl
theorem x_278_259  : exG TB d 278 259 (a0 :: some v :: r9) st A = rg v (exG TB d 278 260 (a0 :: some v :: r9) (v :: st) A) := x_rg (op := o_aload 1 1) rfl rfl
theorem x_278_260  : exG TB d 278 260 L [v] A = ck (okv 0 v) (some (.inl (some v), A)) := x_outg (op := o_ret 0) rfl rfl
theorem e_279 {j1 : Int32} {j2 : Int32} : evG TB (d + 1) 279 [.ref p, .int j1, .int j2] A = exG TB d 279 0 [some (.ref p), some (.int j1), some (.int j2)] [] A := evG_eq TB d 279 _ A
theorem x_279_0  : exG TB d 279 0 (some v :: r9) st A = rg v (exG TB d 279 1 (some v :: r9) (v :: st) A) := x_rg (op := o_aload 0 1) rfl rfl
theorem x_279_1  : exG TB d 279 1 L [.ref p] A = exG TB d 279 4 L [] A := x_nx (op := o_oi) rfl rfl
theorem x_279_4  : exG TB d 279 4 (some v :: r9) st A = rg v (exG TB d 279 5 (some v :: r9) (v :: st) A) := x_rg (op := o_aload 0 1) rfl rfl
theorem x_279_5  : exG TB d 279 5 (a0 :: some (.int i1) :: r9) st A = exG TB d 279 6 (a0 :: some (.int i1) :: r9) (.int i1 :: st) A := x_nx (op := o_iload 1 1) rfl rfl
theorem x_279_6  : exG TB d 279 6 L (v :: .ref p :: st) A = ck ((gf A p 41).isSome && okv 1 v) (exG TB d 279 9 L st (setf A p 41 v)) := x_gd (op := o_put 41 1) rfl rfl
theorem x_279_9  : exG TB d 279 9 (some v :: r9) st A = rg v (exG TB d 279 10 (some v :: r9) (v :: st) A) := x_rg (op := o_aload 0 1) rfl rfl
theorem x_279_10  : exG TB d 279 10 (a0 :: a1 :: some (.int i1) :: r9) st A = exG TB d 279 11 (a0 :: a1 :: some (.int i1) :: r9) (.int i1 :: st) A := x_nx (op := o_iload 2 1) rfl rfl
theorem x_279_11  : exG TB d 279 11 L (v :: .ref p :: st) A = ck ((gf A p 42).isSome && okv 5 v) (exG TB d 279 14 L st (setf A p 42 v)) := x_gd (op := o_put 42 5) rfl rfl
theorem x_279_14  : exG TB d 279 14 L [] A = some (.inl none, A) := x_out (op := o_vret) rfl rfl
theorem e_280  : evG TB (d + 1) 280 [.ref p] A = exG TB d 280 0 [some (.ref p)] [] A := evG_eq TB d 280 _ A
theorem x_280_0  : exG TB d 280 0 L st A = exG TB d 280 1 L (.int (nI 2) :: st) A := x_nx (op := o_push 1 (.int 2)) rfl rfl
theorem x_280_1  : exG TB d 280 1 (some v :: r9) st A = rg v (exG TB d 280 2 (some v :: r9) (v :: st) A) := x_rg (op := o_aload 0 1) rfl rfl
theorem x_280_2  : exG TB d 280 2 L (.ref p :: st) A = kv (gf A p 41) d 280 5 L st A := x_bd (op := o_get 41) rfl rfl (fun _ => rfl)
theorem x_280_5  : exG TB d 280 5 L (.int i2 :: .int i1 :: st) A = exG TB d 280 6 L (.int (i1 * i2) :: st) A := x_nx (op := o_iop (fun x y => x * y)) rfl rfl
theorem x_280_6  : exG TB d 280 6 (some v :: r9) st A = rg v (exG TB d 280 7 (some v :: r9) (v :: st) A) := x_rg (op := o_aload 0 1) rfl rfl
theorem x_280_7  : exG TB d 280 7 L (.ref p :: st) A = kv (gf A p 42) d 280 10 L st A := x_bd (op := o_get 42) rfl rfl (fun _ => rfl)
theorem x_280_10  : exG TB d 280 10 L (.int i1 :: st) A = if i1 = nI 0 then exG TB d 280 17 L st A else exG TB d 280 13 L st A := x_if (op := o_if (fun x => decide (x = 0)) 17) rfl rfl rfl
theorem x_280_13  : exG TB d 280 13 L st A = exG TB d 280 14 L (.int (nI 1) :: st) A := x_nx (op := o_push 1 (.int 1)) rfl rfl
theorem x_280_14  : exG TB d 280 14 L st A = exG TB d 280 18 L st A := x_nx (op := o_goto 18) rfl rfl
theorem x_280_17  : exG TB d 280 17 L st A = exG TB d 280 18 L (.int (nI 0) :: st) A := x_nx (op := o_push 1 (.int 0)) rfl rfl
theorem x_280_18  : exG TB d 280 18 L (.int i2 :: .int i1 :: st) A = exG TB d 280 19 L (.int (i1 + i2) :: st) A := x_nx (op := o_iop (fun x y => x + y)) rfl rfl
theorem x_280_19  : exG TB d 280 19 L [v] A = ck (okv 1 v) (some (.inl (some v), A)) := x_outg (op := o_ret 1) rfl rfl
theorem e_281  : evG TB (d + 1) 281 [.ref p, b1] A = rg b1 (exG TB d 281 0 [some (.ref p), some (b1)] [] A) := by
  rw [evG_eq]
  show (bif (true && (isR b1 && true)) then exG TB d 281 0 [some (.ref p), some (b1)] [] A else none) = _
  unfold rg
  cases isR b1 <;> rfl
theorem x_281_0  : exG TB d 281 0 (a0 :: some v :: r9) st A = rg v (exG TB d 281 1 (a0 :: some v :: r9) (v :: st) A) := x_rg (op := o_aload 1 1) rfl rfl
theorem x_281_1n  : exG TB d 281 1 L (.null :: st) A = exG TB d 281 4 L (.int (nI 0) :: st) A := x_nx (op := o_inst [8] []) rfl rfl
theorem x_281_1y (h9 : cin (gcs A p) [8] = true) : exG TB d 281 1 L (.ref p :: st) A = exG TB d 281 4 L (.int (nI 1) :: st) A := x_inY (l := [8]) (l0 := []) rfl h9
theorem x_281_4  : exG TB d 281 4 L (.int i1 :: st) A = if i1 = nI 0 then exG TB d 281 39 L st A else exG TB d 281 7 L st A := x_if (op := o_if (fun x => decide (x = 0)) 39) rfl rfl rfl
theorem x_281_7  : exG TB d 281 7 (a0 :: some v :: r9) st A = rg v (exG TB d 281 8 (a0 :: some v :: r9) (v :: st) A) := x_rg (op := o_aload 1 1) rfl rfl
theorem x_281_8n  : exG TB d 281 8 L (.null :: st) A = exG TB d 281 11 L (.null :: st) A := x_nx (op := o_cast [8]) rfl rfl
theorem x_281_8r  : exG TB d 281 8 L (.ref p :: st) A = ck (cin (gcs A p) [8]) (exG TB d 281 11 L (.ref p :: st) A) := x_gd (op := o_cast [8]) rfl rfl
theorem x_281_11  : exG TB d 281 11 L (.ref p :: st) A = kv (gf A p 41) d 281 14 L st A := x_bd (op := o_get 41) rfl rfl (fun _ => rfl)
theorem x_281_14  : exG TB d 281 14 (some v :: r9) st A = rg v (exG TB d 281 15 (some v :: r9) (v :: st) A) := x_rg (op := o_aload 0 1) rfl rfl
theorem x_281_15  : exG TB d 281 15 L (.ref p :: st) A = kv (gf A p 41) d 281 18 L st A := x_bd (op := o_get 41) rfl rfl (fun _ => rfl)
theorem x_281_18  : exG TB d 281 18 L (.int i2 :: .int i1 :: st) A = if ¬ i1 = i2 then exG TB d 281 39 L st A else exG TB d 281 21 L st A := x_if (op := o_icmp (fun x y => decide (¬ x = y)) 39) rfl rfl rfl
theorem x_281_21  : exG TB d 281 21 (a0 :: some v :: r9) st A = rg v (exG TB d 281 22 (a0 :: some v :: r9) (v :: st) A) := x_rg (op := o_aload 1 1) rfl rfl
theorem x_281_22n  : exG TB d 281 22 L (.null :: st) A = exG TB d 281 25 L (.null :: st) A := x_nx (op := o_cast [8]) rfl rfl
theorem x_281_22r  : exG TB d 281 22 L (.ref p :: st) A = ck (cin (gcs A p) [8]) (exG TB d 281 25 L (.ref p :: st) A) := x_gd (op := o_cast [8]) rfl rfl
theorem x_281_25  : exG TB d 281 25 L (.ref p :: st) A = kv (gf A p 42) d 281 28 L st A := x_bd (op := o_get 42) rfl rfl (fun _ => rfl)
theorem x_281_28  : exG TB d 281 28 (some v :: r9) st A = rg v (exG TB d 281 29 (some v :: r9) (v :: st) A) := x_rg (op := o_aload 0 1) rfl rfl
theorem x_281_29  : exG TB d 281 29 L (.ref p :: st) A = kv (gf A p 42) d 281 32 L st A := x_bd (op := o_get 42) rfl rfl (fun _ => rfl)
theorem x_281_32  : exG TB d 281 32 L (.int i2 :: .int i1 :: st) A = if ¬ i1 = i2 then exG TB d 281 39 L st A else exG TB d 281 35 L st A := x_if (op := o_icmp (fun x y => decide (¬ x = y)) 39) rfl rfl rfl
theorem x_281_35  : exG TB d 281 35 L st A = exG TB d 281 36 L (.int (nI 1) :: st) A := x_nx (op := o_push 1 (.int 1)) rfl rfl
theorem x_281_36  : exG TB d 281 36 L st A = exG TB d 281 40 L st A := x_nx (op := o_goto 40) rfl rfl
theorem x_281_39  : exG TB d 281 39 L st A = exG TB d 281 40 L (.int (nI 0) :: st) A := x_nx (op := o_push 1 (.int 0)) rfl rfl
theorem x_281_40  : exG TB d 281 40 L [v] A = ck (okv 5 v) (some (.inl (some v), A)) := x_outg (op := o_ret 5) rfl rfl
theorem e_282  : evG TB (d + 1) 282 [.ref p] A = exG TB d 282 0 [some (.ref p)] [] A := evG_eq TB d 282 _ A
theorem x_282_0  : exG TB d 282 0 (some v :: r9) st A = rg v (exG TB d 282 1 (some v :: r9) (v :: st) A) := x_rg (op := o_aload 0 1) rfl rfl
theorem x_282_1  : exG TB d 282 1 L [.ref p] A = exG TB d 282 4 L [] A := x_nx (op := o_oi) rfl rfl
theorem x_282_4  : exG TB d 282 4 (some v :: r9) st A = rg v (exG TB d 282 5 (some v :: r9) (v :: st) A) := x_rg (op := o_aload 0 1) rfl rfl
theorem x_282_5  : exG TB d 282 5 L st A = exG TB d 282 7 L (.int (nI 12) :: st) A := x_nx (op := o_push 2 (.int 12)) rfl rfl
theorem x_282_7  : exG TB d 282 7 L (.int i1 :: st) A = ck (okn i1) (exG TB d 282 9 L (.ref (nx A) :: st) (newa A (zar 0 i1.toNatClampNeg))) := x_gd (op := o_newa 0 2) rfl rfl
theorem x_282_9  : exG TB d 282 9 L (v :: .ref p :: st) A = ck ((gf A p 14).isSome && okv 0 v) (exG TB d 282 12 L st (setf A p 14 v)) := x_gd (op := o_put 14 0) rfl rfl
theorem x_282_12  : exG TB d 282 12 (some v :: r9) st A = rg v (exG TB d 282 13 (some v :: r9) (v :: st) A) := x_rg (op := o_aload 0 1) rfl rfl
theorem x_282_13  : exG TB d 282 13 L st A = exG TB d 282 16 L (.int (nI 144) :: st) A := x_nx (op := o_push 3 (.int 144)) rfl rfl
theorem x_282_16  : exG TB d 282 16 L (.int i1 :: st) A = ck (okn i1) (exG TB d 282 19 L (.ref (nx A) :: st) (newa A (zar 6 i1.toNatClampNeg))) := x_gd (op := o_newa 6 3) rfl rfl
theorem x_282_19  : exG TB d 282 19 L (v :: .ref p :: st) A = ck ((gf A p 16).isSome && okv 0 v) (exG TB d 282 22 L st (setf A p 16 v)) := x_gd (op := o_put 16 0) rfl rfl
theorem x_282_22  : exG TB d 282 22 L [] A = some (.inl none, A) := x_out (op := o_vret) rfl rfl
theorem e_283 {j1 : Int32} : evG TB (d + 1) 283 [.ref p, .int j1] A = exG TB d 283 0 [some (.ref p), some (.int j1)] [] A := evG_eq TB d 283 _ A
theorem x_283_0  : exG TB d 283 0 (some v :: r9) st A = rg v (exG TB d 283 1 (some v :: r9) (v :: st) A) := x_rg (op := o_aload 0 1) rfl rfl
theorem x_283_1  : exG TB d 283 1 L (.ref p :: st) A = kv (gf A p 14) d 283 4 L st A := x_bd (op := o_get 14) rfl rfl (fun _ => rfl)
theorem x_283_4  : exG TB d 283 4 (some v :: r9) st A = rg v (exG TB d 283 5 (some v :: r9) (v :: st) A) := x_rg (op := o_aload 0 1) rfl rfl
theorem x_283_5  : exG TB d 283 5 L (.ref p :: st) A = kv (gf A p 15) d 283 8 L st A := x_bd (op := o_get 15) rfl rfl (fun _ => rfl)
theorem x_283_8  : exG TB d 283 8 (a0 :: some (.int i1) :: r9) st A = exG TB d 283 9 (a0 :: some (.int i1) :: r9) (.int i1 :: st) A := x_nx (op := o_iload 1 1) rfl rfl
theorem x_283_9  : exG TB d 283 9 L (.int i2 :: .int i1 :: .ref p :: st) A = ka (wrI 0 (ga A p) i1 i2) p d 283 10 L st A := x_bd (op := o_wrI 0) rfl rfl (fun _ => rfl)
theorem x_283_10  : exG TB d 283 10 (some v :: r9) st A = rg v (exG TB d 283 11 (some v :: r9) (v :: st) A) := x_rg (op := o_aload 0 1) rfl rfl
theorem x_283_11  : exG TB d 283 11 L (v :: st) A = ck (c1 v) (exG TB d 283 12 L (v :: v :: st) A) := x_gd (op := o_dup) rfl rfl
theorem x_283_12  : exG TB d 283 12 L (.ref p :: st) A = kv (gf A p 15) d 283 15 L st A := x_bd (op := o_get 15) rfl rfl (fun _ => rfl)
theorem x_283_15  : exG TB d 283 15 L st A = exG TB d 283 16 L (.int (nI 1) :: st) A := x_nx (op := o_push 1 (.int 1)) rfl rfl
theorem x_283_16  : exG TB d 283 16 L (.int i2 :: .int i1 :: st) A = exG TB d 283 17 L (.int (i1 + i2) :: st) A := x_nx (op := o_iop (fun x y => x + y)) rfl rfl
theorem x_283_17  : exG TB d 283 17 L (v :: .ref p :: st) A = ck ((gf A p 15).isSome && okv 1 v) (exG TB d 283 20 L st (setf A p 15 v)) := x_gd (op := o_put 15 1) rfl rfl
theorem x_283_20  : exG TB d 283 20 (some v :: r9) st A = rg v (exG TB d 283 21 (some v :: r9) (v :: st) A) := x_rg (op := o_aload 0 1) rfl rfl
theorem x_283_21  : exG TB d 283 21 L (.ref p :: st) A = kv (gf A p 15) d 283 24 L st A := x_bd (op := o_get 15) rfl rfl (fun _ => rfl)
theorem x_283_24  : exG TB d 283 24 L st A = exG TB d 283 25 L (.int (nI 1) :: st) A := x_nx (op := o_push 1 (.int 1)) rfl rfl
theorem x_283_25  : exG TB d 283 25 L (.int i2 :: .int i1 :: st) A = exG TB d 283 26 L (.int (i1 - i2) :: st) A := x_nx (op := o_iop (fun x y => x - y)) rfl rfl
theorem x_283_26  : exG TB d 283 26 L [v] A = ck (okv 1 v) (some (.inl (some v), A)) := x_outg (op := o_ret 1) rfl rfl
theorem e_284 {j1 : Int32} {j2 : Int32} : evG TB (d + 1) 284 [.ref p, .int j1, .int j2] A = exG TB d 284 0 [some (.ref p), some (.int j1), some (.int j2)] [] A := evG_eq TB d 284 _ A
theorem x_284_0  : exG TB d 284 0 (some v :: r9) st A = rg v (exG TB d 284 1 (some v :: r9) (v :: st) A) := x_rg (op := o_aload 0 1) rfl rfl
theorem x_284_1  : exG TB d 284 1 L (.ref p :: st) A = kv (gf A p 16) d 284 4 L st A := x_bd (op := o_get 16) rfl rfl (fun _ => rfl)
theorem x_284_4  : exG TB d 284 4 L st A = exG TB d 284 6 L (.int (nI 12) :: st) A := x_nx (op := o_push 2 (.int 12)) rfl rfl
theorem x_284_6  : exG TB d 284 6 (a0 :: some (.int i1) :: r9) st A = exG TB d 284 7 (a0 :: some (.int i1) :: r9) (.int i1 :: st) A := x_nx (op := o_iload 1 1) rfl rfl
theorem x_284_7  : exG TB d 284 7 L (.int i2 :: .int i1 :: st) A = exG TB d 284 8 L (.int (i1 * i2) :: st) A := x_nx (op := o_iop (fun x y => x * y)) rfl rfl
theorem x_284_8  : exG TB d 284 8 (a0 :: a1 :: some (.int i1) :: r9) st A = exG TB d 284 9 (a0 :: a1 :: some (.int i1) :: r9) (.int i1 :: st) A := x_nx (op := o_iload 2 1) rfl rfl
theorem x_284_9  : exG TB d 284 9 L (.int i2 :: .int i1 :: st) A = exG TB d 284 10 L (.int (i1 + i2) :: st) A := x_nx (op := o_iop (fun x y => x + y)) rfl rfl
theorem x_284_10  : exG TB d 284 10 L (.int i1 :: .ref p :: st) A = kq (rdQ (ga A p) i1) d 284 11 L st A := x_bd (op := o_rdQ) rfl rfl (fun _ => rfl)
theorem x_284_11  : exG TB d 284 11 L [v] A = ck (okv 0 v) (some (.inl (some v), A)) := x_outg (op := o_ret 0) rfl rfl
theorem e_285 {j1 : Int32} {j2 : Int32} {j3 : Int32} {j4 : Int32} : evG TB (d + 1) 285 [.ref p, .int j1, .int j2, .int j3, .int j4] A = exG TB d 285 0 [some (.ref p), some (.int j1), some (.int j2), some (.int j3), some (.int j4)] [] A := evG_eq TB d 285 _ A
theorem x_285_0  : exG TB d 285 0 (some v :: r9) st A = rg v (exG TB d 285 1 (some v :: r9) (v :: st) A) := x_rg (op := o_aload 0 1) rfl rfl
theorem x_285_1  : exG TB d 285 1 L (.ref p :: st) A = kv (gf A p 16) d 285 4 L st A := x_bd (op := o_get 16) rfl rfl (fun _ => rfl)
theorem x_285_4  : exG TB d 285 4 L st A = exG TB d 285 6 L (.int (nI 12) :: st) A := x_nx (op := o_push 2 (.int 12)) rfl rfl
theorem x_285_6  : exG TB d 285 6 (a0 :: some (.int i1) :: r9) st A = exG TB d 285 7 (a0 :: some (.int i1) :: r9) (.int i1 :: st) A := x_nx (op := o_iload 1 1) rfl rfl
theorem x_285_7  : exG TB d 285 7 L (.int i2 :: .int i1 :: st) A = exG TB d 285 8 L (.int (i1 * i2) :: st) A := x_nx (op := o_iop (fun x y => x * y)) rfl rfl
theorem x_285_8  : exG TB d 285 8 (a0 :: a1 :: some (.int i1) :: r9) st A = exG TB d 285 9 (a0 :: a1 :: some (.int i1) :: r9) (.int i1 :: st) A := x_nx (op := o_iload 2 1) rfl rfl
theorem x_285_9  : exG TB d 285 9 L (.int i2 :: .int i1 :: st) A = exG TB d 285 10 L (.int (i1 + i2) :: st) A := x_nx (op := o_iop (fun x y => x + y)) rfl rfl
theorem x_285_10  : exG TB d 285 10 L st A = exG TB d 285 13 L (.ref (nx A) :: st) (newo A 11 3 dv11) := x_nx (op := o_new 11 3 dv11) rfl rfl
theorem x_285_13  : exG TB d 285 13 L (v :: st) A = ck (c1 v) (exG TB d 285 14 L (v :: v :: st) A) := x_gd (op := o_dup) rfl rfl
theorem x_285_14  : exG TB d 285 14 (a0 :: a1 :: some (.int i1) :: r9) st A = exG TB d 285 15 (a0 :: a1 :: some (.int i1) :: r9) (.int i1 :: st) A := x_nx (op := o_iload 2 1) rfl rfl
theorem x_285_15  : exG TB d 285 15 (a0 :: a1 :: a2 :: some (.int i1) :: r9) st A = exG TB d 285 16 (a0 :: a1 :: a2 :: some (.int i1) :: r9) (.int i1 :: st) A := x_nx (op := o_iload 3 1) rfl rfl
theorem x_285_16  : exG TB d 285 16 (a0 :: a1 :: a2 :: a3 :: some (.int i1) :: r9) st A = exG TB d 285 18 (a0 :: a1 :: a2 :: a3 :: some (.int i1) :: r9) (.int i1 :: st) A := x_nx (op := o_iload 4 2) rfl rfl
theorem x_285_18  : exG TB d 285 18 L [b2, b1, b0, .ref p, w0, w1, w2] A = kc0 (evG TB d 418 [.ref p, b0, b1, b2] A) d 285 21 L [w0, w1, w2] := x_c0 (op := o_ci 418 3) rfl rfl x_noh rfl
theorem x_285_21r  : exG TB d 285 21 L (.ref q :: .int i1 :: .ref p :: st) A = ck (atag (ga A p) 6 && okq A [11] (.ref q)) (ka (wrQ (ga A p) i1 (some q)) p d 285 22 L st A) := x_gb (op := o_wrQ 6 [11]) rfl rfl (fun _ => rfl)
theorem x_285_21n  : exG TB d 285 21 L (.null :: .int i1 :: .ref p :: st) A = ck (atag (ga A p) 6 && okq A [11] (.null)) (ka (wrQ (ga A p) i1 none) p d 285 22 L st A) := x_gb (op := o_wrQ 6 [11]) rfl rfl (fun _ => rfl)
theorem x_285_22  : exG TB d 285 22 (some v :: r9) st A = rg v (exG TB d 285 23 (some v :: r9) (v :: st) A) := x_rg (op := o_aload 0 1) rfl rfl
theorem x_285_23  : exG TB d 285 23 L (v :: st) A = ck (c1 v) (exG TB d 285 24 L (v :: v :: st) A) := x_gd (op := o_dup) rfl rfl
theorem x_285_24  : exG TB d 285 24 L (.ref p :: st) A = kv (gf A p 17) d 285 27 L st A := x_bd (op := o_get 17) rfl rfl (fun _ => rfl)
theorem x_285_27  : exG TB d 285 27 L st A = exG TB d 285 28 L (.int (nI 1) :: st) A := x_nx (op := o_push 1 (.int 1)) rfl rfl
theorem x_285_28  : exG TB d 285 28 L (.int i2 :: .int i1 :: st) A = exG TB d 285 29 L (.int (i1 + i2) :: st) A := x_nx (op := o_iop (fun x y => x + y)) rfl rfl
theorem x_285_29  : exG TB d 285 29 L (v :: .ref p :: st) A = ck ((gf A p 17).isSome && okv 1 v) (exG TB d 285 32 L st (setf A p 17 v)) := x_gd (op := o_put 17 1) rfl rfl
theorem x_285_32  : exG TB d 285 32 (some v :: r9) st A = rg v (exG TB d 285 33 (some v :: r9) (v :: st) A) := x_rg (op := o_aload 0 1) rfl rfl
theorem x_285_33  : exG TB d 285 33 L (.ref p :: st) A = kv (gf A p 17) d 285 36 L st A := x_bd (op := o_get 17) rfl rfl (fun _ => rfl)
theorem x_285_36  : exG TB d 285 36 L st A = exG TB d 285 37 L (.int (nI 1) :: st) A := x_nx (op := o_push 1 (.int 1)) rfl rfl
theorem x_285_37  : exG TB d 285 37 L (.int i2 :: .int i1 :: st) A = exG TB d 285 38 L (.int (i1 - i2) :: st) A := x_nx (op := o_iop (fun x y => x - y)) rfl rfl
theorem x_285_38  : exG TB d 285 38 L [v] A = ck (okv 1 v) (some (.inl (some v), A)) := x_outg (op := o_ret 1) rfl rfl
theorem e_286  : evG TB (d + 1) 286 [.ref p] A = exG TB d 286 0 [some (.ref p), none] [] A := evG_eq TB d 286 _ A
theorem x_286_0  : exG TB d 286 0 L st A = exG TB d 286 3 L (.ref (nx A) :: st) (newo A 2 4 dv2) := x_nx (op := o_new 2 4 dv2) rfl rfl
theorem x_286_3  : exG TB d 286 3 L (v :: st) A = ck (c1 v) (exG TB d 286 4 L (v :: v :: st) A) := x_gd (op := o_dup) rfl rfl
theorem x_286_4  : exG TB d 286 4 L [.ref p, w0] A = kc0 (evG TB d 282 [.ref p] A) d 286 7 L [w0] := x_c0 (op := o_ci 282 0) rfl rfl x_noh rfl
theorem x_286_7  : exG TB d 286 7 (a0 :: a1 :: r9) (v :: st) A = rg v (exG TB d 286 8 (a0 :: some v :: r9) st A) := x_rgt (op := o_astore 1 1) rfl rfl
theorem x_286_8  : exG TB d 286 8 (a0 :: some v :: r9) st A = rg v (exG TB d 286 9 (a0 :: some v :: r9) (v :: st) A) := x_rg (op := o_aload 1 1) rfl rfl
theorem x_286_9  : exG TB d 286 9 (some v :: r9) st A = rg v (exG TB d 286 10 (some v :: r9) (v :: st) A) := x_rg (op := o_aload 0 1) rfl rfl
theorem x_286_10  : exG TB d 286 10 L (.ref p :: st) A = kv (gf A p 14) d 286 13 L st A := x_bd (op := o_get 14) rfl rfl (fun _ => rfl)
theorem x_286_13 (h9 : ga A p = some (0, (n9, .inl g9))) : exG TB d 286 13 L [.ref p, w0] A = exG TB d 286 16 L [.ref (nx A), w0] (newa A (0, (n9, .inl g9))) := x_nx (op := o_cln) rfl (by unfold o_cln; dsimp only; rw [h9]; rfl)
theorem x_286_16  : exG TB d 286 16 L (.ref p :: st) A = ck (atag (ga A p) 0) (exG TB d 286 19 L (.ref p :: st) A) := x_gd (op := o_casta 0) rfl rfl
theorem x_286_19  : exG TB d 286 19 L (v :: .ref p :: st) A = ck ((gf A p 14).isSome && okv 0 v) (exG TB d 286 22 L st (setf A p 14 v)) := x_gd (op := o_put 14 0) rfl rfl
theorem x_286_22  : exG TB d 286 22 (a0 :: some v :: r9) st A = rg v (exG TB d 286 23 (a0 :: some v :: r9) (v :: st) A) := x_rg (op := o_aload 1 1) rfl rfl
theorem x_286_23  : exG TB d 286 23 (some v :: r9) st A = rg v (exG TB d 286 24 (some v :: r9) (v :: st) A) := x_rg (op := o_aload 0 1) rfl rfl
theorem x_286_24  : exG TB d 286 24 L (.ref p :: st) A = kv (gf A p 15) d 286 27 L st A := x_bd (op := o_get 15) rfl rfl (fun _ => rfl)
theorem x_286_27  : exG TB d 286 27 L (v :: .ref p :: st) A = ck ((gf A p 15).isSome && okv 1 v) (exG TB d 286 30 L st (setf A p 15 v)) := x_gd (op := o_put 15 1) rfl rfl
theorem x_286_30  : exG TB d 286 30 (a0 :: some v :: r9) st A = rg v (exG TB d 286 31 (a0 :: some v :: r9) (v :: st) A) := x_rg (op := o_aload 1 1) rfl rfl
theorem x_286_31  : exG TB d 286 31 (some v :: r9) st A = rg v (exG TB d 286 32 (some v :: r9) (v :: st) A) := x_rg (op := o_aload 0 1) rfl rfl
theorem x_286_32  : exG TB d 286 32 L (.ref p :: st) A = kv (gf A p 16) d 286 35 L st A := x_bd (op := o_get 16) rfl rfl (fun _ => rfl)
theorem x_286_35  : exG TB d 286 35 L (.ref p :: st) A = ki (aln (ga A p)) d 286 36 L st A := x_bd (op := o_alen) rfl rfl (fun _ => rfl)
theorem x_286_36  : exG TB d 286 36 L (.int i1 :: st) A = ck (okn i1) (exG TB d 286 39 L (.ref (nx A) :: st) (newa A (zar 6 i1.toNatClampNeg))) := x_gd (op := o_newa 6 3) rfl rfl
theorem x_286_39  : exG TB d 286 39 L (v :: .ref p :: st) A = ck ((gf A p 16).isSome && okv 0 v) (exG TB d 286 42 L st (setf A p 16 v)) := x_gd (op := o_put 16 0) rfl rfl
theorem x_286_42  : exG TB d 286 42 (some v :: r9) st A = rg v (exG TB d 286 43 (some v :: r9) (v :: st) A) := x_rg (op := o_aload 0 1) rfl rfl
theorem x_286_43  : exG TB d 286 43 L (.ref p :: st) A = kv (gf A p 16) d 286 46 L st A := x_bd (op := o_get 16) rfl rfl (fun _ => rfl)
theorem x_286_46  : exG TB d 286 46 L st A = exG TB d 286 47 L (.int (nI 0) :: st) A := x_nx (op := o_push 1 (.int 0)) rfl rfl
theorem x_286_47  : exG TB d 286 47 (a0 :: some v :: r9) st A = rg v (exG TB d 286 48 (a0 :: some v :: r9) (v :: st) A) := x_rg (op := o_aload 1 1) rfl rfl
theorem x_286_48  : exG TB d 286 48 L (.ref p :: st) A = kv (gf A p 16) d 286 51 L st A := x_bd (op := o_get 16) rfl rfl (fun _ => rfl)
theorem x_286_51  : exG TB d 286 51 L st A = exG TB d 286 52 L (.int (nI 0) :: st) A := x_nx (op := o_push 1 (.int 0)) rfl rfl
theorem x_286_52  : exG TB d 286 52 (some v :: r9) st A = rg v (exG TB d 286 53 (some v :: r9) (v :: st) A) := x_rg (op := o_aload 0 1) rfl rfl
theorem x_286_53  : exG TB d 286 53 L (.ref p :: st) A = kv (gf A p 16) d 286 56 L st A := x_bd (op := o_get 16) rfl rfl (fun _ => rfl)
theorem x_286_56  : exG TB d 286 56 L (.ref p :: st) A = ki (aln (ga A p)) d 286 57 L st A := x_bd (op := o_alen) rfl rfl (fun _ => rfl)
theorem x_286_57  : exG TB d 286 57 L [.int i3, .int i2, .ref q, .int i1, .ref p] A = ck (okcp A [11] (ga A p) i1 i3) (ka (cpQ 6 (ga A p) (ga A q) i1 i2 i3) q d 286 60 L [] A) := x_gb (op := o_cpQ 6 [11]) rfl rfl (fun _ => rfl)
theorem x_286_60  : exG TB d 286 60 (a0 :: some v :: r9) st A = rg v (exG TB d 286 61 (a0 :: some v :: r9) (v :: st) A) := x_rg (op := o_aload 1 1) rfl rfl
theorem x_286_61  : exG TB d 286 61 (some v :: r9) st A = rg v (exG TB d 286 62 (some v :: r9) (v :: st) A) := x_rg (op := o_aload 0 1) rfl rfl
theorem x_286_62  : exG TB d 286 62 L (.ref p :: st) A = kv (gf A p 17) d 286 65 L st A := x_bd (op := o_get 17) rfl rfl (fun _ => rfl)
theorem x_286_65  : exG TB d 286 65 L (v :: .ref p :: st) A = ck ((gf A p 17).isSome && okv 1 v) (exG TB d 286 68 L st (setf A p 17 v)) := x_gd (op := o_put 17 1) rfl rfl
theorem x_286_68  : exG TB d 286 68 (a0 :: some v :: r9) st A = rg v (exG TB d 286 69 (a0 :: some v :: r9) (v :: st) A) := x_rg (op := o_aload 1 1) rfl rfl
theorem x_286_69  : exG TB d 286 69 L [v] A = ck (okv 0 v) (some (.inl (some v), A)) := x_outg (op := o_ret 0) rfl rfl
theorem e_287  : evG TB (d + 1) 287 [.ref p] A = exG TB d 287 0 [some (.ref p)] [] A := evG_eq TB d 287 _ A
theorem x_287_0  : exG TB d 287 0 (some v :: r9) st A = rg v (exG TB d 287 1 (some v :: r9) (v :: st) A) := x_rg (op := o_aload 0 1) rfl rfl
theorem x_287_1  : exG TB d 287 1 L [.ref p] A = exG TB d 287 4 L [] A := x_nx (op := o_oi) rfl rfl
theorem x_287_4  : exG TB d 287 4 (some v :: r9) st A = rg v (exG TB d 287 5 (some v :: r9) (v :: st) A) := x_rg (op := o_aload 0 1) rfl rfl
theorem x_287_5  : exG TB d 287 5 L st A = exG TB d 287 8 L (.int (nI 3100) :: st) A := x_nx (op := o_push 3 (.int 3100)) rfl rfl
theorem x_287_8  : exG TB d 287 8 L (.int i1 :: st) A = ck (okn i1) (exG TB d 287 10 L (.ref (nx A) :: st) (newa A (zar 0 i1.toNatClampNeg))) := x_gd (op := o_newa 0 2) rfl rfl
theorem x_287_10  : exG TB d 287 10 L (v :: .ref p :: st) A = ck ((gf A p 148).isSome && okv 0 v) (exG TB d 287 13 L st (setf A p 148 v)) := x_gd (op := o_put 148 0) rfl rfl
theorem x_287_13  : exG TB d 287 13 (some v :: r9) st A = rg v (exG TB d 287 14 (some v :: r9) (v :: st) A) := x_rg (op := o_aload 0 1) rfl rfl
theorem x_287_14  : exG TB d 287 14 L st A = exG TB d 287 17 L (.int (nI 3100) :: st) A := x_nx (op := o_push 3 (.int 3100)) rfl rfl
theorem x_287_17  : exG TB d 287 17 L (.int i1 :: st) A = ck (okn i1) (exG TB d 287 19 L (.ref (nx A) :: st) (newa A (zar 0 i1.toNatClampNeg))) := x_gd (op := o_newa 0 2) rfl rfl
theorem x_287_19  : exG TB d 287 19 L (v :: .ref p :: st) A = ck ((gf A p 149).isSome && okv 0 v) (exG TB d 287 22 L st (setf A p 149 v)) := x_gd (op := o_put 149 0) rfl rfl
theorem x_287_22  : exG TB d 287 22 (some v :: r9) st A = rg v (exG TB d 287 23 (some v :: r9) (v :: st) A) := x_rg (op := o_aload 0 1) rfl rfl
theorem x_287_23  : exG TB d 287 23 L st A = exG TB d 287 26 L (.int (nI 6200) :: st) A := x_nx (op := o_push 3 (.int 6200)) rfl rfl
theorem x_287_26  : exG TB d 287 26 L (.int i1 :: st) A = ck (okn i1) (exG TB d 287 28 L (.ref (nx A) :: st) (newa A (zar 0 i1.toNatClampNeg))) := x_gd (op := o_newa 0 2) rfl rfl
theorem x_287_28  : exG TB d 287 28 L (v :: .ref p :: st) A = ck ((gf A p 150).isSome && okv 0 v) (exG TB d 287 31 L st (setf A p 150 v)) := x_gd (op := o_put 150 0) rfl rfl
theorem x_287_31  : exG TB d 287 31 (some v :: r9) st A = rg v (exG TB d 287 32 (some v :: r9) (v :: st) A) := x_rg (op := o_aload 0 1) rfl rfl
theorem x_287_32  : exG TB d 287 32 L st A = exG TB d 287 33 L (.int (nI 2) :: st) A := x_nx (op := o_push 1 (.int 2)) rfl rfl
theorem x_287_33  : exG TB d 287 33 L (.int i1 :: st) A = ck (okn i1) (exG TB d 287 35 L (.ref (nx A) :: st) (newa A (zar 2 i1.toNatClampNeg))) := x_gd (op := o_newa 2 2) rfl rfl
theorem x_287_35  : exG TB d 287 35 L (v :: .ref p :: st) A = ck ((gf A p 151).isSome && okv 0 v) (exG TB d 287 38 L st (setf A p 151 v)) := x_gd (op := o_put 151 0) rfl rfl
theorem x_287_38  : exG TB d 287 38 (some v :: r9) st A = rg v (exG TB d 287 39 (some v :: r9) (v :: st) A) := x_rg (op := o_aload 0 1) rfl rfl
theorem x_287_39  : exG TB d 287 39 L st A = exG TB d 287 41 L (.int (nI 8) :: st) A := x_nx (op := o_push 2 (.int 8)) rfl rfl
theorem x_287_41  : exG TB d 287 41 L (.int i1 :: st) A = ck (okn i1) (exG TB d 287 43 L (.ref (nx A) :: st) (newa A (zar 0 i1.toNatClampNeg))) := x_gd (op := o_newa 0 2) rfl rfl
theorem x_287_43  : exG TB d 287 43 L (v :: st) A = ck (c1 v) (exG TB d 287 44 L (v :: v :: st) A) := x_gd (op := o_dup) rfl rfl
theorem x_287_44  : exG TB d 287 44 L st A = exG TB d 287 45 L (.int (nI 0) :: st) A := x_nx (op := o_push 1 (.int 0)) rfl rfl
theorem x_287_45  : exG TB d 287 45 L st A = exG TB d 287 47 L (.int (nI 120) :: st) A := x_nx (op := o_push 2 (.int 120)) rfl rfl
theorem x_287_47  : exG TB d 287 47 L (.int i2 :: .int i1 :: .ref p :: st) A = ka (wrI 0 (ga A p) i1 i2) p d 287 48 L st A := x_bd (op := o_wrI 0) rfl rfl (fun _ => rfl)
theorem x_287_48  : exG TB d 287 48 L (v :: st) A = ck (c1 v) (exG TB d 287 49 L (v :: v :: st) A) := x_gd (op := o_dup) rfl rfl
theorem x_287_49  : exG TB d 287 49 L st A = exG TB d 287 50 L (.int (nI 1) :: st) A := x_nx (op := o_push 1 (.int 1)) rfl rfl
theorem x_287_50  : exG TB d 287 50 L st A = exG TB d 287 51 L (.int (nI 5) :: st) A := x_nx (op := o_push 1 (.int 5)) rfl rfl
theorem x_287_51  : exG TB d 287 51 L (.int i2 :: .int i1 :: .ref p :: st) A = ka (wrI 0 (ga A p) i1 i2) p d 287 52 L st A := x_bd (op := o_wrI 0) rfl rfl (fun _ => rfl)
theorem x_287_52  : exG TB d 287 52 L (v :: st) A = ck (c1 v) (exG TB d 287 53 L (v :: v :: st) A) := x_gd (op := o_dup) rfl rfl
theorem x_287_53  : exG TB d 287 53 L st A = exG TB d 287 54 L (.int (nI 2) :: st) A := x_nx (op := o_push 1 (.int 2)) rfl rfl
theorem x_287_54  : exG TB d 287 54 L st A = exG TB d 287 55 L (.int (nI 2) :: st) A := x_nx (op := o_push 1 (.int 2)) rfl rfl
theorem x_287_55  : exG TB d 287 55 L (.int i2 :: .int i1 :: .ref p :: st) A = ka (wrI 0 (ga A p) i1 i2) p d 287 56 L st A := x_bd (op := o_wrI 0) rfl rfl (fun _ => rfl)
theorem x_287_56  : exG TB d 287 56 L (v :: st) A = ck (c1 v) (exG TB d 287 57 L (v :: v :: st) A) := x_gd (op := o_dup) rfl rfl
theorem x_287_57  : exG TB d 287 57 L st A = exG TB d 287 58 L (.int (nI 3) :: st) A := x_nx (op := o_push 1 (.int 3)) rfl rfl
theorem x_287_58  : exG TB d 287 58 L st A = exG TB d 287 60 L (.int (nI 80) :: st) A := x_nx (op := o_push 2 (.int 80)) rfl rfl
theorem x_287_60  : exG TB d 287 60 L (.int i2 :: .int i1 :: .ref p :: st) A = ka (wrI 0 (ga A p) i1 i2) p d 287 61 L st A := x_bd (op := o_wrI 0) rfl rfl (fun _ => rfl)
theorem x_287_61  : exG TB d 287 61 L (v :: st) A = ck (c1 v) (exG TB d 287 62 L (v :: v :: st) A) := x_gd (op := o_dup) rfl rfl
theorem x_287_62  : exG TB d 287 62 L st A = exG TB d 287 63 L (.int (nI 4) :: st) A := x_nx (op := o_push 1 (.int 4)) rfl rfl
theorem x_287_63  : exG TB d 287 63 L st A = exG TB d 287 65 L (.int (nI 70) :: st) A := x_nx (op := o_push 2 (.int 70)) rfl rfl
theorem x_287_65  : exG TB d 287 65 L (.int i2 :: .int i1 :: .ref p :: st) A = ka (wrI 0 (ga A p) i1 i2) p d 287 66 L st A := x_bd (op := o_wrI 0) rfl rfl (fun _ => rfl)
theorem x_287_66  : exG TB d 287 66 L (v :: st) A = ck (c1 v) (exG TB d 287 67 L (v :: v :: st) A) := x_gd (op := o_dup) rfl rfl
theorem x_287_67  : exG TB d 287 67 L st A = exG TB d 287 68 L (.int (nI 5) :: st) A := x_nx (op := o_push 1 (.int 5)) rfl rfl
theorem x_287_68  : exG TB d 287 68 L st A = exG TB d 287 70 L (.int (nI 90) :: st) A := x_nx (op := o_push 2 (.int 90)) rfl rfl
theorem x_287_70  : exG TB d 287 70 L (.int i2 :: .int i1 :: .ref p :: st) A = ka (wrI 0 (ga A p) i1 i2) p d 287 71 L st A := x_bd (op := o_wrI 0) rfl rfl (fun _ => rfl)
theorem x_287_71  : exG TB d 287 71 L (v :: st) A = ck (c1 v) (exG TB d 287 72 L (v :: v :: st) A) := x_gd (op := o_dup) rfl rfl
theorem x_287_72  : exG TB d 287 72 L st A = exG TB d 287 74 L (.int (nI 6) :: st) A := x_nx (op := o_push 2 (.int 6)) rfl rfl
theorem x_287_74  : exG TB d 287 74 L st A = exG TB d 287 76 L (.int (nI 25) :: st) A := x_nx (op := o_push 2 (.int 25)) rfl rfl
theorem x_287_76  : exG TB d 287 76 L (.int i2 :: .int i1 :: .ref p :: st) A = ka (wrI 0 (ga A p) i1 i2) p d 287 77 L st A := x_bd (op := o_wrI 0) rfl rfl (fun _ => rfl)
theorem x_287_77  : exG TB d 287 77 L (v :: st) A = ck (c1 v) (exG TB d 287 78 L (v :: v :: st) A) := x_gd (op := o_dup) rfl rfl
theorem x_287_78  : exG TB d 287 78 L st A = exG TB d 287 80 L (.int (nI 7) :: st) A := x_nx (op := o_push 2 (.int 7)) rfl rfl
theorem x_287_80  : exG TB d 287 80 L st A = exG TB d 287 83 L (.int (nI 150) :: st) A := x_nx (op := o_push 3 (.int 150)) rfl rfl
theorem x_287_83  : exG TB d 287 83 L (.int i2 :: .int i1 :: .ref p :: st) A = ka (wrI 0 (ga A p) i1 i2) p d 287 84 L st A := x_bd (op := o_wrI 0) rfl rfl (fun _ => rfl)
theorem x_287_84  : exG TB d 287 84 L (v :: .ref p :: st) A = ck ((gf A p 152).isSome && okv 0 v) (exG TB d 287 87 L st (setf A p 152 v)) := x_gd (op := o_put 152 0) rfl rfl
theorem x_287_87  : exG TB d 287 87 (some v :: r9) st A = rg v (exG TB d 287 88 (some v :: r9) (v :: st) A) := x_rg (op := o_aload 0 1) rfl rfl
theorem x_287_88  : exG TB d 287 88 L st A = exG TB d 287 90 L (.int (nI 8) :: st) A := x_nx (op := o_push 2 (.int 8)) rfl rfl
theorem x_287_90  : exG TB d 287 90 L (.int i1 :: st) A = ck (okn i1) (exG TB d 287 92 L (.ref (nx A) :: st) (newa A (zar 0 i1.toNatClampNeg))) := x_gd (op := o_newa 0 2) rfl rfl
theorem x_287_92  : exG TB d 287 92 L (v :: st) A = ck (c1 v) (exG TB d 287 93 L (v :: v :: st) A) := x_gd (op := o_dup) rfl rfl
theorem x_287_93  : exG TB d 287 93 L st A = exG TB d 287 94 L (.int (nI 0) :: st) A := x_nx (op := o_push 1 (.int 0)) rfl rfl
theorem x_287_94  : exG TB d 287 94 L st A = exG TB d 287 95 L (.int (nI 1) :: st) A := x_nx (op := o_push 1 (.int 1)) rfl rfl
theorem x_287_95  : exG TB d 287 95 L (.int i2 :: .int i1 :: .ref p :: st) A = ka (wrI 0 (ga A p) i1 i2) p d 287 96 L st A := x_bd (op := o_wrI 0) rfl rfl (fun _ => rfl)
theorem x_287_96  : exG TB d 287 96 L (v :: st) A = ck (c1 v) (exG TB d 287 97 L (v :: v :: st) A) := x_gd (op := o_dup) rfl rfl
theorem x_287_97  : exG TB d 287 97 L st A = exG TB d 287 98 L (.int (nI 1) :: st) A := x_nx (op := o_push 1 (.int 1)) rfl rfl
theorem x_287_98  : exG TB d 287 98 L st A = exG TB d 287 99 L (.int (nI 0) :: st) A := x_nx (op := o_push 1 (.int 0)) rfl rfl
theorem x_287_99  : exG TB d 287 99 L (.int i2 :: .int i1 :: .ref p :: st) A = ka (wrI 0 (ga A p) i1 i2) p d 287 100 L st A := x_bd (op := o_wrI 0) rfl rfl (fun _ => rfl)
theorem x_287_100  : exG TB d 287 100 L (v :: st) A = ck (c1 v) (exG TB d 287 101 L (v :: v :: st) A) := x_gd (op := o_dup) rfl rfl
theorem x_287_101  : exG TB d 287 101 L st A = exG TB d 287 102 L (.int (nI 2) :: st) A := x_nx (op := o_push 1 (.int 2)) rfl rfl
theorem x_287_102  : exG TB d 287 102 L st A = exG TB d 287 103 L (.int (nI 0) :: st) A := x_nx (op := o_push 1 (.int 0)) rfl rfl
theorem x_287_103  : exG TB d 287 103 L (.int i2 :: .int i1 :: .ref p :: st) A = ka (wrI 0 (ga A p) i1 i2) p d 287 104 L st A := x_bd (op := o_wrI 0) rfl rfl (fun _ => rfl)
theorem x_287_104  : exG TB d 287 104 L (v :: st) A = ck (c1 v) (exG TB d 287 105 L (v :: v :: st) A) := x_gd (op := o_dup) rfl rfl
theorem x_287_105  : exG TB d 287 105 L st A = exG TB d 287 106 L (.int (nI 3) :: st) A := x_nx (op := o_push 1 (.int 3)) rfl rfl
theorem x_287_106  : exG TB d 287 106 L st A = exG TB d 287 108 L (.int (nI 50) :: st) A := x_nx (op := o_push 2 (.int 50)) rfl rfl
theorem x_287_108  : exG TB d 287 108 L (.int i2 :: .int i1 :: .ref p :: st) A = ka (wrI 0 (ga A p) i1 i2) p d 287 109 L st A := x_bd (op := o_wrI 0) rfl rfl (fun _ => rfl)
theorem x_287_109  : exG TB d 287 109 L (v :: st) A = ck (c1 v) (exG TB d 287 110 L (v :: v :: st) A) := x_gd (op := o_dup) rfl rfl
theorem x_287_110  : exG TB d 287 110 L st A = exG TB d 287 111 L (.int (nI 4) :: st) A := x_nx (op := o_push 1 (.int 4)) rfl rfl
theorem x_287_111  : exG TB d 287 111 L st A = exG TB d 287 112 L (.int (nI 0) :: st) A := x_nx (op := o_push 1 (.int 0)) rfl rfl
theorem x_287_112  : exG TB d 287 112 L (.int i2 :: .int i1 :: .ref p :: st) A = ka (wrI 0 (ga A p) i1 i2) p d 287 113 L st A := x_bd (op := o_wrI 0) rfl rfl (fun _ => rfl)
theorem x_287_113  : exG TB d 287 113 L (v :: st) A = ck (c1 v) (exG TB d 287 114 L (v :: v :: st) A) := x_gd (op := o_dup) rfl rfl
theorem x_287_114  : exG TB d 287 114 L st A = exG TB d 287 115 L (.int (nI 5) :: st) A := x_nx (op := o_push 1 (.int 5)) rfl rfl
theorem x_287_115  : exG TB d 287 115 L st A = exG TB d 287 116 L (.int (nI 0) :: st) A := x_nx (op := o_push 1 (.int 0)) rfl rfl
theorem x_287_116  : exG TB d 287 116 L (.int i2 :: .int i1 :: .ref p :: st) A = ka (wrI 0 (ga A p) i1 i2) p d 287 117 L st A := x_bd (op := o_wrI 0) rfl rfl (fun _ => rfl)
theorem x_287_117  : exG TB d 287 117 L (v :: st) A = ck (c1 v) (exG TB d 287 118 L (v :: v :: st) A) := x_gd (op := o_dup) rfl rfl
theorem x_287_118  : exG TB d 287 118 L st A = exG TB d 287 120 L (.int (nI 6) :: st) A := x_nx (op := o_push 2 (.int 6)) rfl rfl
theorem x_287_120  : exG TB d 287 120 L st A = exG TB d 287 121 L (.int (nI 0) :: st) A := x_nx (op := o_push 1 (.int 0)) rfl rfl
theorem x_287_121  : exG TB d 287 121 L (.int i2 :: .int i1 :: .ref p :: st) A = ka (wrI 0 (ga A p) i1 i2) p d 287 122 L st A := x_bd (op := o_wrI 0) rfl rfl (fun _ => rfl)
theorem x_287_122  : exG TB d 287 122 L (v :: st) A = ck (c1 v) (exG TB d 287 123 L (v :: v :: st) A) := x_gd (op := o_dup) rfl rfl
theorem x_287_123  : exG TB d 287 123 L st A = exG TB d 287 125 L (.int (nI 7) :: st) A := x_nx (op := o_push 2 (.int 7)) rfl rfl
theorem x_287_125  : exG TB d 287 125 L st A = exG TB d 287 126 L (.int (nI 0) :: st) A := x_nx (op := o_push 1 (.int 0)) rfl rfl
theorem x_287_126  : exG TB d 287 126 L (.int i2 :: .int i1 :: .ref p :: st) A = ka (wrI 0 (ga A p) i1 i2) p d 287 127 L st A := x_bd (op := o_wrI 0) rfl rfl (fun _ => rfl)
theorem x_287_127  : exG TB d 287 127 L (v :: .ref p :: st) A = ck ((gf A p 153).isSome && okv 0 v) (exG TB d 287 130 L st (setf A p 153 v)) := x_gd (op := o_put 153 0) rfl rfl
theorem x_287_130  : exG TB d 287 130 (some v :: r9) st A = rg v (exG TB d 287 131 (some v :: r9) (v :: st) A) := x_rg (op := o_aload 0 1) rfl rfl
theorem x_287_131  : exG TB d 287 131 L st A = exG TB d 287 133 L (.int (nI 8) :: st) A := x_nx (op := o_push 2 (.int 8)) rfl rfl
theorem x_287_133  : exG TB d 287 133 L (.int i1 :: st) A = ck (okn i1) (exG TB d 287 135 L (.ref (nx A) :: st) (newa A (zar 0 i1.toNatClampNeg))) := x_gd (op := o_newa 0 2) rfl rfl
theorem x_287_135  : exG TB d 287 135 L (v :: st) A = ck (c1 v) (exG TB d 287 136 L (v :: v :: st) A) := x_gd (op := o_dup) rfl rfl
theorem x_287_136  : exG TB d 287 136 L st A = exG TB d 287 137 L (.int (nI 0) :: st) A := x_nx (op := o_push 1 (.int 0)) rfl rfl
theorem x_287_137  : exG TB d 287 137 L st A = exG TB d 287 140 L (.int (nI 600) :: st) A := x_nx (op := o_push 3 (.int 600)) rfl rfl
theorem x_287_140  : exG TB d 287 140 L (.int i2 :: .int i1 :: .ref p :: st) A = ka (wrI 0 (ga A p) i1 i2) p d 287 141 L st A := x_bd (op := o_wrI 0) rfl rfl (fun _ => rfl)
theorem x_287_141  : exG TB d 287 141 L (v :: st) A = ck (c1 v) (exG TB d 287 142 L (v :: v :: st) A) := x_gd (op := o_dup) rfl rfl
theorem x_287_142  : exG TB d 287 142 L st A = exG TB d 287 143 L (.int (nI 1) :: st) A := x_nx (op := o_push 1 (.int 1)) rfl rfl
theorem x_287_143  : exG TB d 287 143 L st A = exG TB d 287 145 L (.int (nI 60) :: st) A := x_nx (op := o_push 2 (.int 60)) rfl rfl
theorem x_287_145  : exG TB d 287 145 L (.int i2 :: .int i1 :: .ref p :: st) A = ka (wrI 0 (ga A p) i1 i2) p d 287 146 L st A := x_bd (op := o_wrI 0) rfl rfl (fun _ => rfl)
theorem x_287_146  : exG TB d 287 146 L (v :: st) A = ck (c1 v) (exG TB d 287 147 L (v :: v :: st) A) := x_gd (op := o_dup) rfl rfl
theorem x_287_147  : exG TB d 287 147 L st A = exG TB d 287 148 L (.int (nI 2) :: st) A := x_nx (op := o_push 1 (.int 2)) rfl rfl
theorem x_287_148  : exG TB d 287 148 L st A = exG TB d 287 150 L (.int (nI 20) :: st) A := x_nx (op := o_push 2 (.int 20)) rfl rfl
theorem x_287_150  : exG TB d 287 150 L (.int i2 :: .int i1 :: .ref p :: st) A = ka (wrI 0 (ga A p) i1 i2) p d 287 151 L st A := x_bd (op := o_wrI 0) rfl rfl (fun _ => rfl)
theorem x_287_151  : exG TB d 287 151 L (v :: st) A = ck (c1 v) (exG TB d 287 152 L (v :: v :: st) A) := x_gd (op := o_dup) rfl rfl
theorem x_287_152  : exG TB d 287 152 L st A = exG TB d 287 153 L (.int (nI 3) :: st) A := x_nx (op := o_push 1 (.int 3)) rfl rfl
theorem x_287_153  : exG TB d 287 153 L st A = exG TB d 287 155 L (.int (nI 100) :: st) A := x_nx (op := o_push 2 (.int 100)) rfl rfl
theorem x_287_155  : exG TB d 287 155 L (.int i2 :: .int i1 :: .ref p :: st) A = ka (wrI 0 (ga A p) i1 i2) p d 287 156 L st A := x_bd (op := o_wrI 0) rfl rfl (fun _ => rfl)
theorem x_287_156  : exG TB d 287 156 L (v :: st) A = ck (c1 v) (exG TB d 287 157 L (v :: v :: st) A) := x_gd (op := o_dup) rfl rfl
theorem x_287_157  : exG TB d 287 157 L st A = exG TB d 287 158 L (.int (nI 4) :: st) A := x_nx (op := o_push 1 (.int 4)) rfl rfl
theorem x_287_158  : exG TB d 287 158 L st A = exG TB d 287 160 L (.int (nI 100) :: st) A := x_nx (op := o_push 2 (.int 100)) rfl rfl
theorem x_287_160  : exG TB d 287 160 L (.int i2 :: .int i1 :: .ref p :: st) A = ka (wrI 0 (ga A p) i1 i2) p d 287 161 L st A := x_bd (op := o_wrI 0) rfl rfl (fun _ => rfl)
theorem x_287_161  : exG TB d 287 161 L (v :: st) A = ck (c1 v) (exG TB d 287 162 L (v :: v :: st) A) := x_gd (op := o_dup) rfl rfl
theorem x_287_162  : exG TB d 287 162 L st A = exG TB d 287 163 L (.int (nI 5) :: st) A := x_nx (op := o_push 1 (.int 5)) rfl rfl
theorem x_287_163  : exG TB d 287 163 L st A = exG TB d 287 165 L (.int (nI 100) :: st) A := x_nx (op := o_push 2 (.int 100)) rfl rfl
theorem x_287_165  : exG TB d 287 165 L (.int i2 :: .int i1 :: .ref p :: st) A = ka (wrI 0 (ga A p) i1 i2) p d 287 166 L st A := x_bd (op := o_wrI 0) rfl rfl (fun _ => rfl)
theorem x_287_166  : exG TB d 287 166 L (v :: st) A = ck (c1 v) (exG TB d 287 167 L (v :: v :: st) A) := x_gd (op := o_dup) rfl rfl
theorem x_287_167  : exG TB d 287 167 L st A = exG TB d 287 169 L (.int (nI 6) :: st) A := x_nx (op := o_push 2 (.int 6)) rfl rfl
theorem x_287_169  : exG TB d 287 169 L st A = exG TB d 287 172 L (.int (nI 999) :: st) A := x_nx (op := o_push 3 (.int 999)) rfl rfl
theorem x_287_172  : exG TB d 287 172 L (.int i2 :: .int i1 :: .ref p :: st) A = ka (wrI 0 (ga A p) i1 i2) p d 287 173 L st A := x_bd (op := o_wrI 0) rfl rfl (fun _ => rfl)
theorem x_287_173  : exG TB d 287 173 L (v :: st) A = ck (c1 v) (exG TB d 287 174 L (v :: v :: st) A) := x_gd (op := o_dup) rfl rfl
theorem x_287_174  : exG TB d 287 174 L st A = exG TB d 287 176 L (.int (nI 7) :: st) A := x_nx (op := o_push 2 (.int 7)) rfl rfl
theorem x_287_176  : exG TB d 287 176 L st A = exG TB d 287 179 L (.int (nI 999) :: st) A := x_nx (op := o_push 3 (.int 999)) rfl rfl
theorem x_287_179  : exG TB d 287 179 L (.int i2 :: .int i1 :: .ref p :: st) A = ka (wrI 0 (ga A p) i1 i2) p d 287 180 L st A := x_bd (op := o_wrI 0) rfl rfl (fun _ => rfl)
theorem x_287_180  : exG TB d 287 180 L (v :: .ref p :: st) A = ck ((gf A p 154).isSome && okv 0 v) (exG TB d 287 183 L st (setf A p 154 v)) := x_gd (op := o_put 154 0) rfl rfl
theorem x_287_183  : exG TB d 287 183 (some v :: r9) st A = rg v (exG TB d 287 184 (some v :: r9) (v :: st) A) := x_rg (op := o_aload 0 1) rfl rfl
theorem x_287_184  : exG TB d 287 184 L st A = exG TB d 287 187 L (.int (nI 700) :: st) A := x_nx (op := o_push 3 (.int 700)) rfl rfl
theorem x_287_187  : exG TB d 287 187 L (.int i1 :: st) A = ck (okn i1) (exG TB d 287 189 L (.ref (nx A) :: st) (newa A (zar 0 i1.toNatClampNeg))) := x_gd (op := o_newa 0 2) rfl rfl
theorem x_287_189  : exG TB d 287 189 L (v :: .ref p :: st) A = ck ((gf A p 156).isSome && okv 0 v) (exG TB d 287 192 L st (setf A p 156 v)) := x_gd (op := o_put 156 0) rfl rfl
theorem x_287_192  : exG TB d 287 192 (some v :: r9) st A = rg v (exG TB d 287 193 (some v :: r9) (v :: st) A) := x_rg (op := o_aload 0 1) rfl rfl
theorem x_287_193  : exG TB d 287 193 L st A = exG TB d 287 194 L (.int nN :: st) A := x_nx (op := o_push 1 (.int (-1))) rfl rfl
theorem x_287_194  : exG TB d 287 194 L (v :: .ref p :: st) A = ck ((gf A p 164).isSome && okv 1 v) (exG TB d 287 197 L st (setf A p 164 v)) := x_gd (op := o_put 164 1) rfl rfl
theorem x_287_197  : exG TB d 287 197 (some v :: r9) st A = rg v (exG TB d 287 198 (some v :: r9) (v :: st) A) := x_rg (op := o_aload 0 1) rfl rfl
theorem x_287_198  : exG TB d 287 198 L st A = exG TB d 287 200 L (.int (nI 7) :: st) A := x_nx (op := o_push 2 (.int 7)) rfl rfl
theorem x_287_200  : exG TB d 287 200 L (.int i1 :: st) A = ck (okn i1) (exG TB d 287 202 L (.ref (nx A) :: st) (newa A (zar 0 i1.toNatClampNeg))) := x_gd (op := o_newa 0 2) rfl rfl
theorem x_287_202  : exG TB d 287 202 L (v :: .ref p :: st) A = ck ((gf A p 166).isSome && okv 0 v) (exG TB d 287 205 L st (setf A p 166 v)) := x_gd (op := o_put 166 0) rfl rfl
theorem x_287_205  : exG TB d 287 205 (some v :: r9) st A = rg v (exG TB d 287 206 (some v :: r9) (v :: st) A) := x_rg (op := o_aload 0 1) rfl rfl
theorem x_287_206  : exG TB d 287 206 L st A = exG TB d 287 208 L (.int (nI 7) :: st) A := x_nx (op := o_push 2 (.int 7)) rfl rfl
theorem x_287_208  : exG TB d 287 208 L (.int i1 :: st) A = ck (okn i1) (exG TB d 287 210 L (.ref (nx A) :: st) (newa A (zar 0 i1.toNatClampNeg))) := x_gd (op := o_newa 0 2) rfl rfl
theorem x_287_210  : exG TB d 287 210 L (v :: .ref p :: st) A = ck ((gf A p 167).isSome && okv 0 v) (exG TB d 287 213 L st (setf A p 167 v)) := x_gd (op := o_put 167 0) rfl rfl
theorem x_287_213  : exG TB d 287 213 (some v :: r9) st A = rg v (exG TB d 287 214 (some v :: r9) (v :: st) A) := x_rg (op := o_aload 0 1) rfl rfl
theorem x_287_214  : exG TB d 287 214 L st A = exG TB d 287 216 L (.int (nI 7) :: st) A := x_nx (op := o_push 2 (.int 7)) rfl rfl
theorem x_287_216  : exG TB d 287 216 L (.int i1 :: st) A = ck (okn i1) (exG TB d 287 218 L (.ref (nx A) :: st) (newa A (zar 0 i1.toNatClampNeg))) := x_gd (op := o_newa 0 2) rfl rfl
theorem x_287_218  : exG TB d 287 218 L (v :: .ref p :: st) A = ck ((gf A p 168).isSome && okv 0 v) (exG TB d 287 221 L st (setf A p 168 v)) := x_gd (op := o_put 168 0) rfl rfl
theorem x_287_221  : exG TB d 287 221 (some v :: r9) st A = rg v (exG TB d 287 222 (some v :: r9) (v :: st) A) := x_rg (op := o_aload 0 1) rfl rfl
theorem x_287_222  : exG TB d 287 222 L st A = exG TB d 287 224 L (.int (nI 7) :: st) A := x_nx (op := o_push 2 (.int 7)) rfl rfl
theorem x_287_224  : exG TB d 287 224 L (.int i1 :: st) A = ck (okn i1) (exG TB d 287 226 L (.ref (nx A) :: st) (newa A (zar 0 i1.toNatClampNeg))) := x_gd (op := o_newa 0 2) rfl rfl
theorem x_287_226  : exG TB d 287 226 L (v :: .ref p :: st) A = ck ((gf A p 169).isSome && okv 0 v) (exG TB d 287 229 L st (setf A p 169 v)) := x_gd (op := o_put 169 0) rfl rfl
theorem x_287_229  : exG TB d 287 229 (some v :: r9) st A = rg v (exG TB d 287 230 (some v :: r9) (v :: st) A) := x_rg (op := o_aload 0 1) rfl rfl
theorem x_287_230  : exG TB d 287 230 L st A = exG TB d 287 232 L (.int (nI 7) :: st) A := x_nx (op := o_push 2 (.int 7)) rfl rfl
theorem x_287_232  : exG TB d 287 232 L (.int i1 :: st) A = ck (okn i1) (exG TB d 287 234 L (.ref (nx A) :: st) (newa A (zar 0 i1.toNatClampNeg))) := x_gd (op := o_newa 0 2) rfl rfl
theorem x_287_234  : exG TB d 287 234 L (v :: .ref p :: st) A = ck ((gf A p 170).isSome && okv 0 v) (exG TB d 287 237 L st (setf A p 170 v)) := x_gd (op := o_put 170 0) rfl rfl
theorem x_287_237  : exG TB d 287 237 (some v :: r9) st A = rg v (exG TB d 287 238 (some v :: r9) (v :: st) A) := x_rg (op := o_aload 0 1) rfl rfl
theorem x_287_238  : exG TB d 287 238 L st A = exG TB d 287 240 L (.int (nI 7) :: st) A := x_nx (op := o_push 2 (.int 7)) rfl rfl
theorem x_287_240  : exG TB d 287 240 L (.int i1 :: st) A = ck (okn i1) (exG TB d 287 242 L (.ref (nx A) :: st) (newa A (zar 0 i1.toNatClampNeg))) := x_gd (op := o_newa 0 2) rfl rfl
theorem x_287_242  : exG TB d 287 242 L (v :: .ref p :: st) A = ck ((gf A p 171).isSome && okv 0 v) (exG TB d 287 245 L st (setf A p 171 v)) := x_gd (op := o_put 171 0) rfl rfl
theorem x_287_245  : exG TB d 287 245 (some v :: r9) st A = rg v (exG TB d 287 246 (some v :: r9) (v :: st) A) := x_rg (op := o_aload 0 1) rfl rfl
theorem x_287_246  : exG TB d 287 246 L st A = exG TB d 287 248 L (.int (nI 120) :: st) A := x_nx (op := o_push 2 (.int 120)) rfl rfl
theorem x_287_248  : exG TB d 287 248 L (.int i1 :: st) A = ck (okn i1) (exG TB d 287 250 L (.ref (nx A) :: st) (newa A (zar 0 i1.toNatClampNeg))) := x_gd (op := o_newa 0 2) rfl rfl
theorem x_287_250  : exG TB d 287 250 L (v :: .ref p :: st) A = ck ((gf A p 177).isSome && okv 0 v) (exG TB d 287 253 L st (setf A p 177 v)) := x_gd (op := o_put 177 0) rfl rfl
theorem x_287_253  : exG TB d 287 253 (some v :: r9) st A = rg v (exG TB d 287 254 (some v :: r9) (v :: st) A) := x_rg (op := o_aload 0 1) rfl rfl
theorem x_287_254  : exG TB d 287 254 L st A = exG TB d 287 256 L (.int (nI 120) :: st) A := x_nx (op := o_push 2 (.int 120)) rfl rfl
theorem x_287_256  : exG TB d 287 256 L (.int i1 :: st) A = ck (okn i1) (exG TB d 287 258 L (.ref (nx A) :: st) (newa A (zar 0 i1.toNatClampNeg))) := x_gd (op := o_newa 0 2) rfl rfl
theorem x_287_258  : exG TB d 287 258 L (v :: .ref p :: st) A = ck ((gf A p 178).isSome && okv 0 v) (exG TB d 287 261 L st (setf A p 178 v)) := x_gd (op := o_put 178 0) rfl rfl
theorem x_287_261  : exG TB d 287 261 (some v :: r9) st A = rg v (exG TB d 287 262 (some v :: r9) (v :: st) A) := x_rg (op := o_aload 0 1) rfl rfl
theorem x_287_262  : exG TB d 287 262 L st A = exG TB d 287 264 L (.int (nI 121) :: st) A := x_nx (op := o_push 2 (.int 121)) rfl rfl
theorem x_287_264  : exG TB d 287 264 L (.int i1 :: st) A = ck (okn i1) (exG TB d 287 266 L (.ref (nx A) :: st) (newa A (zar 0 i1.toNatClampNeg))) := x_gd (op := o_newa 0 2) rfl rfl
theorem x_287_266  : exG TB d 287 266 L (v :: .ref p :: st) A = ck ((gf A p 179).isSome && okv 0 v) (exG TB d 287 269 L st (setf A p 179 v)) := x_gd (op := o_put 179 0) rfl rfl
theorem x_287_269  : exG TB d 287 269 (some v :: r9) st A = rg v (exG TB d 287 270 (some v :: r9) (v :: st) A) := x_rg (op := o_aload 0 1) rfl rfl
theorem x_287_270  : exG TB d 287 270 L st A = exG TB d 287 272 L (.int (nI 120) :: st) A := x_nx (op := o_push 2 (.int 120)) rfl rfl
theorem x_287_272  : exG TB d 287 272 L (.int i1 :: st) A = ck (okn i1) (exG TB d 287 274 L (.ref (nx A) :: st) (newa A (zar 0 i1.toNatClampNeg))) := x_gd (op := o_newa 0 2) rfl rfl
theorem x_287_274  : exG TB d 287 274 L (v :: .ref p :: st) A = ck ((gf A p 180).isSome && okv 0 v) (exG TB d 287 277 L st (setf A p 180 v)) := x_gd (op := o_put 180 0) rfl rfl
theorem x_287_277  : exG TB d 287 277 (some v :: r9) st A = rg v (exG TB d 287 278 (some v :: r9) (v :: st) A) := x_rg (op := o_aload 0 1) rfl rfl
theorem x_287_278  : exG TB d 287 278 L st A = exG TB d 287 280 L (.int (nI 120) :: st) A := x_nx (op := o_push 2 (.int 120)) rfl rfl
theorem x_287_280  : exG TB d 287 280 L (.int i1 :: st) A = ck (okn i1) (exG TB d 287 282 L (.ref (nx A) :: st) (newa A (zar 0 i1.toNatClampNeg))) := x_gd (op := o_newa 0 2) rfl rfl
theorem x_287_282  : exG TB d 287 282 L (v :: .ref p :: st) A = ck ((gf A p 181).isSome && okv 0 v) (exG TB d 287 285 L st (setf A p 181 v)) := x_gd (op := o_put 181 0) rfl rfl
theorem x_287_285  : exG TB d 287 285 (some v :: r9) st A = rg v (exG TB d 287 286 (some v :: r9) (v :: st) A) := x_rg (op := o_aload 0 1) rfl rfl
theorem x_287_286  : exG TB d 287 286 L st A = exG TB d 287 289 L (.int (nI 900) :: st) A := x_nx (op := o_push 3 (.int 900)) rfl rfl
theorem x_287_289  : exG TB d 287 289 L (.int i1 :: st) A = ck (okn i1) (exG TB d 287 291 L (.ref (nx A) :: st) (newa A (zar 0 i1.toNatClampNeg))) := x_gd (op := o_newa 0 2) rfl rfl
theorem x_287_291  : exG TB d 287 291 L (v :: .ref p :: st) A = ck ((gf A p 182).isSome && okv 0 v) (exG TB d 287 294 L st (setf A p 182 v)) := x_gd (op := o_put 182 0) rfl rfl
theorem x_287_294  : exG TB d 287 294 (some v :: r9) st A = rg v (exG TB d 287 295 (some v :: r9) (v :: st) A) := x_rg (op := o_aload 0 1) rfl rfl
theorem x_287_295  : exG TB d 287 295 L st A = exG TB d 287 298 L (.int (nI 900) :: st) A := x_nx (op := o_push 3 (.int 900)) rfl rfl
theorem x_287_298  : exG TB d 287 298 L (.int i1 :: st) A = ck (okn i1) (exG TB d 287 300 L (.ref (nx A) :: st) (newa A (zar 2 i1.toNatClampNeg))) := x_gd (op := o_newa 2 2) rfl rfl
theorem x_287_300  : exG TB d 287 300 L (v :: .ref p :: st) A = ck ((gf A p 183).isSome && okv 0 v) (exG TB d 287 303 L st (setf A p 183 v)) := x_gd (op := o_put 183 0) rfl rfl
theorem x_287_303  : exG TB d 287 303 (some v :: r9) st A = rg v (exG TB d 287 304 (some v :: r9) (v :: st) A) := x_rg (op := o_aload 0 1) rfl rfl
theorem x_287_304  : exG TB d 287 304 L [.ref p] A = kw0 (sel (gc A p) [(30, 288)]) [.ref p] d 287 307 L [] A := x_c0b (op := o_cv [(30, 288)] 0 3 true none) rfl rfl x_noh rfl
theorem x_287_307  : exG TB d 287 307 L [] A = some (.inl none, A) := x_out (op := o_vret) rfl rfl
theorem e_288  : evG TB (d + 1) 288 [.ref p] A = exG TB d 288 0 [some (.ref p), none] [] A := evG_eq TB d 288 _ A
theorem x_288_0  : exG TB d 288 0 L st A = exG TB d 288 1 L (.int (nI 0) :: st) A := x_nx (op := o_push 1 (.int 0)) rfl rfl
theorem x_288_1  : exG TB d 288 1 (a0 :: a1 :: r9) (.int i1 :: st) A = exG TB d 288 2 (a0 :: some (.int i1) :: r9) st A := x_nx (op := o_istore 1 1) rfl rfl
theorem x_288_2  : exG TB d 288 2 (a0 :: some (.int i1) :: r9) st A = exG TB d 288 3 (a0 :: some (.int i1) :: r9) (.int i1 :: st) A := x_nx (op := o_iload 1 1) rfl rfl
theorem x_288_3  : exG TB d 288 3 L st A = exG TB d 288 6 L (.int (nI 3100) :: st) A := x_nx (op := o_push 3 (.int 3100)) rfl rfl
theorem x_288_6  : exG TB d 288 6 L (.int i2 :: .int i1 :: st) A = if i2 ≤ i1 then exG TB d 288 22 L st A else exG TB d 288 9 L st A := x_if (op := o_icmp (fun x y => decide (y ≤ x)) 22) rfl rfl rfl
theorem x_288_9  : exG TB d 288 9 (some v :: r9) st A = rg v (exG TB d 288 10 (some v :: r9) (v :: st) A) := x_rg (op := o_aload 0 1) rfl rfl
theorem x_288_10  : exG TB d 288 10 L (.ref p :: st) A = kv (gf A p 148) d 288 13 L st A := x_bd (op := o_get 148) rfl rfl (fun _ => rfl)
theorem x_288_13  : exG TB d 288 13 (a0 :: some (.int i1) :: r9) st A = exG TB d 288 14 (a0 :: some (.int i1) :: r9) (.int i1 :: st) A := x_nx (op := o_iload 1 1) rfl rfl
theorem x_288_14  : exG TB d 288 14 L st A = exG TB d 288 15 L (.int (nI 0) :: st) A := x_nx (op := o_push 1 (.int 0)) rfl rfl
theorem x_288_15  : exG TB d 288 15 L (.int i2 :: .int i1 :: .ref p :: st) A = ka (wrI 0 (ga A p) i1 i2) p d 288 16 L st A := x_bd (op := o_wrI 0) rfl rfl (fun _ => rfl)
theorem x_288_16  : exG TB d 288 16 (a0 :: some (.int i1) :: r9) st A = exG TB d 288 19 (a0 :: some (.int (i1 + (nI 1))) :: r9) st A := x_nx (op := o_iinc 1 1) rfl rfl
theorem x_288_19  : exG TB d 288 19 L st A = exG TB d 288 2 L st A := x_nx (op := o_goto 2) rfl rfl
theorem x_288_22  : exG TB d 288 22 L st A = exG TB d 288 23 L (.int (nI 0) :: st) A := x_nx (op := o_push 1 (.int 0)) rfl rfl
theorem x_288_23  : exG TB d 288 23 (a0 :: a1 :: r9) (.int i1 :: st) A = exG TB d 288 24 (a0 :: some (.int i1) :: r9) st A := x_nx (op := o_istore 1 1) rfl rfl
theorem x_288_24  : exG TB d 288 24 (a0 :: some (.int i1) :: r9) st A = exG TB d 288 25 (a0 :: some (.int i1) :: r9) (.int i1 :: st) A := x_nx (op := o_iload 1 1) rfl rfl
theorem x_288_25  : exG TB d 288 25 L st A = exG TB d 288 27 L (.int (nI 8) :: st) A := x_nx (op := o_push 2 (.int 8)) rfl rfl
theorem x_288_27  : exG TB d 288 27 L (.int i2 :: .int i1 :: st) A = if i2 ≤ i1 then exG TB d 288 50 L st A else exG TB d 288 30 L st A := x_if (op := o_icmp (fun x y => decide (y ≤ x)) 50) rfl rfl rfl
theorem x_288_30  : exG TB d 288 30 (some v :: r9) st A = rg v (exG TB d 288 31 (some v :: r9) (v :: st) A) := x_rg (op := o_aload 0 1) rfl rfl
theorem x_288_31  : exG TB d 288 31 L (.ref p :: st) A = kv (gf A p 148) d 288 34 L st A := x_bd (op := o_get 148) rfl rfl (fun _ => rfl)
theorem x_288_34  : exG TB d 288 34 L st A = exG TB d 288 35 L (.int (nI 0) :: st) A := x_nx (op := o_push 1 (.int 0)) rfl rfl
theorem x_288_35  : exG TB d 288 35 (a0 :: some (.int i1) :: r9) st A = exG TB d 288 36 (a0 :: some (.int i1) :: r9) (.int i1 :: st) A := x_nx (op := o_iload 1 1) rfl rfl
theorem x_288_36  : exG TB d 288 36 L (.int i2 :: .int i1 :: st) A = exG TB d 288 37 L (.int (i1 + i2) :: st) A := x_nx (op := o_iop (fun x y => x + y)) rfl rfl
theorem x_288_37  : exG TB d 288 37 (some v :: r9) st A = rg v (exG TB d 288 38 (some v :: r9) (v :: st) A) := x_rg (op := o_aload 0 1) rfl rfl
theorem x_288_38  : exG TB d 288 38 L (.ref p :: st) A = kv (gf A p 152) d 288 41 L st A := x_bd (op := o_get 152) rfl rfl (fun _ => rfl)
theorem x_288_41  : exG TB d 288 41 (a0 :: some (.int i1) :: r9) st A = exG TB d 288 42 (a0 :: some (.int i1) :: r9) (.int i1 :: st) A := x_nx (op := o_iload 1 1) rfl rfl
theorem x_288_42  : exG TB d 288 42 L (.int i1 :: .ref p :: st) A = ki (rdI 0 (ga A p) i1) d 288 43 L st A := x_bd (op := o_rdI 0) rfl rfl (fun _ => rfl)
theorem x_288_43  : exG TB d 288 43 L (.int i2 :: .int i1 :: .ref p :: st) A = ka (wrI 0 (ga A p) i1 i2) p d 288 44 L st A := x_bd (op := o_wrI 0) rfl rfl (fun _ => rfl)
theorem x_288_44  : exG TB d 288 44 (a0 :: some (.int i1) :: r9) st A = exG TB d 288 47 (a0 :: some (.int (i1 + (nI 1))) :: r9) st A := x_nx (op := o_iinc 1 1) rfl rfl
theorem x_288_47  : exG TB d 288 47 L st A = exG TB d 288 24 L st A := x_nx (op := o_goto 24) rfl rfl
theorem x_288_50  : exG TB d 288 50 L [] A = some (.inl none, A) := x_out (op := o_vret) rfl rfl
theorem e_289  : evG TB (d + 1) 289 [.ref p] A = exG TB d 289 0 [some (.ref p)] [] A := evG_eq TB d 289 _ A
theorem x_289_0  : exG TB d 289 0 (some v :: r9) st A = rg v (exG TB d 289 1 (some v :: r9) (v :: st) A) := x_rg (op := o_aload 0 1) rfl rfl
theorem x_289_1  : exG TB d 289 1 L (.ref p :: st) A = kv (gf A p 155) d 289 4 L st A := x_bd (op := o_get 155) rfl rfl (fun _ => rfl)
theorem x_289_4  : exG TB d 289 4 L [v] A = ck (okv 1 v) (some (.inl (some v), A)) := x_outg (op := o_ret 1) rfl rfl
theorem e_290 {j1 : Int32} : evG TB (d + 1) 290 [.ref p, .int j1] A = exG TB d 290 0 [some (.ref p), some (.int j1), none] [] A := evG_eq TB d 290 _ A
theorem x_290_0  : exG TB d 290 0 (some v :: r9) st A = rg v (exG TB d 290 1 (some v :: r9) (v :: st) A) := x_rg (op := o_aload 0 1) rfl rfl
theorem x_290_1  : exG TB d 290 1 L st A = exG TB d 290 2 L (.int (nI 0) :: st) A := x_nx (op := o_push 1 (.int 0)) rfl rfl
theorem x_290_2  : exG TB d 290 2 L (v :: .ref p :: st) A = ck ((gf A p 155).isSome && okv 1 v) (exG TB d 290 5 L st (setf A p 155 v)) := x_gd (op := o_put 155 1) rfl rfl
theorem x_290_5  : exG TB d 290 5 (some v :: r9) st A = rg v (exG TB d 290 6 (some v :: r9) (v :: st) A) := x_rg (op := o_aload 0 1) rfl rfl
theorem x_290_6  : exG TB d 290 6 L (.ref p :: st) A = kv (gf A p 157) d 290 9 L st A := x_bd (op := o_get 157) rfl rfl (fun _ => rfl)
theorem x_290_9  : exG TB d 290 9 L st A = exG TB d 290 10 L (.int (nI 4) :: st) A := x_nx (op := o_push 1 (.int 4)) rfl rfl
theorem x_290_10  : exG TB d 290 10 L (.int i2 :: .int i1 :: st) A = exG TB d 290 11 L (.int (i1 + i2) :: st) A := x_nx (op := o_iop (fun x y => x + y)) rfl rfl
theorem x_290_11  : exG TB d 290 11 L st A = exG TB d 290 14 L (.int (nI 700) :: st) A := x_nx (op := o_push 3 (.int 700)) rfl rfl
theorem x_290_14  : exG TB d 290 14 L (.int i2 :: .int i1 :: st) A = if i1 ≤ i2 then exG TB d 290 23 L st A else exG TB d 290 17 L st A := x_if (op := o_icmp (fun x y => decide (x ≤ y)) 23) rfl rfl rfl
theorem x_290_17  : exG TB d 290 17 (some v :: r9) st A = rg v (exG TB d 290 18 (some v :: r9) (v :: st) A) := x_rg (op := o_aload 0 1) rfl rfl
theorem x_290_18  : exG TB d 290 18 L st A = exG TB d 290 19 L (.int (nI 1) :: st) A := x_nx (op := o_push 1 (.int 1)) rfl rfl
theorem x_290_19  : exG TB d 290 19 L [b0, .ref p] A = kw (sel (gc A p) [(30, 291)]) [.ref p, b0] d 290 22 L [] A := x_cvb (op := o_cv [(30, 291)] 1 3 false none) rfl rfl x_noh rfl
theorem x_290_22  : exG TB d 290 22 L [v] A = ck (okv 1 v) (some (.inl (some v), A)) := x_outg (op := o_ret 1) rfl rfl
theorem x_290_23  : exG TB d 290 23 L st A = exG TB d 290 25 L (.int (nI 24) :: st) A := x_nx (op := o_push 2 (.int 24)) rfl rfl
theorem x_290_25  : exG TB d 290 25 (a0 :: a1 :: a2 :: r9) (.int i1 :: st) A = exG TB d 290 26 (a0 :: a1 :: some (.int i1) :: r9) st A := x_nx (op := o_istore 2 1) rfl rfl
theorem x_290_26  : exG TB d 290 26 (a0 :: a1 :: some (.int i1) :: r9) st A = exG TB d 290 27 (a0 :: a1 :: some (.int i1) :: r9) (.int i1 :: st) A := x_nx (op := o_iload 2 1) rfl rfl
theorem x_290_27  : exG TB d 290 27 L (.int i1 :: st) A = if i1 < nI 0 then exG TB d 290 62 L st A else exG TB d 290 30 L st A := x_if (op := o_if (fun x => decide (x < 0)) 62) rfl rfl rfl
theorem x_290_30  : exG TB d 290 30 (some v :: r9) st A = rg v (exG TB d 290 31 (some v :: r9) (v :: st) A) := x_rg (op := o_aload 0 1) rfl rfl
theorem x_290_31  : exG TB d 290 31 L (.ref p :: st) A = kv (gf A p 156) d 290 34 L st A := x_bd (op := o_get 156) rfl rfl (fun _ => rfl)
theorem x_290_34  : exG TB d 290 34 (some v :: r9) st A = rg v (exG TB d 290 35 (some v :: r9) (v :: st) A) := x_rg (op := o_aload 0 1) rfl rfl
theorem x_290_35  : exG TB d 290 35 L (.ref p :: st) A = kv (gf A p 157) d 290 38 L st A := x_bd (op := o_get 157) rfl rfl (fun _ => rfl)
theorem x_290_38  : exG TB d 290 38 (a0 :: some (.int i1) :: r9) st A = exG TB d 290 39 (a0 :: some (.int i1) :: r9) (.int i1 :: st) A := x_nx (op := o_iload 1 1) rfl rfl
theorem x_290_39  : exG TB d 290 39 (a0 :: a1 :: some (.int i1) :: r9) st A = exG TB d 290 40 (a0 :: a1 :: some (.int i1) :: r9) (.int i1 :: st) A := x_nx (op := o_iload 2 1) rfl rfl
theorem x_290_40  : exG TB d 290 40 L (.int i2 :: .int i1 :: st) A = exG TB d 290 41 L (.int (i1 >>> (i2 &&& 31)) :: st) A := x_nx (op := o_iop (fun x y => x >>> (y &&& 31))) rfl rfl
theorem x_290_41  : exG TB d 290 41 L st A = exG TB d 290 44 L (.int (nI 255) :: st) A := x_nx (op := o_push 3 (.int 255)) rfl rfl
theorem x_290_44  : exG TB d 290 44 L (.int i2 :: .int i1 :: st) A = exG TB d 290 45 L (.int (i1 &&& i2) :: st) A := x_nx (op := o_iop (fun x y => x &&& y)) rfl rfl
theorem x_290_45  : exG TB d 290 45 L (.int i2 :: .int i1 :: .ref p :: st) A = ka (wrI 0 (ga A p) i1 i2) p d 290 46 L st A := x_bd (op := o_wrI 0) rfl rfl (fun _ => rfl)
theorem x_290_46  : exG TB d 290 46 (some v :: r9) st A = rg v (exG TB d 290 47 (some v :: r9) (v :: st) A) := x_rg (op := o_aload 0 1) rfl rfl
theorem x_290_47  : exG TB d 290 47 L (v :: st) A = ck (c1 v) (exG TB d 290 48 L (v :: v :: st) A) := x_gd (op := o_dup) rfl rfl
theorem x_290_48  : exG TB d 290 48 L (.ref p :: st) A = kv (gf A p 157) d 290 51 L st A := x_bd (op := o_get 157) rfl rfl (fun _ => rfl)
theorem x_290_51  : exG TB d 290 51 L st A = exG TB d 290 52 L (.int (nI 1) :: st) A := x_nx (op := o_push 1 (.int 1)) rfl rfl
theorem x_290_52  : exG TB d 290 52 L (.int i2 :: .int i1 :: st) A = exG TB d 290 53 L (.int (i1 + i2) :: st) A := x_nx (op := o_iop (fun x y => x + y)) rfl rfl
theorem x_290_53  : exG TB d 290 53 L (v :: .ref p :: st) A = ck ((gf A p 157).isSome && okv 1 v) (exG TB d 290 56 L st (setf A p 157 v)) := x_gd (op := o_put 157 1) rfl rfl
theorem x_290_56  : exG TB d 290 56 (a0 :: a1 :: some (.int i1) :: r9) st A = exG TB d 290 59 (a0 :: a1 :: some (.int (i1 + (-8))) :: r9) st A := x_nx (op := o_iinc 2 (-8)) rfl rfl
theorem x_290_59  : exG TB d 290 59 L st A = exG TB d 290 26 L st A := x_nx (op := o_goto 26) rfl rfl
theorem x_290_62  : exG TB d 290 62 (some v :: r9) st A = rg v (exG TB d 290 63 (some v :: r9) (v :: st) A) := x_rg (op := o_aload 0 1) rfl rfl
theorem x_290_63  : exG TB d 290 63 L (.ref p :: st) A = kv (gf A p 157) d 290 66 L st A := x_bd (op := o_get 157) rfl rfl (fun _ => rfl)
theorem x_290_66  : exG TB d 290 66 L [v] A = ck (okv 1 v) (some (.inl (some v), A)) := x_outg (op := o_ret 1) rfl rfl
theorem e_291 {j1 : Int32} : evG TB (d + 1) 291 [.ref p, .int j1] A = exG TB d 291 0 [some (.ref p), some (.int j1)] [] A := evG_eq TB d 291 _ A
theorem x_291_0  : exG TB d 291 0 (some v :: r9) st A = rg v (exG TB d 291 1 (some v :: r9) (v :: st) A) := x_rg (op := o_aload 0 1) rfl rfl
theorem x_291_1  : exG TB d 291 1 (a0 :: some (.int i1) :: r9) st A = exG TB d 291 2 (a0 :: some (.int i1) :: r9) (.int i1 :: st) A := x_nx (op := o_iload 1 1) rfl rfl
theorem x_291_2  : exG TB d 291 2 L (v :: .ref p :: st) A = ck ((gf A p 155).isSome && okv 1 v) (exG TB d 291 5 L st (setf A p 155 v)) := x_gd (op := o_put 155 1) rfl rfl
theorem x_291_5  : exG TB d 291 5 L st A = exG TB d 291 6 L (.int (nI 0) :: st) A := x_nx (op := o_push 1 (.int 0)) rfl rfl
theorem x_291_6  : exG TB d 291 6 L [v] A = ck (okv 1 v) (some (.inl (some v), A)) := x_outg (op := o_ret 1) rfl rfl
theorem e_292 {j1 : Int32} : evG TB (d + 1) 292 [.ref p, .int j1] A = exG TB d 292 0 [some (.ref p), some (.int j1)] [] A := evG_eq TB d 292 _ A
theorem x_292_0  : exG TB d 292 0 (some v :: r9) st A = rg v (exG TB d 292 1 (some v :: r9) (v :: st) A) := x_rg (op := o_aload 0 1) rfl rfl
theorem x_292_1  : exG TB d 292 1 L st A = exG TB d 292 2 L (.int (nI 0) :: st) A := x_nx (op := o_push 1 (.int 0)) rfl rfl
theorem x_292_2  : exG TB d 292 2 L (v :: .ref p :: st) A = ck ((gf A p 155).isSome && okv 1 v) (exG TB d 292 5 L st (setf A p 155 v)) := x_gd (op := o_put 155 1) rfl rfl
theorem x_292_5  : exG TB d 292 5 (a0 :: some (.int i1) :: r9) st A = exG TB d 292 6 (a0 :: some (.int i1) :: r9) (.int i1 :: st) A := x_nx (op := o_iload 1 1) rfl rfl
theorem x_292_6  : exG TB d 292 6 L st A = exG TB d 292 7 L (.int (nI 0) :: st) A := x_nx (op := o_push 1 (.int 0)) rfl rfl
theorem x_292_7  : exG TB d 292 7 (some v :: r9) st A = rg v (exG TB d 292 8 (some v :: r9) (v :: st) A) := x_rg (op := o_aload 0 1) rfl rfl
theorem x_292_8  : exG TB d 292 8 L (.ref p :: st) A = kv (gf A p 157) d 292 11 L st A := x_bd (op := o_get 157) rfl rfl (fun _ => rfl)
theorem x_292_11  : exG TB d 292 11 L [b2, b1, b0] A = kc (evG TB d 293 [b0, b1, b2] A) d 292 14 L [] := x_cv (op := o_cs 293 3 false none) rfl rfl x_noh rfl
theorem x_292_14  : exG TB d 292 14 L (.int i1 :: st) A = if ¬ i1 = nI 0 then exG TB d 292 23 L st A else exG TB d 292 17 L st A := x_if (op := o_if (fun x => decide (¬ x = 0)) 23) rfl rfl rfl
theorem x_292_17  : exG TB d 292 17 (some v :: r9) st A = rg v (exG TB d 292 18 (some v :: r9) (v :: st) A) := x_rg (op := o_aload 0 1) rfl rfl
theorem x_292_18  : exG TB d 292 18 L st A = exG TB d 292 19 L (.int (nI 1) :: st) A := x_nx (op := o_push 1 (.int 1)) rfl rfl
theorem x_292_19  : exG TB d 292 19 L [b0, .ref p] A = kw (sel (gc A p) [(30, 291)]) [.ref p, b0] d 292 22 L [] A := x_cvb (op := o_cv [(30, 291)] 1 3 false none) rfl rfl x_noh rfl
theorem x_292_22  : exG TB d 292 22 L [v] A = ck (okv 1 v) (some (.inl (some v), A)) := x_outg (op := o_ret 1) rfl rfl
theorem x_292_23  : exG TB d 292 23 (some v :: r9) st A = rg v (exG TB d 292 24 (some v :: r9) (v :: st) A) := x_rg (op := o_aload 0 1) rfl rfl
theorem x_292_24  : exG TB d 292 24 (a0 :: some (.int i1) :: r9) st A = exG TB d 292 25 (a0 :: some (.int i1) :: r9) (.int i1 :: st) A := x_nx (op := o_iload 1 1) rfl rfl
theorem x_292_25  : exG TB d 292 25 L (v :: .ref p :: st) A = ck ((gf A p 157).isSome && okv 1 v) (exG TB d 292 28 L st (setf A p 157 v)) := x_gd (op := o_put 157 1) rfl rfl
theorem x_292_28  : exG TB d 292 28 (some v :: r9) st A = rg v (exG TB d 292 29 (some v :: r9) (v :: st) A) := x_rg (op := o_aload 0 1) rfl rfl
theorem x_292_29  : exG TB d 292 29 L (.ref p :: st) A = kv (gf A p 157) d 292 32 L st A := x_bd (op := o_get 157) rfl rfl (fun _ => rfl)
theorem x_292_32  : exG TB d 292 32 L [v] A = ck (okv 1 v) (some (.inl (some v), A)) := x_outg (op := o_ret 1) rfl rfl
theorem e_293 {j0 : Int32} {j1 : Int32} {j2 : Int32} : evG TB (d + 1) 293 [.int j0, .int j1, .int j2] A = exG TB d 293 0 [some (.int j0), some (.int j1), some (.int j2)] [] A := evG_eq TB d 293 _ A
theorem x_293_0  : exG TB d 293 0 (some (.int i1) :: r9) st A = exG TB d 293 1 (some (.int i1) :: r9) (.int i1 :: st) A := x_nx (op := o_iload 0 1) rfl rfl
theorem x_293_1  : exG TB d 293 1 (a0 :: some (.int i1) :: r9) st A = exG TB d 293 2 (a0 :: some (.int i1) :: r9) (.int i1 :: st) A := x_nx (op := o_iload 1 1) rfl rfl
theorem x_293_2  : exG TB d 293 2 L (.int i2 :: .int i1 :: st) A = if i1 < i2 then exG TB d 293 14 L st A else exG TB d 293 5 L st A := x_if (op := o_icmp (fun x y => decide (x < y)) 14) rfl rfl rfl
theorem x_293_5  : exG TB d 293 5 (some (.int i1) :: r9) st A = exG TB d 293 6 (some (.int i1) :: r9) (.int i1 :: st) A := x_nx (op := o_iload 0 1) rfl rfl
theorem x_293_6  : exG TB d 293 6 (a0 :: a1 :: some (.int i1) :: r9) st A = exG TB d 293 7 (a0 :: a1 :: some (.int i1) :: r9) (.int i1 :: st) A := x_nx (op := o_iload 2 1) rfl rfl
theorem x_293_7  : exG TB d 293 7 L (.int i2 :: .int i1 :: st) A = if i2 < i1 then exG TB d 293 14 L st A else exG TB d 293 10 L st A := x_if (op := o_icmp (fun x y => decide (y < x)) 14) rfl rfl rfl
theorem x_293_10  : exG TB d 293 10 L st A = exG TB d 293 11 L (.int (nI 1) :: st) A := x_nx (op := o_push 1 (.int 1)) rfl rfl
theorem x_293_11  : exG TB d 293 11 L st A = exG TB d 293 15 L st A := x_nx (op := o_goto 15) rfl rfl
theorem x_293_14  : exG TB d 293 14 L st A = exG TB d 293 15 L (.int (nI 0) :: st) A := x_nx (op := o_push 1 (.int 0)) rfl rfl
theorem x_293_15  : exG TB d 293 15 L [v] A = ck (okv 5 v) (some (.inl (some v), A)) := x_outg (op := o_ret 5) rfl rfl
theorem e_294  : evG TB (d + 1) 294 [.ref p] A = exG TB d 294 0 [some (.ref p), none] [] A := evG_eq TB d 294 _ A
theorem x_294_0  : exG TB d 294 0 (some v :: r9) st A = rg v (exG TB d 294 1 (some v :: r9) (v :: st) A) := x_rg (op := o_aload 0 1) rfl rfl
theorem x_294_1  : exG TB d 294 1 L st A = exG TB d 294 2 L (.int (nI 0) :: st) A := x_nx (op := o_push 1 (.int 0)) rfl rfl
theorem x_294_2  : exG TB d 294 2 L (v :: .ref p :: st) A = ck ((gf A p 155).isSome && okv 1 v) (exG TB d 294 5 L st (setf A p 155 v)) := x_gd (op := o_put 155 1) rfl rfl
theorem x_294_5  : exG TB d 294 5 (some v :: r9) st A = rg v (exG TB d 294 6 (some v :: r9) (v :: st) A) := x_rg (op := o_aload 0 1) rfl rfl
theorem x_294_6  : exG TB d 294 6 L (.ref p :: st) A = kv (gf A p 148) d 294 9 L st A := x_bd (op := o_get 148) rfl rfl (fun _ => rfl)
theorem x_294_9  : exG TB d 294 9 L st A = exG TB d 294 10 L (.int (nI 0) :: st) A := x_nx (op := o_push 1 (.int 0)) rfl rfl
theorem x_294_10  : exG TB d 294 10 (some v :: r9) st A = rg v (exG TB d 294 11 (some v :: r9) (v :: st) A) := x_rg (op := o_aload 0 1) rfl rfl
theorem x_294_11  : exG TB d 294 11 L (.ref p :: st) A = kv (gf A p 149) d 294 14 L st A := x_bd (op := o_get 149) rfl rfl (fun _ => rfl)
theorem x_294_14  : exG TB d 294 14 L st A = exG TB d 294 15 L (.int (nI 0) :: st) A := x_nx (op := o_push 1 (.int 0)) rfl rfl
theorem x_294_15  : exG TB d 294 15 L [b3, b2, b1, b0] A = kc0 (evG TB d 295 [b0, b1, b2, b3] A) d 294 18 L [] := x_c0 (op := o_cs 295 4 true none) rfl rfl x_noh rfl
theorem x_294_18  : exG TB d 294 18 (some v :: r9) st A = rg v (exG TB d 294 19 (some v :: r9) (v :: st) A) := x_rg (op := o_aload 0 1) rfl rfl
theorem x_294_19  : exG TB d 294 19 L [.ref p] A = kw0 (sel (gc A p) [(30, 288)]) [.ref p] d 294 22 L [] A := x_c0b (op := o_cv [(30, 288)] 0 3 true none) rfl rfl x_noh rfl
theorem x_294_22  : exG TB d 294 22 (some v :: r9) st A = rg v (exG TB d 294 23 (some v :: r9) (v :: st) A) := x_rg (op := o_aload 0 1) rfl rfl
theorem x_294_23  : exG TB d 294 23 L st A = exG TB d 294 24 L (.int (nI 0) :: st) A := x_nx (op := o_push 1 (.int 0)) rfl rfl
theorem x_294_24  : exG TB d 294 24 L (v :: .ref p :: st) A = ck ((gf A p 163).isSome && okv 1 v) (exG TB d 294 27 L st (setf A p 163 v)) := x_gd (op := o_put 163 1) rfl rfl
theorem x_294_27  : exG TB d 294 27 (some v :: r9) st A = rg v (exG TB d 294 28 (some v :: r9) (v :: st) A) := x_rg (op := o_aload 0 1) rfl rfl
theorem x_294_28  : exG TB d 294 28 L st A = exG TB d 294 29 L (.int nN :: st) A := x_nx (op := o_push 1 (.int (-1))) rfl rfl
theorem x_294_29  : exG TB d 294 29 L (v :: .ref p :: st) A = ck ((gf A p 164).isSome && okv 1 v) (exG TB d 294 32 L st (setf A p 164 v)) := x_gd (op := o_put 164 1) rfl rfl
theorem x_294_32  : exG TB d 294 32 (some v :: r9) st A = rg v (exG TB d 294 33 (some v :: r9) (v :: st) A) := x_rg (op := o_aload 0 1) rfl rfl
theorem x_294_33  : exG TB d 294 33 L st A = exG TB d 294 34 L (.int (nI 0) :: st) A := x_nx (op := o_push 1 (.int 0)) rfl rfl
theorem x_294_34  : exG TB d 294 34 L (v :: .ref p :: st) A = ck ((gf A p 158).isSome && okv 1 v) (exG TB d 294 37 L st (setf A p 158 v)) := x_gd (op := o_put 158 1) rfl rfl
theorem x_294_37  : exG TB d 294 37 (some v :: r9) st A = rg v (exG TB d 294 38 (some v :: r9) (v :: st) A) := x_rg (op := o_aload 0 1) rfl rfl
theorem x_294_38  : exG TB d 294 38 L [.ref p] A = kw0 (sel (gc A p) [(30, 296)]) [.ref p] d 294 41 L [] A := x_c0b (op := o_cv [(30, 296)] 0 3 true none) rfl rfl x_noh rfl
theorem x_294_41  : exG TB d 294 41 L st A = exG TB d 294 42 L (.int (nI 0) :: st) A := x_nx (op := o_push 1 (.int 0)) rfl rfl
theorem x_294_42  : exG TB d 294 42 (a0 :: a1 :: r9) (.int i1 :: st) A = exG TB d 294 43 (a0 :: some (.int i1) :: r9) st A := x_nx (op := o_istore 1 1) rfl rfl
theorem x_294_43  : exG TB d 294 43 (some v :: r9) st A = rg v (exG TB d 294 44 (some v :: r9) (v :: st) A) := x_rg (op := o_aload 0 1) rfl rfl
theorem x_294_44  : exG TB d 294 44 L [.ref p] A = kw (sel (gc A p) [(30, 300)]) [.ref p] d 294 47 L [] A := x_cvb (op := o_cv [(30, 300)] 0 3 false none) rfl rfl x_noh rfl
theorem x_294_47  : exG TB d 294 47 L (.int i1 :: st) A = if i1 = nI 0 then exG TB d 294 67 L st A else exG TB d 294 50 L st A := x_if (op := o_if (fun x => decide (x = 0)) 67) rfl rfl rfl
theorem x_294_50  : exG TB d 294 50 (some v :: r9) st A = rg v (exG TB d 294 51 (some v :: r9) (v :: st) A) := x_rg (op := o_aload 0 1) rfl rfl
theorem x_294_51  : exG TB d 294 51 L (.ref p :: st) A = kv (gf A p 160) d 294 54 L st A := x_bd (op := o_get 160) rfl rfl (fun _ => rfl)
theorem x_294_54  : exG TB d 294 54 L (.int i1 :: st) A = if i1 = nI 0 then exG TB d 294 67 L st A else exG TB d 294 57 L st A := x_if (op := o_if (fun x => decide (x = 0)) 67) rfl rfl rfl
theorem x_294_57  : exG TB d 294 57 (some v :: r9) st A = rg v (exG TB d 294 58 (some v :: r9) (v :: st) A) := x_rg (op := o_aload 0 1) rfl rfl
theorem x_294_58  : exG TB d 294 58 L [.ref p] A = kw0 (sel (gc A p) [(30, 301)]) [.ref p] d 294 61 L [] A := x_c0b (op := o_cv [(30, 301)] 0 3 true none) rfl rfl x_noh rfl
theorem x_294_61  : exG TB d 294 61 (a0 :: some (.int i1) :: r9) st A = exG TB d 294 64 (a0 :: some (.int (i1 + (nI 1))) :: r9) st A := x_nx (op := o_iinc 1 1) rfl rfl
theorem x_294_64  : exG TB d 294 64 L st A = exG TB d 294 43 L st A := x_nx (op := o_goto 43) rfl rfl
theorem x_294_67  : exG TB d 294 67 (some v :: r9) st A = rg v (exG TB d 294 68 (some v :: r9) (v :: st) A) := x_rg (op := o_aload 0 1) rfl rfl
theorem x_294_68  : exG TB d 294 68 L st A = exG TB d 294 69 L (.int (nI 0) :: st) A := x_nx (op := o_push 1 (.int 0)) rfl rfl
theorem x_294_69  : exG TB d 294 69 L (v :: .ref p :: st) A = ck ((gf A p 157).isSome && okv 1 v) (exG TB d 294 72 L st (setf A p 157 v)) := x_gd (op := o_put 157 1) rfl rfl
theorem x_294_72  : exG TB d 294 72 (some v :: r9) st A = rg v (exG TB d 294 73 (some v :: r9) (v :: st) A) := x_rg (op := o_aload 0 1) rfl rfl
theorem x_294_73  : exG TB d 294 73 L [.ref p] A = kw (sel (gc A p) [(30, 300)]) [.ref p] d 294 76 L [] A := x_cvb (op := o_cv [(30, 300)] 0 3 false none) rfl rfl x_noh rfl
theorem x_294_76  : exG TB d 294 76 L (.int i1 :: st) A = if ¬ i1 = nI 0 then exG TB d 294 94 L st A else exG TB d 294 79 L st A := x_if (op := o_if (fun x => decide (¬ x = 0)) 94) rfl rfl rfl
theorem x_294_79  : exG TB d 294 79 (some v :: r9) st A = rg v (exG TB d 294 80 (some v :: r9) (v :: st) A) := x_rg (op := o_aload 0 1) rfl rfl
theorem x_294_80  : exG TB d 294 80 L (.ref p :: st) A = kv (gf A p 149) d 294 83 L st A := x_bd (op := o_get 149) rfl rfl (fun _ => rfl)
theorem x_294_83  : exG TB d 294 83 L st A = exG TB d 294 84 L (.int (nI 0) :: st) A := x_nx (op := o_push 1 (.int 0)) rfl rfl
theorem x_294_84  : exG TB d 294 84 (some v :: r9) st A = rg v (exG TB d 294 85 (some v :: r9) (v :: st) A) := x_rg (op := o_aload 0 1) rfl rfl
theorem x_294_85  : exG TB d 294 85 L (.ref p :: st) A = kv (gf A p 148) d 294 88 L st A := x_bd (op := o_get 148) rfl rfl (fun _ => rfl)
theorem x_294_88  : exG TB d 294 88 L st A = exG TB d 294 89 L (.int (nI 0) :: st) A := x_nx (op := o_push 1 (.int 0)) rfl rfl
theorem x_294_89  : exG TB d 294 89 L [b3, b2, b1, b0] A = kc0 (evG TB d 295 [b0, b1, b2, b3] A) d 294 92 L [] := x_c0 (op := o_cs 295 4 true none) rfl rfl x_noh rfl
theorem x_294_92  : exG TB d 294 92 L st A = exG TB d 294 93 L (.int nN :: st) A := x_nx (op := o_push 1 (.int (-1))) rfl rfl
theorem x_294_93  : exG TB d 294 93 L [v] A = ck (okv 1 v) (some (.inl (some v), A)) := x_outg (op := o_ret 1) rfl rfl
theorem x_294_94  : exG TB d 294 94 (a0 :: some (.int i1) :: r9) st A = exG TB d 294 95 (a0 :: some (.int i1) :: r9) (.int i1 :: st) A := x_nx (op := o_iload 1 1) rfl rfl
theorem x_294_95  : exG TB d 294 95 L [v] A = ck (okv 1 v) (some (.inl (some v), A)) := x_outg (op := o_ret 1) rfl rfl
theorem e_295 {j1 : Int32} {j3 : Int32} : evG TB (d + 1) 295 [b0, .int j1, b2, .int j3] A = rg b0 (rg b2 (exG TB d 295 0 [some (b0), some (.int j1), some (b2), some (.int j3), none] [] A)) := by
  rw [evG_eq]
  show (bif (isR b0 && (true && (isR b2 && (true && true)))) then exG TB d 295 0 [some (b0), some (.int j1), some (b2), some (.int j3), none] [] A else none) = _
  unfold rg
  cases isR b0 <;> cases isR b2 <;> rfl
theorem x_295_0  : exG TB d 295 0 L st A = exG TB d 295 1 L (.int (nI 0) :: st) A := x_nx (op := o_push 1 (.int 0)) rfl rfl
theorem x_295_1  : exG TB d 295 1 (a0 :: a1 :: a2 :: a3 :: a4 :: r9) (.int i1 :: st) A = exG TB d 295 3 (a0 :: a1 :: a2 :: a3 :: some (.int i1) :: r9) st A := x_nx (op := o_istore 4 2) rfl rfl
theorem x_295_3  : exG TB d 295 3 (a0 :: a1 :: a2 :: a3 :: some (.int i1) :: r9) st A = exG TB d 295 5 (a0 :: a1 :: a2 :: a3 :: some (.int i1) :: r9) (.int i1 :: st) A := x_nx (op := o_iload 4 2) rfl rfl
theorem x_295_5  : exG TB d 295 5 L st A = exG TB d 295 8 L (.int (nI 3100) :: st) A := x_nx (op := o_push 3 (.int 3100)) rfl rfl
theorem x_295_8  : exG TB d 295 8 L (.int i2 :: .int i1 :: st) A = if i2 ≤ i1 then exG TB d 295 29 L st A else exG TB d 295 11 L st A := x_if (op := o_icmp (fun x y => decide (y ≤ x)) 29) rfl rfl rfl
theorem x_295_11  : exG TB d 295 11 (a0 :: a1 :: some v :: r9) st A = rg v (exG TB d 295 12 (a0 :: a1 :: some v :: r9) (v :: st) A) := x_rg (op := o_aload 2 1) rfl rfl
theorem x_295_12  : exG TB d 295 12 (a0 :: a1 :: a2 :: some (.int i1) :: r9) st A = exG TB d 295 13 (a0 :: a1 :: a2 :: some (.int i1) :: r9) (.int i1 :: st) A := x_nx (op := o_iload 3 1) rfl rfl
theorem x_295_13  : exG TB d 295 13 (a0 :: a1 :: a2 :: a3 :: some (.int i1) :: r9) st A = exG TB d 295 15 (a0 :: a1 :: a2 :: a3 :: some (.int i1) :: r9) (.int i1 :: st) A := x_nx (op := o_iload 4 2) rfl rfl
theorem x_295_15  : exG TB d 295 15 L (.int i2 :: .int i1 :: st) A = exG TB d 295 16 L (.int (i1 + i2) :: st) A := x_nx (op := o_iop (fun x y => x + y)) rfl rfl
theorem x_295_16  : exG TB d 295 16 (some v :: r9) st A = rg v (exG TB d 295 17 (some v :: r9) (v :: st) A) := x_rg (op := o_aload 0 1) rfl rfl
theorem x_295_17  : exG TB d 295 17 (a0 :: some (.int i1) :: r9) st A = exG TB d 295 18 (a0 :: some (.int i1) :: r9) (.int i1 :: st) A := x_nx (op := o_iload 1 1) rfl rfl
theorem x_295_18  : exG TB d 295 18 (a0 :: a1 :: a2 :: a3 :: some (.int i1) :: r9) st A = exG TB d 295 20 (a0 :: a1 :: a2 :: a3 :: some (.int i1) :: r9) (.int i1 :: st) A := x_nx (op := o_iload 4 2) rfl rfl
theorem x_295_20  : exG TB d 295 20 L (.int i2 :: .int i1 :: st) A = exG TB d 295 21 L (.int (i1 + i2) :: st) A := x_nx (op := o_iop (fun x y => x + y)) rfl rfl
theorem x_295_21  : exG TB d 295 21 L (.int i1 :: .ref p :: st) A = ki (rdI 0 (ga A p) i1) d 295 22 L st A := x_bd (op := o_rdI 0) rfl rfl (fun _ => rfl)
theorem x_295_22  : exG TB d 295 22 L (.int i2 :: .int i1 :: .ref p :: st) A = ka (wrI 0 (ga A p) i1 i2) p d 295 23 L st A := x_bd (op := o_wrI 0) rfl rfl (fun _ => rfl)
theorem x_295_23  : exG TB d 295 23 (a0 :: a1 :: a2 :: a3 :: some (.int i1) :: r9) st A = exG TB d 295 26 (a0 :: a1 :: a2 :: a3 :: some (.int (i1 + (nI 1))) :: r9) st A := x_nx (op := o_iinc 4 1) rfl rfl
theorem x_295_26  : exG TB d 295 26 L st A = exG TB d 295 3 L st A := x_nx (op := o_goto 3) rfl rfl
theorem x_295_29  : exG TB d 295 29 L [] A = some (.inl none, A) := x_out (op := o_vret) rfl rfl
theorem e_296  : evG TB (d + 1) 296 [.ref p] A = exG TB d 296 0 [some (.ref p), none] [] A := evG_eq TB d 296 _ A
theorem x_296_0  : exG TB d 296 0 (some v :: r9) st A = rg v (exG TB d 296 1 (some v :: r9) (v :: st) A) := x_rg (op := o_aload 0 1) rfl rfl
theorem x_296_1  : exG TB d 296 1 (some v :: r9) st A = rg v (exG TB d 296 2 (some v :: r9) (v :: st) A) := x_rg (op := o_aload 0 1) rfl rfl
theorem x_296_2  : exG TB d 296 2 L (.ref p :: st) A = kv (gf A p 158) d 296 5 L st A := x_bd (op := o_get 158) rfl rfl (fun _ => rfl)
theorem x_296_5  : exG TB d 296 5 L [b0, .ref p] A = kw (sel (gc A p) [(30, 297)]) [.ref p, b0] d 296 8 L [] A := x_cvb (op := o_cv [(30, 297)] 1 3 false none) rfl rfl x_noh rfl
theorem x_296_8  : exG TB d 296 8 L st A = exG TB d 296 10 L (.int (nI 32) :: st) A := x_nx (op := o_push 2 (.int 32)) rfl rfl
theorem x_296_10  : exG TB d 296 10 L (.int i2 :: .int i1 :: st) A = if i1 = i2 then exG TB d 296 26 L st A else exG TB d 296 13 L st A := x_if (op := o_icmp (fun x y => decide (x = y)) 26) rfl rfl rfl
theorem x_296_13  : exG TB d 296 13 (some v :: r9) st A = rg v (exG TB d 296 14 (some v :: r9) (v :: st) A) := x_rg (op := o_aload 0 1) rfl rfl
theorem x_296_14  : exG TB d 296 14 (some v :: r9) st A = rg v (exG TB d 296 15 (some v :: r9) (v :: st) A) := x_rg (op := o_aload 0 1) rfl rfl
theorem x_296_15  : exG TB d 296 15 L (.ref p :: st) A = kv (gf A p 158) d 296 18 L st A := x_bd (op := o_get 158) rfl rfl (fun _ => rfl)
theorem x_296_18  : exG TB d 296 18 L [b0, .ref p] A = kw (sel (gc A p) [(30, 297)]) [.ref p, b0] d 296 21 L [] A := x_cvb (op := o_cv [(30, 297)] 1 3 false none) rfl rfl x_noh rfl
theorem x_296_21  : exG TB d 296 21 L st A = exG TB d 296 23 L (.int (nI 10) :: st) A := x_nx (op := o_push 2 (.int 10)) rfl rfl
theorem x_296_23  : exG TB d 296 23 L (.int i2 :: .int i1 :: st) A = if ¬ i1 = i2 then exG TB d 296 39 L st A else exG TB d 296 26 L st A := x_if (op := o_icmp (fun x y => decide (¬ x = y)) 39) rfl rfl rfl
theorem x_296_26  : exG TB d 296 26 (some v :: r9) st A = rg v (exG TB d 296 27 (some v :: r9) (v :: st) A) := x_rg (op := o_aload 0 1) rfl rfl
theorem x_296_27  : exG TB d 296 27 L (v :: st) A = ck (c1 v) (exG TB d 296 28 L (v :: v :: st) A) := x_gd (op := o_dup) rfl rfl
theorem x_296_28  : exG TB d 296 28 L (.ref p :: st) A = kv (gf A p 158) d 296 31 L st A := x_bd (op := o_get 158) rfl rfl (fun _ => rfl)
theorem x_296_31  : exG TB d 296 31 L st A = exG TB d 296 32 L (.int (nI 1) :: st) A := x_nx (op := o_push 1 (.int 1)) rfl rfl
theorem x_296_32  : exG TB d 296 32 L (.int i2 :: .int i1 :: st) A = exG TB d 296 33 L (.int (i1 + i2) :: st) A := x_nx (op := o_iop (fun x y => x + y)) rfl rfl
theorem x_296_33  : exG TB d 296 33 L (v :: .ref p :: st) A = ck ((gf A p 158).isSome && okv 1 v) (exG TB d 296 36 L st (setf A p 158 v)) := x_gd (op := o_put 158 1) rfl rfl
theorem x_296_36  : exG TB d 296 36 L st A = exG TB d 296 0 L st A := x_nx (op := o_goto 0) rfl rfl
theorem x_296_39  : exG TB d 296 39 (some v :: r9) st A = rg v (exG TB d 296 40 (some v :: r9) (v :: st) A) := x_rg (op := o_aload 0 1) rfl rfl
theorem x_296_40  : exG TB d 296 40 (some v :: r9) st A = rg v (exG TB d 296 41 (some v :: r9) (v :: st) A) := x_rg (op := o_aload 0 1) rfl rfl
theorem x_296_41  : exG TB d 296 41 L (.ref p :: st) A = kv (gf A p 158) d 296 44 L st A := x_bd (op := o_get 158) rfl rfl (fun _ => rfl)
theorem x_296_44  : exG TB d 296 44 L (v :: .ref p :: st) A = ck ((gf A p 159).isSome && okv 1 v) (exG TB d 296 47 L st (setf A p 159 v)) := x_gd (op := o_put 159 1) rfl rfl
theorem x_296_47  : exG TB d 296 47 (some v :: r9) st A = rg v (exG TB d 296 48 (some v :: r9) (v :: st) A) := x_rg (op := o_aload 0 1) rfl rfl
theorem x_296_48  : exG TB d 296 48 L st A = exG TB d 296 49 L (.int (nI 0) :: st) A := x_nx (op := o_push 1 (.int 0)) rfl rfl
theorem x_296_49  : exG TB d 296 49 L (v :: .ref p :: st) A = ck ((gf A p 161).isSome && okv 1 v) (exG TB d 296 52 L st (setf A p 161 v)) := x_gd (op := o_put 161 1) rfl rfl
theorem x_296_52  : exG TB d 296 52 (some v :: r9) st A = rg v (exG TB d 296 53 (some v :: r9) (v :: st) A) := x_rg (op := o_aload 0 1) rfl rfl
theorem x_296_53  : exG TB d 296 53 L st A = exG TB d 296 54 L (.long 0 :: st) A := x_nx (op := o_push 1 (.long 0)) rfl rfl
theorem x_296_54  : exG TB d 296 54 L (v :: .ref p :: st) A = ck ((gf A p 165).isSome && okv 2 v) (exG TB d 296 57 L st (setf A p 165 v)) := x_gd (op := o_put 165 2) rfl rfl
theorem x_296_57  : exG TB d 296 57 (some v :: r9) st A = rg v (exG TB d 296 58 (some v :: r9) (v :: st) A) := x_rg (op := o_aload 0 1) rfl rfl
theorem x_296_58  : exG TB d 296 58 L st A = exG TB d 296 59 L (.int (nI 0) :: st) A := x_nx (op := o_push 1 (.int 0)) rfl rfl
theorem x_296_59  : exG TB d 296 59 L (v :: .ref p :: st) A = ck ((gf A p 162).isSome && okv 1 v) (exG TB d 296 62 L st (setf A p 162 v)) := x_gd (op := o_put 162 1) rfl rfl
theorem x_296_62  : exG TB d 296 62 (some v :: r9) st A = rg v (exG TB d 296 63 (some v :: r9) (v :: st) A) := x_rg (op := o_aload 0 1) rfl rfl
theorem x_296_63  : exG TB d 296 63 (some v :: r9) st A = rg v (exG TB d 296 64 (some v :: r9) (v :: st) A) := x_rg (op := o_aload 0 1) rfl rfl
theorem x_296_64  : exG TB d 296 64 L (.ref p :: st) A = kv (gf A p 158) d 296 67 L st A := x_bd (op := o_get 158) rfl rfl (fun _ => rfl)
theorem x_296_67  : exG TB d 296 67 L [b0, .ref p] A = kw (sel (gc A p) [(30, 297)]) [.ref p, b0] d 296 70 L [] A := x_cvb (op := o_cv [(30, 297)] 1 3 false none) rfl rfl x_noh rfl
theorem x_296_70  : exG TB d 296 70 (a0 :: a1 :: r9) (.int i1 :: st) A = exG TB d 296 71 (a0 :: some (.int i1) :: r9) st A := x_nx (op := o_istore 1 1) rfl rfl
theorem x_296_71  : exG TB d 296 71 (a0 :: some (.int i1) :: r9) st A = exG TB d 296 72 (a0 :: some (.int i1) :: r9) (.int i1 :: st) A := x_nx (op := o_iload 1 1) rfl rfl
theorem x_296_72  : exG TB d 296 72 L st A = exG TB d 296 73 L (.int nN :: st) A := x_nx (op := o_push 1 (.int (-1))) rfl rfl
theorem x_296_73  : exG TB d 296 73 L (.int i2 :: .int i1 :: st) A = if ¬ i1 = i2 then exG TB d 296 84 L st A else exG TB d 296 76 L st A := x_if (op := o_icmp (fun x y => decide (¬ x = y)) 84) rfl rfl rfl
theorem x_296_76  : exG TB d 296 76 (some v :: r9) st A = rg v (exG TB d 296 77 (some v :: r9) (v :: st) A) := x_rg (op := o_aload 0 1) rfl rfl
theorem x_296_77  : exG TB d 296 77 L st A = exG TB d 296 78 L (.int (nI 0) :: st) A := x_nx (op := o_push 1 (.int 0)) rfl rfl
theorem x_296_78  : exG TB d 296 78 L (v :: .ref p :: st) A = ck ((gf A p 160).isSome && okv 1 v) (exG TB d 296 81 L st (setf A p 160 v)) := x_gd (op := o_put 160 1) rfl rfl
theorem x_296_81  : exG TB d 296 81 L st A = exG TB d 296 278 L st A := x_nx (op := o_goto 278) rfl rfl
theorem x_296_84  : exG TB d 296 84 (a0 :: some (.int i1) :: r9) st A = exG TB d 296 85 (a0 :: some (.int i1) :: r9) (.int i1 :: st) A := x_nx (op := o_iload 1 1) rfl rfl
theorem x_296_85  : exG TB d 296 85 L [b0] A = kc (evG TB d 298 [b0] A) d 296 88 L [] := x_cv (op := o_cs 298 1 false none) rfl rfl x_noh rfl
theorem x_296_88  : exG TB d 296 88 L (.int i1 :: st) A = if i1 = nI 0 then exG TB d 296 175 L st A else exG TB d 296 91 L st A := x_if (op := o_if (fun x => decide (x = 0)) 175) rfl rfl rfl
theorem x_296_91  : exG TB d 296 91 (some v :: r9) st A = rg v (exG TB d 296 92 (some v :: r9) (v :: st) A) := x_rg (op := o_aload 0 1) rfl rfl
theorem x_296_92  : exG TB d 296 92 L st A = exG TB d 296 93 L (.int (nI 2) :: st) A := x_nx (op := o_push 1 (.int 2)) rfl rfl
theorem x_296_93  : exG TB d 296 93 L (v :: .ref p :: st) A = ck ((gf A p 160).isSome && okv 1 v) (exG TB d 296 96 L st (setf A p 160 v)) := x_gd (op := o_put 160 1) rfl rfl
theorem x_296_96  : exG TB d 296 96 (some v :: r9) st A = rg v (exG TB d 296 97 (some v :: r9) (v :: st) A) := x_rg (op := o_aload 0 1) rfl rfl
theorem x_296_97  : exG TB d 296 97 (some v :: r9) st A = rg v (exG TB d 296 98 (some v :: r9) (v :: st) A) := x_rg (op := o_aload 0 1) rfl rfl
theorem x_296_98  : exG TB d 296 98 L (.ref p :: st) A = kv (gf A p 158) d 296 101 L st A := x_bd (op := o_get 158) rfl rfl (fun _ => rfl)
theorem x_296_101  : exG TB d 296 101 L [b0, .ref p] A = kw (sel (gc A p) [(30, 297)]) [.ref p, b0] d 296 104 L [] A := x_cvb (op := o_cv [(30, 297)] 1 3 false none) rfl rfl x_noh rfl
theorem x_296_104  : exG TB d 296 104 L [b0] A = kc (evG TB d 298 [b0] A) d 296 107 L [] := x_cv (op := o_cs 298 1 false none) rfl rfl x_noh rfl
theorem x_296_107  : exG TB d 296 107 L (.int i1 :: st) A = if i1 = nI 0 then exG TB d 296 278 L st A else exG TB d 296 110 L st A := x_if (op := o_if (fun x => decide (x = 0)) 278) rfl rfl rfl
theorem x_296_110  : exG TB d 296 110 (some v :: r9) st A = rg v (exG TB d 296 111 (some v :: r9) (v :: st) A) := x_rg (op := o_aload 0 1) rfl rfl
theorem x_296_111  : exG TB d 296 111 (some v :: r9) st A = rg v (exG TB d 296 112 (some v :: r9) (v :: st) A) := x_rg (op := o_aload 0 1) rfl rfl
theorem x_296_112  : exG TB d 296 112 L (.ref p :: st) A = kv (gf A p 161) d 296 115 L st A := x_bd (op := o_get 161) rfl rfl (fun _ => rfl)
theorem x_296_115  : exG TB d 296 115 L st A = exG TB d 296 117 L (.int (nI 11) :: st) A := x_nx (op := o_push 2 (.int 11)) rfl rfl
theorem x_296_117  : exG TB d 296 117 L (.int i2 :: .int i1 :: st) A = if i2 ≤ i1 then exG TB d 296 145 L st A else exG TB d 296 120 L st A := x_if (op := o_icmp (fun x y => decide (y ≤ x)) 145) rfl rfl rfl
theorem x_296_120  : exG TB d 296 120 L st A = exG TB d 296 123 L (.long 27 :: st) A := x_nx (op := o_push 3 (.long 27)) rfl rfl
theorem x_296_123  : exG TB d 296 123 (some v :: r9) st A = rg v (exG TB d 296 124 (some v :: r9) (v :: st) A) := x_rg (op := o_aload 0 1) rfl rfl
theorem x_296_124  : exG TB d 296 124 L (.ref p :: st) A = kv (gf A p 165) d 296 127 L st A := x_bd (op := o_get 165) rfl rfl (fun _ => rfl)
theorem x_296_127  : exG TB d 296 127 L (.long l2 :: .long l1 :: st) A = exG TB d 296 128 L (.long (l1 * l2) :: st) A := x_nx (op := o_lop (fun x y => x * y)) rfl rfl
theorem x_296_128  : exG TB d 296 128 (some v :: r9) st A = rg v (exG TB d 296 129 (some v :: r9) (v :: st) A) := x_rg (op := o_aload 0 1) rfl rfl
theorem x_296_129  : exG TB d 296 129 (some v :: r9) st A = rg v (exG TB d 296 130 (some v :: r9) (v :: st) A) := x_rg (op := o_aload 0 1) rfl rfl
theorem x_296_130  : exG TB d 296 130 L (.ref p :: st) A = kv (gf A p 158) d 296 133 L st A := x_bd (op := o_get 158) rfl rfl (fun _ => rfl)
theorem x_296_133  : exG TB d 296 133 L [b0, .ref p, w0, w1] A = kw (sel (gc A p) [(30, 297)]) [.ref p, b0] d 296 136 L [w0, w1] A := x_cvb (op := o_cv [(30, 297)] 1 3 false none) rfl rfl x_noh rfl
theorem x_296_136  : exG TB d 296 136 L (.int i1 :: st) A = exG TB d 296 137 L (.long i1.toInt64 :: st) A := x_nx (op := o_i2l) rfl rfl
theorem x_296_137  : exG TB d 296 137 L (.long l2 :: .long l1 :: st) A = exG TB d 296 138 L (.long (l1 + l2) :: st) A := x_nx (op := o_lop (fun x y => x + y)) rfl rfl
theorem x_296_138  : exG TB d 296 138 L st A = exG TB d 296 141 L (.long 96 :: st) A := x_nx (op := o_push 3 (.long 96)) rfl rfl
theorem x_296_141  : exG TB d 296 141 L (.long l2 :: .long l1 :: st) A = exG TB d 296 142 L (.long (l1 - l2) :: st) A := x_nx (op := o_lop (fun x y => x - y)) rfl rfl
theorem x_296_142  : exG TB d 296 142 L st A = exG TB d 296 149 L st A := x_nx (op := o_goto 149) rfl rfl
theorem x_296_145  : exG TB d 296 145 (some v :: r9) st A = rg v (exG TB d 296 146 (some v :: r9) (v :: st) A) := x_rg (op := o_aload 0 1) rfl rfl
theorem x_296_146  : exG TB d 296 146 L (.ref p :: st) A = kv (gf A p 165) d 296 149 L st A := x_bd (op := o_get 165) rfl rfl (fun _ => rfl)
theorem x_296_149  : exG TB d 296 149 L (v :: .ref p :: st) A = ck ((gf A p 165).isSome && okv 2 v) (exG TB d 296 152 L st (setf A p 165 v)) := x_gd (op := o_put 165 2) rfl rfl
theorem x_296_152  : exG TB d 296 152 (some v :: r9) st A = rg v (exG TB d 296 153 (some v :: r9) (v :: st) A) := x_rg (op := o_aload 0 1) rfl rfl
theorem x_296_153  : exG TB d 296 153 L (v :: st) A = ck (c1 v) (exG TB d 296 154 L (v :: v :: st) A) := x_gd (op := o_dup) rfl rfl
theorem x_296_154  : exG TB d 296 154 L (.ref p :: st) A = kv (gf A p 161) d 296 157 L st A := x_bd (op := o_get 161) rfl rfl (fun _ => rfl)
theorem x_296_157  : exG TB d 296 157 L st A = exG TB d 296 158 L (.int (nI 1) :: st) A := x_nx (op := o_push 1 (.int 1)) rfl rfl
theorem x_296_158  : exG TB d 296 158 L (.int i2 :: .int i1 :: st) A = exG TB d 296 159 L (.int (i1 + i2) :: st) A := x_nx (op := o_iop (fun x y => x + y)) rfl rfl
theorem x_296_159  : exG TB d 296 159 L (v :: .ref p :: st) A = ck ((gf A p 161).isSome && okv 1 v) (exG TB d 296 162 L st (setf A p 161 v)) := x_gd (op := o_put 161 1) rfl rfl
theorem x_296_162  : exG TB d 296 162 (some v :: r9) st A = rg v (exG TB d 296 163 (some v :: r9) (v :: st) A) := x_rg (op := o_aload 0 1) rfl rfl
theorem x_296_163  : exG TB d 296 163 L (v :: st) A = ck (c1 v) (exG TB d 296 164 L (v :: v :: st) A) := x_gd (op := o_dup) rfl rfl
theorem x_296_164  : exG TB d 296 164 L (.ref p :: st) A = kv (gf A p 158) d 296 167 L st A := x_bd (op := o_get 158) rfl rfl (fun _ => rfl)
theorem x_296_167  : exG TB d 296 167 L st A = exG TB d 296 168 L (.int (nI 1) :: st) A := x_nx (op := o_push 1 (.int 1)) rfl rfl
theorem x_296_168  : exG TB d 296 168 L (.int i2 :: .int i1 :: st) A = exG TB d 296 169 L (.int (i1 + i2) :: st) A := x_nx (op := o_iop (fun x y => x + y)) rfl rfl
theorem x_296_169  : exG TB d 296 169 L (v :: .ref p :: st) A = ck ((gf A p 158).isSome && okv 1 v) (exG TB d 296 172 L st (setf A p 158 v)) := x_gd (op := o_put 158 1) rfl rfl
theorem x_296_172  : exG TB d 296 172 L st A = exG TB d 296 96 L st A := x_nx (op := o_goto 96) rfl rfl
theorem x_296_175  : exG TB d 296 175 (a0 :: some (.int i1) :: r9) st A = exG TB d 296 176 (a0 :: some (.int i1) :: r9) (.int i1 :: st) A := x_nx (op := o_iload 1 1) rfl rfl
theorem x_296_176  : exG TB d 296 176 L [b0] A = kc (evG TB d 299 [b0] A) d 296 179 L [] := x_cv (op := o_cs 299 1 false none) rfl rfl x_noh rfl
theorem x_296_179  : exG TB d 296 179 L (.int i1 :: st) A = if i1 = nI 0 then exG TB d 296 253 L st A else exG TB d 296 182 L st A := x_if (op := o_if (fun x => decide (x = 0)) 253) rfl rfl rfl
theorem x_296_182  : exG TB d 296 182 (some v :: r9) st A = rg v (exG TB d 296 183 (some v :: r9) (v :: st) A) := x_rg (op := o_aload 0 1) rfl rfl
theorem x_296_183  : exG TB d 296 183 L st A = exG TB d 296 184 L (.int (nI 3) :: st) A := x_nx (op := o_push 1 (.int 3)) rfl rfl
theorem x_296_184  : exG TB d 296 184 L (v :: .ref p :: st) A = ck ((gf A p 160).isSome && okv 1 v) (exG TB d 296 187 L st (setf A p 160 v)) := x_gd (op := o_put 160 1) rfl rfl
theorem x_296_187  : exG TB d 296 187 (some v :: r9) st A = rg v (exG TB d 296 188 (some v :: r9) (v :: st) A) := x_rg (op := o_aload 0 1) rfl rfl
theorem x_296_188  : exG TB d 296 188 (some v :: r9) st A = rg v (exG TB d 296 189 (some v :: r9) (v :: st) A) := x_rg (op := o_aload 0 1) rfl rfl
theorem x_296_189  : exG TB d 296 189 L (.ref p :: st) A = kv (gf A p 158) d 296 192 L st A := x_bd (op := o_get 158) rfl rfl (fun _ => rfl)
theorem x_296_192  : exG TB d 296 192 L [b0, .ref p] A = kw (sel (gc A p) [(30, 297)]) [.ref p, b0] d 296 195 L [] A := x_cvb (op := o_cv [(30, 297)] 1 3 false none) rfl rfl x_noh rfl
theorem x_296_195  : exG TB d 296 195 L [b0] A = kc (evG TB d 299 [b0] A) d 296 198 L [] := x_cv (op := o_cs 299 1 false none) rfl rfl x_noh rfl
theorem x_296_198  : exG TB d 296 198 L (.int i1 :: st) A = if i1 = nI 0 then exG TB d 296 278 L st A else exG TB d 296 201 L st A := x_if (op := o_if (fun x => decide (x = 0)) 278) rfl rfl rfl
theorem x_296_201  : exG TB d 296 201 (some v :: r9) st A = rg v (exG TB d 296 202 (some v :: r9) (v :: st) A) := x_rg (op := o_aload 0 1) rfl rfl
theorem x_296_202  : exG TB d 296 202 (some v :: r9) st A = rg v (exG TB d 296 203 (some v :: r9) (v :: st) A) := x_rg (op := o_aload 0 1) rfl rfl
theorem x_296_203  : exG TB d 296 203 L (.ref p :: st) A = kv (gf A p 162) d 296 206 L st A := x_bd (op := o_get 162) rfl rfl (fun _ => rfl)
theorem x_296_206  : exG TB d 296 206 L st A = exG TB d 296 208 L (.int (nI 10000000) :: st) A := x_nx (op := o_push 2 (.int 10000000)) rfl rfl
theorem x_296_208  : exG TB d 296 208 L (.int i2 :: .int i1 :: st) A = if i1 ≤ i2 then exG TB d 296 218 L st A else exG TB d 296 211 L st A := x_if (op := o_icmp (fun x y => decide (x ≤ y)) 218) rfl rfl rfl
theorem x_296_211  : exG TB d 296 211 (some v :: r9) st A = rg v (exG TB d 296 212 (some v :: r9) (v :: st) A) := x_rg (op := o_aload 0 1) rfl rfl
theorem x_296_212  : exG TB d 296 212 L (.ref p :: st) A = kv (gf A p 162) d 296 215 L st A := x_bd (op := o_get 162) rfl rfl (fun _ => rfl)
theorem x_296_215  : exG TB d 296 215 L st A = exG TB d 296 237 L st A := x_nx (op := o_goto 237) rfl rfl
theorem x_296_218  : exG TB d 296 218 L st A = exG TB d 296 220 L (.int (nI 10) :: st) A := x_nx (op := o_push 2 (.int 10)) rfl rfl
theorem x_296_220  : exG TB d 296 220 (some v :: r9) st A = rg v (exG TB d 296 221 (some v :: r9) (v :: st) A) := x_rg (op := o_aload 0 1) rfl rfl
theorem x_296_221  : exG TB d 296 221 L (.ref p :: st) A = kv (gf A p 162) d 296 224 L st A := x_bd (op := o_get 162) rfl rfl (fun _ => rfl)
theorem x_296_224  : exG TB d 296 224 L (.int i2 :: .int i1 :: st) A = exG TB d 296 225 L (.int (i1 * i2) :: st) A := x_nx (op := o_iop (fun x y => x * y)) rfl rfl
theorem x_296_225  : exG TB d 296 225 (some v :: r9) st A = rg v (exG TB d 296 226 (some v :: r9) (v :: st) A) := x_rg (op := o_aload 0 1) rfl rfl
theorem x_296_226  : exG TB d 296 226 (some v :: r9) st A = rg v (exG TB d 296 227 (some v :: r9) (v :: st) A) := x_rg (op := o_aload 0 1) rfl rfl
theorem x_296_227  : exG TB d 296 227 L (.ref p :: st) A = kv (gf A p 158) d 296 230 L st A := x_bd (op := o_get 158) rfl rfl (fun _ => rfl)
theorem x_296_230  : exG TB d 296 230 L [b0, .ref p, w0, w1] A = kw (sel (gc A p) [(30, 297)]) [.ref p, b0] d 296 233 L [w0, w1] A := x_cvb (op := o_cv [(30, 297)] 1 3 false none) rfl rfl x_noh rfl
theorem x_296_233  : exG TB d 296 233 L (.int i2 :: .int i1 :: st) A = exG TB d 296 234 L (.int (i1 + i2) :: st) A := x_nx (op := o_iop (fun x y => x + y)) rfl rfl
theorem x_296_234  : exG TB d 296 234 L st A = exG TB d 296 236 L (.int (nI 48) :: st) A := x_nx (op := o_push 2 (.int 48)) rfl rfl
theorem x_296_236  : exG TB d 296 236 L (.int i2 :: .int i1 :: st) A = exG TB d 296 237 L (.int (i1 - i2) :: st) A := x_nx (op := o_iop (fun x y => x - y)) rfl rfl
theorem x_296_237  : exG TB d 296 237 L (v :: .ref p :: st) A = ck ((gf A p 162).isSome && okv 1 v) (exG TB d 296 240 L st (setf A p 162 v)) := x_gd (op := o_put 162 1) rfl rfl
theorem x_296_240  : exG TB d 296 240 (some v :: r9) st A = rg v (exG TB d 296 241 (some v :: r9) (v :: st) A) := x_rg (op := o_aload 0 1) rfl rfl
theorem x_296_241  : exG TB d 296 241 L (v :: st) A = ck (c1 v) (exG TB d 296 242 L (v :: v :: st) A) := x_gd (op := o_dup) rfl rfl
theorem x_296_242  : exG TB d 296 242 L (.ref p :: st) A = kv (gf A p 158) d 296 245 L st A := x_bd (op := o_get 158) rfl rfl (fun _ => rfl)
theorem x_296_245  : exG TB d 296 245 L st A = exG TB d 296 246 L (.int (nI 1) :: st) A := x_nx (op := o_push 1 (.int 1)) rfl rfl
theorem x_296_246  : exG TB d 296 246 L (.int i2 :: .int i1 :: st) A = exG TB d 296 247 L (.int (i1 + i2) :: st) A := x_nx (op := o_iop (fun x y => x + y)) rfl rfl
theorem x_296_247  : exG TB d 296 247 L (v :: .ref p :: st) A = ck ((gf A p 158).isSome && okv 1 v) (exG TB d 296 250 L st (setf A p 158 v)) := x_gd (op := o_put 158 1) rfl rfl
theorem x_296_250  : exG TB d 296 250 L st A = exG TB d 296 187 L st A := x_nx (op := o_goto 187) rfl rfl
theorem x_296_253  : exG TB d 296 253 (some v :: r9) st A = rg v (exG TB d 296 254 (some v :: r9) (v :: st) A) := x_rg (op := o_aload 0 1) rfl rfl
theorem x_296_254  : exG TB d 296 254 (a0 :: some (.int i1) :: r9) st A = exG TB d 296 255 (a0 :: some (.int i1) :: r9) (.int i1 :: st) A := x_nx (op := o_iload 1 1) rfl rfl
theorem x_296_255  : exG TB d 296 255 L st A = exG TB d 296 257 L (.int (nI 59) :: st) A := x_nx (op := o_push 2 (.int 59)) rfl rfl
theorem x_296_257  : exG TB d 296 257 L (.int i2 :: .int i1 :: st) A = if ¬ i1 = i2 then exG TB d 296 264 L st A else exG TB d 296 260 L st A := x_if (op := o_icmp (fun x y => decide (¬ x = y)) 264) rfl rfl rfl
theorem x_296_260  : exG TB d 296 260 L st A = exG TB d 296 261 L (.int (nI 4) :: st) A := x_nx (op := o_push 1 (.int 4)) rfl rfl
theorem x_296_261  : exG TB d 296 261 L st A = exG TB d 296 265 L st A := x_nx (op := o_goto 265) rfl rfl
theorem x_296_264  : exG TB d 296 264 L st A = exG TB d 296 265 L (.int (nI 1) :: st) A := x_nx (op := o_push 1 (.int 1)) rfl rfl
theorem x_296_265  : exG TB d 296 265 L (v :: .ref p :: st) A = ck ((gf A p 160).isSome && okv 1 v) (exG TB d 296 268 L st (setf A p 160 v)) := x_gd (op := o_put 160 1) rfl rfl
theorem x_296_268  : exG TB d 296 268 (some v :: r9) st A = rg v (exG TB d 296 269 (some v :: r9) (v :: st) A) := x_rg (op := o_aload 0 1) rfl rfl
theorem x_296_269  : exG TB d 296 269 L (v :: st) A = ck (c1 v) (exG TB d 296 270 L (v :: v :: st) A) := x_gd (op := o_dup) rfl rfl
theorem x_296_270  : exG TB d 296 270 L (.ref p :: st) A = kv (gf A p 158) d 296 273 L st A := x_bd (op := o_get 158) rfl rfl (fun _ => rfl)
theorem x_296_273  : exG TB d 296 273 L st A = exG TB d 296 274 L (.int (nI 1) :: st) A := x_nx (op := o_push 1 (.int 1)) rfl rfl
theorem x_296_274  : exG TB d 296 274 L (.int i2 :: .int i1 :: st) A = exG TB d 296 275 L (.int (i1 + i2) :: st) A := x_nx (op := o_iop (fun x y => x + y)) rfl rfl
theorem x_296_275  : exG TB d 296 275 L (v :: .ref p :: st) A = ck ((gf A p 158).isSome && okv 1 v) (exG TB d 296 278 L st (setf A p 158 v)) := x_gd (op := o_put 158 1) rfl rfl
theorem x_296_278  : exG TB d 296 278 L [] A = some (.inl none, A) := x_out (op := o_vret) rfl rfl
theorem e_297 {j1 : Int32} : evG TB (d + 1) 297 [.ref p, .int j1] A = exG TB d 297 0 [some (.ref p), some (.int j1)] [] A := evG_eq TB d 297 _ A
theorem x_297_0  : exG TB d 297 0 (a0 :: some (.int i1) :: r9) st A = exG TB d 297 1 (a0 :: some (.int i1) :: r9) (.int i1 :: st) A := x_nx (op := o_iload 1 1) rfl rfl
theorem x_297_1  : exG TB d 297 1 (some v :: r9) st A = rg v (exG TB d 297 2 (some v :: r9) (v :: st) A) := x_rg (op := o_aload 0 1) rfl rfl
theorem x_297_2  : exG TB d 297 2 L (.ref p :: st) A = kv (gf A p 157) d 297 5 L st A := x_bd (op := o_get 157) rfl rfl (fun _ => rfl)
theorem x_297_5  : exG TB d 297 5 L (.int i2 :: .int i1 :: st) A = if i2 ≤ i1 then exG TB d 297 17 L st A else exG TB d 297 8 L st A := x_if (op := o_icmp (fun x y => decide (y ≤ x)) 17) rfl rfl rfl
theorem x_297_8  : exG TB d 297 8 (some v :: r9) st A = rg v (exG TB d 297 9 (some v :: r9) (v :: st) A) := x_rg (op := o_aload 0 1) rfl rfl
theorem x_297_9  : exG TB d 297 9 L (.ref p :: st) A = kv (gf A p 156) d 297 12 L st A := x_bd (op := o_get 156) rfl rfl (fun _ => rfl)
theorem x_297_12  : exG TB d 297 12 (a0 :: some (.int i1) :: r9) st A = exG TB d 297 13 (a0 :: some (.int i1) :: r9) (.int i1 :: st) A := x_nx (op := o_iload 1 1) rfl rfl
theorem x_297_13  : exG TB d 297 13 L (.int i1 :: .ref p :: st) A = ki (rdI 0 (ga A p) i1) d 297 14 L st A := x_bd (op := o_rdI 0) rfl rfl (fun _ => rfl)
theorem x_297_14  : exG TB d 297 14 L st A = exG TB d 297 18 L st A := x_nx (op := o_goto 18) rfl rfl
theorem x_297_17  : exG TB d 297 17 L st A = exG TB d 297 18 L (.int nN :: st) A := x_nx (op := o_push 1 (.int (-1))) rfl rfl
theorem x_297_18  : exG TB d 297 18 L [v] A = ck (okv 1 v) (some (.inl (some v), A)) := x_outg (op := o_ret 1) rfl rfl
theorem e_298 {j0 : Int32} : evG TB (d + 1) 298 [.int j0] A = exG TB d 298 0 [some (.int j0)] [] A := evG_eq TB d 298 _ A
theorem x_298_0  : exG TB d 298 0 (some (.int i1) :: r9) st A = exG TB d 298 1 (some (.int i1) :: r9) (.int i1 :: st) A := x_nx (op := o_iload 0 1) rfl rfl
theorem x_298_1  : exG TB d 298 1 L st A = exG TB d 298 3 L (.int (nI 97) :: st) A := x_nx (op := o_push 2 (.int 97)) rfl rfl
theorem x_298_3  : exG TB d 298 3 L st A = exG TB d 298 5 L (.int (nI 122) :: st) A := x_nx (op := o_push 2 (.int 122)) rfl rfl
theorem x_298_5  : exG TB d 298 5 L [b2, b1, b0] A = kc (evG TB d 293 [b0, b1, b2] A) d 298 8 L [] := x_cv (op := o_cs 293 3 false none) rfl rfl x_noh rfl
theorem x_298_8  : exG TB d 298 8 L [v] A = ck (okv 5 v) (some (.inl (some v), A)) := x_outg (op := o_ret 5) rfl rfl
theorem e_299 {j0 : Int32} : evG TB (d + 1) 299 [.int j0] A = exG TB d 299 0 [some (.int j0)] [] A := evG_eq TB d 299 _ A
theorem x_299_0  : exG TB d 299 0 (some (.int i1) :: r9) st A = exG TB d 299 1 (some (.int i1) :: r9) (.int i1 :: st) A := x_nx (op := o_iload 0 1) rfl rfl
theorem x_299_1  : exG TB d 299 1 L st A = exG TB d 299 3 L (.int (nI 48) :: st) A := x_nx (op := o_push 2 (.int 48)) rfl rfl
theorem x_299_3  : exG TB d 299 3 L st A = exG TB d 299 5 L (.int (nI 57) :: st) A := x_nx (op := o_push 2 (.int 57)) rfl rfl
theorem x_299_5  : exG TB d 299 5 L [b2, b1, b0] A = kc (evG TB d 293 [b0, b1, b2] A) d 299 8 L [] := x_cv (op := o_cs 293 3 false none) rfl rfl x_noh rfl
theorem x_299_8  : exG TB d 299 8 L [v] A = ck (okv 5 v) (some (.inl (some v), A)) := x_outg (op := o_ret 5) rfl rfl
theorem e_300  : evG TB (d + 1) 300 [.ref p] A = exG TB d 300 0 [some (.ref p)] [] A := evG_eq TB d 300 _ A
theorem x_300_0  : exG TB d 300 0 (some v :: r9) st A = rg v (exG TB d 300 1 (some v :: r9) (v :: st) A) := x_rg (op := o_aload 0 1) rfl rfl
theorem x_300_1  : exG TB d 300 1 L (.ref p :: st) A = kv (gf A p 163) d 300 4 L st A := x_bd (op := o_get 163) rfl rfl (fun _ => rfl)
theorem x_300_4  : exG TB d 300 4 L (.int i1 :: st) A = if ¬ i1 = nI 0 then exG TB d 300 11 L st A else exG TB d 300 7 L st A := x_if (op := o_if (fun x => decide (¬ x = 0)) 11) rfl rfl rfl
theorem x_300_7  : exG TB d 300 7 L st A = exG TB d 300 8 L (.int (nI 1) :: st) A := x_nx (op := o_push 1 (.int 1)) rfl rfl
theorem x_300_8  : exG TB d 300 8 L st A = exG TB d 300 12 L st A := x_nx (op := o_goto 12) rfl rfl
theorem x_300_11  : exG TB d 300 11 L st A = exG TB d 300 12 L (.int (nI 0) :: st) A := x_nx (op := o_push 1 (.int 0)) rfl rfl
theorem x_300_12  : exG TB d 300 12 L [v] A = ck (okv 5 v) (some (.inl (some v), A)) := x_outg (op := o_ret 5) rfl rfl
theorem e_301  : evG TB (d + 1) 301 [.ref p] A = exG TB d 301 0 [some (.ref p)] [] A := evG_eq TB d 301 _ A
theorem x_301_0  : exG TB d 301 0 (some v :: r9) st A = rg v (exG TB d 301 1 (some v :: r9) (v :: st) A) := x_rg (op := o_aload 0 1) rfl rfl
theorem x_301_1  : exG TB d 301 1 L st A = exG TB d 301 3 L (.ref (sAd (sg A) 2) :: st) A := x_nx (op := o_pushA 2 2) rfl rfl
theorem x_301_3  : exG TB d 301 3 L [b0, .ref p] A = kw (sel (gc A p) [(30, 302)]) [.ref p, b0] d 301 6 L [] A := x_cvb (op := o_cv [(30, 302)] 1 3 false none) rfl rfl x_noh rfl
theorem x_301_6  : exG TB d 301 6 L (.int i1 :: st) A = if i1 = nI 0 then exG TB d 301 16 L st A else exG TB d 301 9 L st A := x_if (op := o_if (fun x => decide (x = 0)) 16) rfl rfl rfl
theorem x_301_9  : exG TB d 301 9 (some v :: r9) st A = rg v (exG TB d 301 10 (some v :: r9) (v :: st) A) := x_rg (op := o_aload 0 1) rfl rfl
theorem x_301_10  : exG TB d 301 10 L [.ref p] A = kw0 (sel (gc A p) [(30, 303)]) [.ref p] d 301 13 L [] A := x_c0b (op := o_cv [(30, 303)] 0 3 true none) rfl rfl x_noh rfl
theorem x_301_13  : exG TB d 301 13 L st A = exG TB d 301 68 L st A := x_nx (op := o_goto 68) rfl rfl
theorem x_301_16  : exG TB d 301 16 (some v :: r9) st A = rg v (exG TB d 301 17 (some v :: r9) (v :: st) A) := x_rg (op := o_aload 0 1) rfl rfl
theorem x_301_17  : exG TB d 301 17 L st A = exG TB d 301 19 L (.ref (sAd (sg A) 3) :: st) A := x_nx (op := o_pushA 2 3) rfl rfl
theorem x_301_19  : exG TB d 301 19 L [b0, .ref p] A = kw (sel (gc A p) [(30, 302)]) [.ref p, b0] d 301 22 L [] A := x_cvb (op := o_cv [(30, 302)] 1 3 false none) rfl rfl x_noh rfl
theorem x_301_22  : exG TB d 301 22 L (.int i1 :: st) A = if i1 = nI 0 then exG TB d 301 32 L st A else exG TB d 301 25 L st A := x_if (op := o_if (fun x => decide (x = 0)) 32) rfl rfl rfl
theorem x_301_25  : exG TB d 301 25 (some v :: r9) st A = rg v (exG TB d 301 26 (some v :: r9) (v :: st) A) := x_rg (op := o_aload 0 1) rfl rfl
theorem x_301_26  : exG TB d 301 26 L [.ref p] A = kw0 (sel (gc A p) [(30, 309)]) [.ref p] d 301 29 L [] A := x_c0b (op := o_cv [(30, 309)] 0 3 true none) rfl rfl x_noh rfl
theorem x_301_29  : exG TB d 301 29 L st A = exG TB d 301 68 L st A := x_nx (op := o_goto 68) rfl rfl
theorem x_301_32  : exG TB d 301 32 (some v :: r9) st A = rg v (exG TB d 301 33 (some v :: r9) (v :: st) A) := x_rg (op := o_aload 0 1) rfl rfl
theorem x_301_33  : exG TB d 301 33 L st A = exG TB d 301 35 L (.ref (sAd (sg A) 4) :: st) A := x_nx (op := o_pushA 2 4) rfl rfl
theorem x_301_35  : exG TB d 301 35 L [b0, .ref p] A = kw (sel (gc A p) [(30, 302)]) [.ref p, b0] d 301 38 L [] A := x_cvb (op := o_cv [(30, 302)] 1 3 false none) rfl rfl x_noh rfl
theorem x_301_38  : exG TB d 301 38 L (.int i1 :: st) A = if i1 = nI 0 then exG TB d 301 48 L st A else exG TB d 301 41 L st A := x_if (op := o_if (fun x => decide (x = 0)) 48) rfl rfl rfl
theorem x_301_41  : exG TB d 301 41 (some v :: r9) st A = rg v (exG TB d 301 42 (some v :: r9) (v :: st) A) := x_rg (op := o_aload 0 1) rfl rfl
theorem x_301_42  : exG TB d 301 42 L [.ref p] A = kw0 (sel (gc A p) [(30, 312)]) [.ref p] d 301 45 L [] A := x_c0b (op := o_cv [(30, 312)] 0 3 true none) rfl rfl x_noh rfl
theorem x_301_45  : exG TB d 301 45 L st A = exG TB d 301 68 L st A := x_nx (op := o_goto 68) rfl rfl
theorem x_301_48  : exG TB d 301 48 (some v :: r9) st A = rg v (exG TB d 301 49 (some v :: r9) (v :: st) A) := x_rg (op := o_aload 0 1) rfl rfl
theorem x_301_49  : exG TB d 301 49 L st A = exG TB d 301 51 L (.ref (sAd (sg A) 5) :: st) A := x_nx (op := o_pushA 2 5) rfl rfl
theorem x_301_51  : exG TB d 301 51 L [b0, .ref p] A = kw (sel (gc A p) [(30, 302)]) [.ref p, b0] d 301 54 L [] A := x_cvb (op := o_cv [(30, 302)] 1 3 false none) rfl rfl x_noh rfl
theorem x_301_54  : exG TB d 301 54 L (.int i1 :: st) A = if i1 = nI 0 then exG TB d 301 64 L st A else exG TB d 301 57 L st A := x_if (op := o_if (fun x => decide (x = 0)) 64) rfl rfl rfl
theorem x_301_57  : exG TB d 301 57 (some v :: r9) st A = rg v (exG TB d 301 58 (some v :: r9) (v :: st) A) := x_rg (op := o_aload 0 1) rfl rfl
theorem x_301_58  : exG TB d 301 58 L [.ref p] A = kw0 (sel (gc A p) [(30, 315)]) [.ref p] d 301 61 L [] A := x_c0b (op := o_cv [(30, 315)] 0 3 true none) rfl rfl x_noh rfl
theorem x_301_61  : exG TB d 301 61 L st A = exG TB d 301 68 L st A := x_nx (op := o_goto 68) rfl rfl
theorem x_301_64  : exG TB d 301 64 (some v :: r9) st A = rg v (exG TB d 301 65 (some v :: r9) (v :: st) A) := x_rg (op := o_aload 0 1) rfl rfl
theorem x_301_65  : exG TB d 301 65 L [.ref p] A = kw0 (sel (gc A p) [(30, 318)]) [.ref p] d 301 68 L [] A := x_c0b (op := o_cv [(30, 318)] 0 3 true none) rfl rfl x_noh rfl
theorem x_301_68  : exG TB d 301 68 (some v :: r9) st A = rg v (exG TB d 301 69 (some v :: r9) (v :: st) A) := x_rg (op := o_aload 0 1) rfl rfl
theorem x_301_69  : exG TB d 301 69 (some v :: r9) st A = rg v (exG TB d 301 70 (some v :: r9) (v :: st) A) := x_rg (op := o_aload 0 1) rfl rfl
theorem x_301_70  : exG TB d 301 70 L (.ref p :: st) A = kv (gf A p 160) d 301 73 L st A := x_bd (op := o_get 160) rfl rfl (fun _ => rfl)
theorem x_301_73  : exG TB d 301 73 L st A = exG TB d 301 74 L (.int (nI 4) :: st) A := x_nx (op := o_push 1 (.int 4)) rfl rfl
theorem x_301_74  : exG TB d 301 74 L (.int i2 :: .int i1 :: st) A = if ¬ i1 = i2 then exG TB d 301 81 L st A else exG TB d 301 77 L st A := x_if (op := o_icmp (fun x y => decide (¬ x = y)) 81) rfl rfl rfl
theorem x_301_77  : exG TB d 301 77 L st A = exG TB d 301 78 L (.int (nI 1) :: st) A := x_nx (op := o_push 1 (.int 1)) rfl rfl
theorem x_301_78  : exG TB d 301 78 L st A = exG TB d 301 82 L st A := x_nx (op := o_goto 82) rfl rfl
theorem x_301_81  : exG TB d 301 81 L st A = exG TB d 301 82 L (.int (nI 0) :: st) A := x_nx (op := o_push 1 (.int 0)) rfl rfl
theorem x_301_82  : exG TB d 301 82 L st A = exG TB d 301 83 L (.int (nI 1) :: st) A := x_nx (op := o_push 1 (.int 1)) rfl rfl
theorem x_301_83  : exG TB d 301 83 L [b1, b0, .ref p] A = kw0 (sel (gc A p) [(30, 304)]) [.ref p, b0, b1] d 301 86 L [] A := x_c0b (op := o_cv [(30, 304)] 2 3 true none) rfl rfl x_noh rfl
theorem x_301_86  : exG TB d 301 86 (some v :: r9) st A = rg v (exG TB d 301 87 (some v :: r9) (v :: st) A) := x_rg (op := o_aload 0 1) rfl rfl
theorem x_301_87  : exG TB d 301 87 L [.ref p] A = kw0 (sel (gc A p) [(30, 305)]) [.ref p] d 301 90 L [] A := x_c0b (op := o_cv [(30, 305)] 0 3 true none) rfl rfl x_noh rfl
theorem x_301_90  : exG TB d 301 90 L [] A = some (.inl none, A) := x_out (op := o_vret) rfl rfl
end
