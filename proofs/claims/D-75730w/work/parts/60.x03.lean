set_option maxRecDepth 100000
/-! what each instruction does, as an equation -/
section
variable {d p q n9 : Nat} {L r9 : Lc} {st : List Value} {A : Hp} {g9 : Nat → Int32} {v v2 v3 w0 w1 w2 w3 w4 w5 w6 w7 w8 w9 w10 w11 b0 b1 b2 b3 b4 b5 b6 b7 b8 b9 b10 b11 : Value} {i1 i2 i3 i4 : Int32} {l1 l2 : Int64} {f1 f2 : UInt32} {d1 d2 : UInt64} {a0 a1 a2 a3 a4 a5 a6 a7 a8 a9 a10 a11 a12 a13 a14 a15 a16 a17 a18 a19 a20 a21 a22 a23 a24 a25 a26 a27 a28 a29 a30 a31 a32 a33 a34 a35 a36 a37 a38 a39 a40 a41 a42 a43 : Option Value}
theorem e_197 {j1 : Int32} {j2 : Int32} : evG TB (d + 1) 197 [.ref p, .int j1, .int j2] A = exG TB d 197 0 [some (.ref p), some (.int j1), some (.int j2), none] [] A := evG_eq TB d 197 _ A
theorem x_197_0  : exG TB d 197 0 (some v :: r9) st A = rg v (exG TB d 197 1 (some v :: r9) (v :: st) A) := x_rg (op := o_aload 0 1) rfl rfl
theorem x_197_1  : exG TB d 197 1 (a0 :: some (.int i1) :: r9) st A = exG TB d 197 2 (a0 :: some (.int i1) :: r9) (.int i1 :: st) A := x_nx (op := o_iload 1 1) rfl rfl
theorem x_197_2  : exG TB d 197 2 L [b0, .ref p] A = kw (sel (gc A p) [(0, 198)]) [.ref p, b0] d 197 5 L [] A := x_cvb (op := o_cv [(0, 198)] 1 3 false none) rfl rfl x_noh rfl
theorem x_197_5  : exG TB d 197 5 (a0 :: a1 :: a2 :: a3 :: r9) (v :: st) A = rg v (exG TB d 197 6 (a0 :: a1 :: a2 :: some v :: r9) st A) := x_rgt (op := o_astore 3 1) rfl rfl
theorem x_197_6  : exG TB d 197 6 (a0 :: a1 :: some (.int i1) :: r9) st A = exG TB d 197 7 (a0 :: a1 :: some (.int i1) :: r9) (.int i1 :: st) A := x_nx (op := o_iload 2 1) rfl rfl
theorem x_197_7  : exG TB d 197 7 L (.int i1 :: st) A = exG TB d 197 8 L (.long i1.toInt64 :: st) A := x_nx (op := o_i2l) rfl rfl
theorem x_197_8  : exG TB d 197 8 L st A = exG TB d 197 9 L (.long 0 :: st) A := x_nx (op := o_push 1 (.long 0)) rfl rfl
theorem x_197_9  : exG TB d 197 9 L st A = exG TB d 197 12 L (.long 6 :: st) A := x_nx (op := o_push 3 (.long 6)) rfl rfl
theorem x_197_12  : exG TB d 197 12 L [b2, b1, b0] A = kc (evG TB d 165 [b0, b1, b2] A) d 197 15 L [] := x_cv (op := o_cs 165 3 false none) rfl rfl x_noh rfl
theorem x_197_15  : exG TB d 197 15 L [b0] A = kc0 (evG TB d 172 [b0] A) d 197 18 L [] := x_c0 (op := o_cs 172 1 true none) rfl rfl x_noh rfl
theorem x_197_18  : exG TB d 197 18 (a0 :: a1 :: a2 :: some v :: r9) st A = rg v (exG TB d 197 19 (a0 :: a1 :: a2 :: some v :: r9) (v :: st) A) := x_rg (op := o_aload 3 1) rfl rfl
theorem x_197_19  : exG TB d 197 19 (a0 :: a1 :: some (.int i1) :: r9) st A = exG TB d 197 20 (a0 :: a1 :: some (.int i1) :: r9) (.int i1 :: st) A := x_nx (op := o_iload 2 1) rfl rfl
theorem x_197_20  : exG TB d 197 20 L [b0, .ref p] A = kw (sel (gc A p) [(17, 236)]) [.ref p, b0] d 197 23 L [] A := x_cvb (op := o_cv [(17, 236)] 1 3 false none) rfl rfl x_noh rfl
theorem x_197_23  : exG TB d 197 23 L [v] A = ck (okv 1 v) (some (.inl (some v), A)) := x_outg (op := o_ret 1) rfl rfl
theorem e_198 {j1 : Int32} : evG TB (d + 1) 198 [.ref p, .int j1] A = exG TB d 198 0 [some (.ref p), some (.int j1)] [] A := evG_eq TB d 198 _ A
theorem x_198_0  : exG TB d 198 0 (a0 :: some (.int i1) :: r9) st A = exG TB d 198 1 (a0 :: some (.int i1) :: r9) (.int i1 :: st) A := x_nx (op := o_iload 1 1) rfl rfl
theorem x_198_1  : exG TB d 198 1 L (.int i1 :: st) A = exG TB d 198 2 L (.long i1.toInt64 :: st) A := x_nx (op := o_i2l) rfl rfl
theorem x_198_2  : exG TB d 198 2 L st A = exG TB d 198 3 L (.long 0 :: st) A := x_nx (op := o_push 1 (.long 0)) rfl rfl
theorem x_198_3  : exG TB d 198 3 (some v :: r9) st A = rg v (exG TB d 198 4 (some v :: r9) (v :: st) A) := x_rg (op := o_aload 0 1) rfl rfl
theorem x_198_4  : exG TB d 198 4 L (.ref p :: st) A = kv (gf A p 0) d 198 7 L st A := x_bd (op := o_get 0) rfl rfl (fun _ => rfl)
theorem x_198_7  : exG TB d 198 7 L (.ref p :: st) A = kv (gf A p 11) d 198 10 L st A := x_bd (op := o_get 11) rfl rfl (fun _ => rfl)
theorem x_198_10  : exG TB d 198 10 L [.ref p, w0, w1] A = kw (sel (gc A p) [(3, 42)]) [.ref p] d 198 13 L [w0, w1] A := x_cvb (op := o_cv [(3, 42)] 0 3 false none) rfl rfl x_noh rfl
theorem x_198_13  : exG TB d 198 13 L st A = exG TB d 198 14 L (.int (nI 1) :: st) A := x_nx (op := o_push 1 (.int 1)) rfl rfl
theorem x_198_14  : exG TB d 198 14 L (.int i2 :: .int i1 :: st) A = exG TB d 198 15 L (.int (i1 - i2) :: st) A := x_nx (op := o_iop (fun x y => x - y)) rfl rfl
theorem x_198_15  : exG TB d 198 15 L (.int i1 :: st) A = exG TB d 198 16 L (.long i1.toInt64 :: st) A := x_nx (op := o_i2l) rfl rfl
theorem x_198_16  : exG TB d 198 16 L [b2, b1, b0] A = kc (evG TB d 165 [b0, b1, b2] A) d 198 19 L [] := x_cv (op := o_cs 165 3 false none) rfl rfl x_noh rfl
theorem x_198_19  : exG TB d 198 19 L [b0] A = kc0 (evG TB d 176 [b0] A) d 198 22 L [] := x_c0 (op := o_cs 176 1 true none) rfl rfl x_noh rfl
theorem x_198_22  : exG TB d 198 22 (some v :: r9) st A = rg v (exG TB d 198 23 (some v :: r9) (v :: st) A) := x_rg (op := o_aload 0 1) rfl rfl
theorem x_198_23  : exG TB d 198 23 L (.ref p :: st) A = kv (gf A p 0) d 198 26 L st A := x_bd (op := o_get 0) rfl rfl (fun _ => rfl)
theorem x_198_26  : exG TB d 198 26 L (.ref p :: st) A = kv (gf A p 11) d 198 29 L st A := x_bd (op := o_get 11) rfl rfl (fun _ => rfl)
theorem x_198_29  : exG TB d 198 29 (a0 :: some (.int i1) :: r9) st A = exG TB d 198 30 (a0 :: some (.int i1) :: r9) (.int i1 :: st) A := x_nx (op := o_iload 1 1) rfl rfl
theorem x_198_30  : exG TB d 198 30 L [b0, .ref p] A = kw (sel (gc A p) [(3, 47)]) [.ref p, b0] d 198 33 L [] A := x_cvb (op := o_cv [(3, 47)] 1 3 false none) rfl rfl x_noh rfl
theorem x_198_33n  : exG TB d 198 33 L (.null :: st) A = exG TB d 198 36 L (.null :: st) A := x_nx (op := o_cast [17]) rfl rfl
theorem x_198_33r  : exG TB d 198 33 L (.ref p :: st) A = ck (cin (gcs A p) [17]) (exG TB d 198 36 L (.ref p :: st) A) := x_gd (op := o_cast [17]) rfl rfl
theorem x_198_36  : exG TB d 198 36 L [v] A = ck (okv 0 v) (some (.inl (some v), A)) := x_outg (op := o_ret 0) rfl rfl
theorem e_199 {j1 : Int32} : evG TB (d + 1) 199 [.ref p, .int j1] A = exG TB d 199 0 [some (.ref p), some (.int j1), none, none, none] [] A := evG_eq TB d 199 _ A
theorem x_199_0  : exG TB d 199 0 (a0 :: some (.int i1) :: r9) st A = exG TB d 199 1 (a0 :: some (.int i1) :: r9) (.int i1 :: st) A := x_nx (op := o_iload 1 1) rfl rfl
theorem x_199_1  : exG TB d 199 1 L (.int i1 :: st) A = if i1 < nI 0 then exG TB d 199 8 L st A else exG TB d 199 4 L st A := x_if (op := o_if (fun x => decide (x < 0)) 8) rfl rfl rfl
theorem x_199_4  : exG TB d 199 4 L st A = exG TB d 199 5 L (.int (nI 1) :: st) A := x_nx (op := o_push 1 (.int 1)) rfl rfl
theorem x_199_5  : exG TB d 199 5 L st A = exG TB d 199 9 L st A := x_nx (op := o_goto 9) rfl rfl
theorem x_199_8  : exG TB d 199 8 L st A = exG TB d 199 9 L (.int (nI 0) :: st) A := x_nx (op := o_push 1 (.int 0)) rfl rfl
theorem x_199_9  : exG TB d 199 9 L [b0] A = kc0 (evG TB d 176 [b0] A) d 199 12 L [] := x_c0 (op := o_cs 176 1 true none) rfl rfl x_noh rfl
theorem x_199_12  : exG TB d 199 12 (some v :: r9) st A = rg v (exG TB d 199 13 (some v :: r9) (v :: st) A) := x_rg (op := o_aload 0 1) rfl rfl
theorem x_199_13  : exG TB d 199 13 L [.ref p] A = kw (sel (gc A p) [(0, 200)]) [.ref p] d 199 16 L [] A := x_cvb (op := o_cv [(0, 200)] 0 3 false none) rfl rfl x_noh rfl
theorem x_199_16  : exG TB d 199 16 (a0 :: a1 :: a2 :: r9) (v :: st) A = rg v (exG TB d 199 17 (a0 :: a1 :: some v :: r9) st A) := x_rgt (op := o_astore 2 1) rfl rfl
theorem x_199_17  : exG TB d 199 17 (a0 :: some (.int i1) :: r9) st A = exG TB d 199 18 (a0 :: some (.int i1) :: r9) (.int i1 :: st) A := x_nx (op := o_iload 1 1) rfl rfl
theorem x_199_18  : exG TB d 199 18 (a0 :: a1 :: some v :: r9) st A = rg v (exG TB d 199 19 (a0 :: a1 :: some v :: r9) (v :: st) A) := x_rg (op := o_aload 2 1) rfl rfl
theorem x_199_19  : exG TB d 199 19 L [.ref p, w0] A = kw (sel (gc A p) [(18, 79)]) [.ref p] d 199 22 L [w0] A := x_cvb (op := o_cv [(18, 79)] 0 3 false none) rfl rfl x_noh rfl
theorem x_199_22  : exG TB d 199 22 L (.int i2 :: .int i1 :: st) A = if i1 < i2 then exG TB d 199 27 L st A else exG TB d 199 25 L st A := x_if (op := o_icmp (fun x y => decide (x < y)) 27) rfl rfl rfl
theorem x_199_25  : exG TB d 199 25 L st A = exG TB d 199 26 L (.int nN :: st) A := x_nx (op := o_push 1 (.int (-1))) rfl rfl
theorem x_199_26  : exG TB d 199 26 L [v] A = ck (okv 1 v) (some (.inl (some v), A)) := x_outg (op := o_ret 1) rfl rfl
theorem x_199_27  : exG TB d 199 27 (a0 :: a1 :: some v :: r9) st A = rg v (exG TB d 199 28 (a0 :: a1 :: some v :: r9) (v :: st) A) := x_rg (op := o_aload 2 1) rfl rfl
theorem x_199_28  : exG TB d 199 28 L [.ref p] A = kw (sel (gc A p) [(18, 80)]) [.ref p] d 199 31 L [] A := x_cvb (op := o_cv [(18, 80)] 0 3 false none) rfl rfl x_noh rfl
theorem x_199_31n  : exG TB d 199 31 L (.null :: st) A = exG TB d 199 34 L (.null :: st) A := x_nx (op := o_cast [17]) rfl rfl
theorem x_199_31r  : exG TB d 199 31 L (.ref p :: st) A = ck (cin (gcs A p) [17]) (exG TB d 199 34 L (.ref p :: st) A) := x_gd (op := o_cast [17]) rfl rfl
theorem x_199_34  : exG TB d 199 34 (a0 :: a1 :: a2 :: a3 :: r9) (v :: st) A = rg v (exG TB d 199 35 (a0 :: a1 :: a2 :: some v :: r9) st A) := x_rgt (op := o_astore 3 1) rfl rfl
theorem x_199_35  : exG TB d 199 35 L st A = exG TB d 199 36 L (.int (nI 0) :: st) A := x_nx (op := o_push 1 (.int 0)) rfl rfl
theorem x_199_36  : exG TB d 199 36 (a0 :: a1 :: a2 :: a3 :: a4 :: r9) (.int i1 :: st) A = exG TB d 199 38 (a0 :: a1 :: a2 :: a3 :: some (.int i1) :: r9) st A := x_nx (op := o_istore 4 2) rfl rfl
theorem x_199_38  : exG TB d 199 38 (a0 :: a1 :: a2 :: a3 :: some (.int i1) :: r9) st A = exG TB d 199 40 (a0 :: a1 :: a2 :: a3 :: some (.int i1) :: r9) (.int i1 :: st) A := x_nx (op := o_iload 4 2) rfl rfl
theorem x_199_40  : exG TB d 199 40 (a0 :: some (.int i1) :: r9) st A = exG TB d 199 41 (a0 :: some (.int i1) :: r9) (.int i1 :: st) A := x_nx (op := o_iload 1 1) rfl rfl
theorem x_199_41  : exG TB d 199 41 L (.int i2 :: .int i1 :: st) A = if i2 ≤ i1 then exG TB d 199 58 L st A else exG TB d 199 44 L st A := x_if (op := o_icmp (fun x y => decide (y ≤ x)) 58) rfl rfl rfl
theorem x_199_44  : exG TB d 199 44 (a0 :: a1 :: some v :: r9) st A = rg v (exG TB d 199 45 (a0 :: a1 :: some v :: r9) (v :: st) A) := x_rg (op := o_aload 2 1) rfl rfl
theorem x_199_45  : exG TB d 199 45 L [.ref p] A = kw (sel (gc A p) [(18, 80)]) [.ref p] d 199 48 L [] A := x_cvb (op := o_cv [(18, 80)] 0 3 false none) rfl rfl x_noh rfl
theorem x_199_48n  : exG TB d 199 48 L (.null :: st) A = exG TB d 199 51 L (.null :: st) A := x_nx (op := o_cast [17]) rfl rfl
theorem x_199_48r  : exG TB d 199 48 L (.ref p :: st) A = ck (cin (gcs A p) [17]) (exG TB d 199 51 L (.ref p :: st) A) := x_gd (op := o_cast [17]) rfl rfl
theorem x_199_51  : exG TB d 199 51 (a0 :: a1 :: a2 :: a3 :: r9) (v :: st) A = rg v (exG TB d 199 52 (a0 :: a1 :: a2 :: some v :: r9) st A) := x_rgt (op := o_astore 3 1) rfl rfl
theorem x_199_52  : exG TB d 199 52 (a0 :: a1 :: a2 :: a3 :: some (.int i1) :: r9) st A = exG TB d 199 55 (a0 :: a1 :: a2 :: a3 :: some (.int (i1 + (nI 1))) :: r9) st A := x_nx (op := o_iinc 4 1) rfl rfl
theorem x_199_55  : exG TB d 199 55 L st A = exG TB d 199 38 L st A := x_nx (op := o_goto 38) rfl rfl
theorem x_199_58  : exG TB d 199 58 (a0 :: a1 :: a2 :: some v :: r9) st A = rg v (exG TB d 199 59 (a0 :: a1 :: a2 :: some v :: r9) (v :: st) A) := x_rg (op := o_aload 3 1) rfl rfl
theorem x_199_59  : exG TB d 199 59 L (.ref p :: st) A = kv (gf A p 89) d 199 62 L st A := x_bd (op := o_get 89) rfl rfl (fun _ => rfl)
theorem x_199_62  : exG TB d 199 62 L [v] A = ck (okv 1 v) (some (.inl (some v), A)) := x_outg (op := o_ret 1) rfl rfl
theorem e_200  : evG TB (d + 1) 200 [.ref p] A = exG TB d 200 0 [some (.ref p), none, none, none] [] A := evG_eq TB d 200 _ A
theorem x_200_0  : exG TB d 200 0 L st A = exG TB d 200 3 L (.ref (nx A) :: st) (newo A 18 4 dv18) := x_nx (op := o_new 18 4 dv18) rfl rfl
theorem x_200_3  : exG TB d 200 3 L (v :: st) A = ck (c1 v) (exG TB d 200 4 L (v :: v :: st) A) := x_gd (op := o_dup) rfl rfl
theorem x_200_4  : exG TB d 200 4 L st A = exG TB d 200 6 L (.int (nI 11) :: st) A := x_nx (op := o_push 2 (.int 11)) rfl rfl
theorem x_200_6  : exG TB d 200 6 L st A = exG TB d 200 9 L (.ref (nx A) :: st) (newo A 19 1 dv19) := x_nx (op := o_new 19 1 dv19) rfl rfl
theorem x_200_9  : exG TB d 200 9 L (v :: st) A = ck (c1 v) (exG TB d 200 10 L (v :: v :: st) A) := x_gd (op := o_dup) rfl rfl
theorem x_200_10  : exG TB d 200 10 (some v :: r9) st A = rg v (exG TB d 200 11 (some v :: r9) (v :: st) A) := x_rg (op := o_aload 0 1) rfl rfl
theorem x_200_11  : exG TB d 200 11 L (.ref p :: st) A = kv (gf A p 0) d 200 14 L st A := x_bd (op := o_get 0) rfl rfl (fun _ => rfl)
theorem x_200_14  : exG TB d 200 14 L [b0, .ref p, w0, w1, w2, w3] A = kc0 (evG TB d 238 [.ref p, b0] A) d 200 17 L [w0, w1, w2, w3] := x_c0 (op := o_ci 238 1) rfl rfl x_noh rfl
theorem x_200_17  : exG TB d 200 17 L [b1, b0, .ref p, w0] A = kc0 (evG TB d 73 [.ref p, b0, b1] A) d 200 20 L [w0] := x_c0 (op := o_ci 73 2) rfl rfl x_noh rfl
theorem x_200_20  : exG TB d 200 20 (a0 :: a1 :: r9) (v :: st) A = rg v (exG TB d 200 21 (a0 :: some v :: r9) st A) := x_rgt (op := o_astore 1 1) rfl rfl
theorem x_200_21  : exG TB d 200 21 (some v :: r9) st A = rg v (exG TB d 200 22 (some v :: r9) (v :: st) A) := x_rg (op := o_aload 0 1) rfl rfl
theorem x_200_22  : exG TB d 200 22 L (.ref p :: st) A = kv (gf A p 0) d 200 25 L st A := x_bd (op := o_get 0) rfl rfl (fun _ => rfl)
theorem x_200_25  : exG TB d 200 25 L (.ref p :: st) A = kv (gf A p 11) d 200 28 L st A := x_bd (op := o_get 11) rfl rfl (fun _ => rfl)
theorem x_200_28  : exG TB d 200 28 L [.ref p] A = kw (sel (gc A p) [(3, 40)]) [.ref p] d 200 31 L [] A := x_cvb (op := o_cv [(3, 40)] 0 3 false none) rfl rfl x_noh rfl
theorem x_200_31  : exG TB d 200 31 (a0 :: a1 :: a2 :: r9) (v :: st) A = rg v (exG TB d 200 32 (a0 :: a1 :: some v :: r9) st A) := x_rgt (op := o_astore 2 1) rfl rfl
theorem x_200_32  : exG TB d 200 32 (a0 :: a1 :: some v :: r9) st A = rg v (exG TB d 200 33 (a0 :: a1 :: some v :: r9) (v :: st) A) := x_rg (op := o_aload 2 1) rfl rfl
theorem x_200_33  : exG TB d 200 33 L [.ref p] A = kw (sel (gc A p) [(7, 50), (24, 86), (25, 92)]) [.ref p] d 200 38 L [] A := x_cvb (op := o_cv [(7, 50), (24, 86), (25, 92)] 0 5 false none) rfl rfl x_noh rfl
theorem x_200_38  : exG TB d 200 38 L (.int i1 :: st) A = if i1 = nI 0 then exG TB d 200 67 L st A else exG TB d 200 41 L st A := x_if (op := o_if (fun x => decide (x = 0)) 67) rfl rfl rfl
theorem x_200_41  : exG TB d 200 41 (a0 :: a1 :: some v :: r9) st A = rg v (exG TB d 200 42 (a0 :: a1 :: some v :: r9) (v :: st) A) := x_rg (op := o_aload 2 1) rfl rfl
theorem x_200_42  : exG TB d 200 42 L [.ref p] A = kw (sel (gc A p) [(7, 51), (24, 89), (25, 95)]) [.ref p] d 200 47 L [] A := x_cvb (op := o_cv [(7, 51), (24, 89), (25, 95)] 0 5 false none) rfl rfl x_noh rfl
theorem x_200_47n  : exG TB d 200 47 L (.null :: st) A = exG TB d 200 50 L (.null :: st) A := x_nx (op := o_cast [17]) rfl rfl
theorem x_200_47r  : exG TB d 200 47 L (.ref p :: st) A = ck (cin (gcs A p) [17]) (exG TB d 200 50 L (.ref p :: st) A) := x_gd (op := o_cast [17]) rfl rfl
theorem x_200_50  : exG TB d 200 50 (a0 :: a1 :: a2 :: a3 :: r9) (v :: st) A = rg v (exG TB d 200 51 (a0 :: a1 :: a2 :: some v :: r9) st A) := x_rgt (op := o_astore 3 1) rfl rfl
theorem x_200_51  : exG TB d 200 51 (a0 :: a1 :: a2 :: some v :: r9) st A = rg v (exG TB d 200 52 (a0 :: a1 :: a2 :: some v :: r9) (v :: st) A) := x_rg (op := o_aload 3 1) rfl rfl
theorem x_200_52  : exG TB d 200 52 L (.ref p :: st) A = kv (gf A p 95) d 200 55 L st A := x_bd (op := o_get 95) rfl rfl (fun _ => rfl)
theorem x_200_55  : exG TB d 200 55 L (.int i1 :: st) A = if ¬ i1 = nI 0 then exG TB d 200 64 L st A else exG TB d 200 58 L st A := x_if (op := o_if (fun x => decide (¬ x = 0)) 64) rfl rfl rfl
theorem x_200_58  : exG TB d 200 58 (a0 :: some v :: r9) st A = rg v (exG TB d 200 59 (a0 :: some v :: r9) (v :: st) A) := x_rg (op := o_aload 1 1) rfl rfl
theorem x_200_59  : exG TB d 200 59 (a0 :: a1 :: a2 :: some v :: r9) st A = rg v (exG TB d 200 60 (a0 :: a1 :: a2 :: some v :: r9) (v :: st) A) := x_rg (op := o_aload 3 1) rfl rfl
theorem x_200_60  : exG TB d 200 60 L [b0, .ref p] A = kw (sel (gc A p) [(18, 74)]) [.ref p, b0] d 200 63 L [] A := x_cvb (op := o_cv [(18, 74)] 1 3 false none) rfl rfl x_noh rfl
theorem x_200_63  : exG TB d 200 63 L (v :: st) A = ck (c1 v) (exG TB d 200 64 L st A) := x_gd (op := o_pop) rfl rfl
theorem x_200_64  : exG TB d 200 64 L st A = exG TB d 200 32 L st A := x_nx (op := o_goto 32) rfl rfl
theorem x_200_67  : exG TB d 200 67 (a0 :: some v :: r9) st A = rg v (exG TB d 200 68 (a0 :: some v :: r9) (v :: st) A) := x_rg (op := o_aload 1 1) rfl rfl
theorem x_200_68  : exG TB d 200 68 L [v] A = ck (okv 0 v) (some (.inl (some v), A)) := x_outg (op := o_ret 0) rfl rfl
theorem e_201 {j1 : Int32} : evG TB (d + 1) 201 [.ref p, .int j1] A = exG TB d 201 0 [some (.ref p), some (.int j1), none] [] A := evG_eq TB d 201 _ A
theorem x_201_0  : exG TB d 201 0 (a0 :: some (.int i1) :: r9) st A = exG TB d 201 1 (a0 :: some (.int i1) :: r9) (.int i1 :: st) A := x_nx (op := o_iload 1 1) rfl rfl
theorem x_201_1  : exG TB d 201 1 L (.int i1 :: st) A = exG TB d 201 2 L (.long i1.toInt64 :: st) A := x_nx (op := o_i2l) rfl rfl
theorem x_201_2  : exG TB d 201 2 L st A = exG TB d 201 5 L (.long (-1) :: st) A := x_nx (op := o_push 3 (.long (-1))) rfl rfl
theorem x_201_5  : exG TB d 201 5 (some v :: r9) st A = rg v (exG TB d 201 6 (some v :: r9) (v :: st) A) := x_rg (op := o_aload 0 1) rfl rfl
theorem x_201_6  : exG TB d 201 6 L (.ref p :: st) A = kv (gf A p 0) d 201 9 L st A := x_bd (op := o_get 0) rfl rfl (fun _ => rfl)
theorem x_201_9  : exG TB d 201 9 L (.ref p :: st) A = kv (gf A p 10) d 201 12 L st A := x_bd (op := o_get 10) rfl rfl (fun _ => rfl)
theorem x_201_12  : exG TB d 201 12 L [.ref p, w0, w1] A = kw (sel (gc A p) [(3, 42)]) [.ref p] d 201 15 L [w0, w1] A := x_cvb (op := o_cv [(3, 42)] 0 3 false none) rfl rfl x_noh rfl
theorem x_201_15  : exG TB d 201 15 L st A = exG TB d 201 16 L (.int (nI 1) :: st) A := x_nx (op := o_push 1 (.int 1)) rfl rfl
theorem x_201_16  : exG TB d 201 16 L (.int i2 :: .int i1 :: st) A = exG TB d 201 17 L (.int (i1 - i2) :: st) A := x_nx (op := o_iop (fun x y => x - y)) rfl rfl
theorem x_201_17  : exG TB d 201 17 L (.int i1 :: st) A = exG TB d 201 18 L (.long i1.toInt64 :: st) A := x_nx (op := o_i2l) rfl rfl
theorem x_201_18  : exG TB d 201 18 L [b2, b1, b0] A = kc (evG TB d 165 [b0, b1, b2] A) d 201 21 L [] := x_cv (op := o_cs 165 3 false none) rfl rfl x_noh rfl
theorem x_201_21  : exG TB d 201 21 L [b0] A = kc0 (evG TB d 176 [b0] A) d 201 24 L [] := x_c0 (op := o_cs 176 1 true none) rfl rfl x_noh rfl
theorem x_201_24  : exG TB d 201 24 (some v :: r9) st A = rg v (exG TB d 201 25 (some v :: r9) (v :: st) A) := x_rg (op := o_aload 0 1) rfl rfl
theorem x_201_25  : exG TB d 201 25 L [.ref p] A = kw (sel (gc A p) [(0, 200)]) [.ref p] d 201 28 L [] A := x_cvb (op := o_cv [(0, 200)] 0 3 false none) rfl rfl x_noh rfl
theorem x_201_28  : exG TB d 201 28 L [.ref p] A = kw (sel (gc A p) [(18, 80)]) [.ref p] d 201 31 L [] A := x_cvb (op := o_cv [(18, 80)] 0 3 false none) rfl rfl x_noh rfl
theorem x_201_31n  : exG TB d 201 31 L (.null :: st) A = exG TB d 201 34 L (.null :: st) A := x_nx (op := o_cast [17]) rfl rfl
theorem x_201_31r  : exG TB d 201 31 L (.ref p :: st) A = ck (cin (gcs A p) [17]) (exG TB d 201 34 L (.ref p :: st) A) := x_gd (op := o_cast [17]) rfl rfl
theorem x_201_34  : exG TB d 201 34 (a0 :: a1 :: a2 :: r9) (v :: st) A = rg v (exG TB d 201 35 (a0 :: a1 :: some v :: r9) st A) := x_rgt (op := o_astore 2 1) rfl rfl
theorem x_201_35  : exG TB d 201 35 (a0 :: a1 :: some v :: r9) st A = rg v (exG TB d 201 36 (a0 :: a1 :: some v :: r9) (v :: st) A) := x_rg (op := o_aload 2 1) rfl rfl
theorem x_201_36n  : exG TB d 201 36 L (.null :: st) A = exG TB d 201 43 L st A := x_nx (op := o_ifnull 43) rfl rfl
theorem x_201_36r  : exG TB d 201 36 L (.ref p :: st) A = exG TB d 201 39 L st A := x_nx (op := o_ifnull 43) rfl rfl
theorem x_201_39  : exG TB d 201 39 L st A = exG TB d 201 40 L (.int (nI 1) :: st) A := x_nx (op := o_push 1 (.int 1)) rfl rfl
theorem x_201_40  : exG TB d 201 40 L st A = exG TB d 201 44 L st A := x_nx (op := o_goto 44) rfl rfl
theorem x_201_43  : exG TB d 201 43 L st A = exG TB d 201 44 L (.int (nI 0) :: st) A := x_nx (op := o_push 1 (.int 0)) rfl rfl
theorem x_201_44  : exG TB d 201 44 L [b0] A = kc0 (evG TB d 170 [b0] A) d 201 47 L [] := x_c0 (op := o_cs 170 1 true none) rfl rfl x_noh rfl
theorem x_201_47  : exG TB d 201 47 (a0 :: some (.int i1) :: r9) st A = exG TB d 201 48 (a0 :: some (.int i1) :: r9) (.int i1 :: st) A := x_nx (op := o_iload 1 1) rfl rfl
theorem x_201_48  : exG TB d 201 48 L st A = exG TB d 201 49 L (.int nN :: st) A := x_nx (op := o_push 1 (.int (-1))) rfl rfl
theorem x_201_49  : exG TB d 201 49 L (.int i2 :: .int i1 :: st) A = if ¬ i1 = i2 then exG TB d 201 60 L st A else exG TB d 201 52 L st A := x_if (op := o_icmp (fun x y => decide (¬ x = y)) 60) rfl rfl rfl
theorem x_201_52  : exG TB d 201 52 (a0 :: a1 :: some v :: r9) st A = rg v (exG TB d 201 53 (a0 :: a1 :: some v :: r9) (v :: st) A) := x_rg (op := o_aload 2 1) rfl rfl
theorem x_201_53  : exG TB d 201 53 L st A = exG TB d 201 54 L (.int (nI 2) :: st) A := x_nx (op := o_push 1 (.int 2)) rfl rfl
theorem x_201_54  : exG TB d 201 54 L (v :: .ref p :: st) A = ck ((gf A p 95).isSome && okv 1 v) (exG TB d 201 57 L st (setf A p 95 v)) := x_gd (op := o_put 95 1) rfl rfl
theorem x_201_57  : exG TB d 201 57 L st A = exG TB d 201 75 L st A := x_nx (op := o_goto 75) rfl rfl
theorem x_201_60  : exG TB d 201 60 (a0 :: a1 :: some v :: r9) st A = rg v (exG TB d 201 61 (a0 :: a1 :: some v :: r9) (v :: st) A) := x_rg (op := o_aload 2 1) rfl rfl
theorem x_201_61  : exG TB d 201 61 L st A = exG TB d 201 63 L (.int (nI 100) :: st) A := x_nx (op := o_push 2 (.int 100)) rfl rfl
theorem x_201_63  : exG TB d 201 63 L (v :: .ref p :: st) A = ck ((gf A p 94).isSome && okv 1 v) (exG TB d 201 66 L st (setf A p 94 v)) := x_gd (op := o_put 94 1) rfl rfl
theorem x_201_66  : exG TB d 201 66 (some v :: r9) st A = rg v (exG TB d 201 67 (some v :: r9) (v :: st) A) := x_rg (op := o_aload 0 1) rfl rfl
theorem x_201_67  : exG TB d 201 67 L (.ref p :: st) A = kv (gf A p 0) d 201 70 L st A := x_bd (op := o_get 0) rfl rfl (fun _ => rfl)
theorem x_201_70  : exG TB d 201 70 (a0 :: a1 :: some v :: r9) st A = rg v (exG TB d 201 71 (a0 :: a1 :: some v :: r9) (v :: st) A) := x_rg (op := o_aload 2 1) rfl rfl
theorem x_201_71  : exG TB d 201 71 (a0 :: some (.int i1) :: r9) st A = exG TB d 201 72 (a0 :: some (.int i1) :: r9) (.int i1 :: st) A := x_nx (op := o_iload 1 1) rfl rfl
theorem x_201_72  : exG TB d 201 72 L [b1, b0, .ref p] A = kw0 (sel (gc A p) [(1, 263)]) [.ref p, b0, b1] d 201 75 L [] A := x_c0b (op := o_cv [(1, 263)] 2 3 true none) rfl rfl x_noh rfl
theorem x_201_75  : exG TB d 201 75 (a0 :: a1 :: some v :: r9) st A = rg v (exG TB d 201 76 (a0 :: a1 :: some v :: r9) (v :: st) A) := x_rg (op := o_aload 2 1) rfl rfl
theorem x_201_76  : exG TB d 201 76 L (.ref p :: st) A = kv (gf A p 89) d 201 79 L st A := x_bd (op := o_get 89) rfl rfl (fun _ => rfl)
theorem x_201_79  : exG TB d 201 79 L [v] A = ck (okv 1 v) (some (.inl (some v), A)) := x_outg (op := o_ret 1) rfl rfl
theorem e_202 {j1 : Int32} {j2 : Int32} : evG TB (d + 1) 202 [.ref p, .int j1, .int j2] A = exG TB d 202 0 [some (.ref p), some (.int j1), some (.int j2), none, none] [] A := evG_eq TB d 202 _ A
theorem x_202_0  : exG TB d 202 0 (some v :: r9) st A = rg v (exG TB d 202 1 (some v :: r9) (v :: st) A) := x_rg (op := o_aload 0 1) rfl rfl
theorem x_202_1  : exG TB d 202 1 (a0 :: some (.int i1) :: r9) st A = exG TB d 202 2 (a0 :: some (.int i1) :: r9) (.int i1 :: st) A := x_nx (op := o_iload 1 1) rfl rfl
theorem x_202_2  : exG TB d 202 2 L [b0, .ref p] A = kw (sel (gc A p) [(0, 198)]) [.ref p, b0] d 202 5 L [] A := x_cvb (op := o_cv [(0, 198)] 1 3 false none) rfl rfl x_noh rfl
theorem x_202_5  : exG TB d 202 5 (a0 :: a1 :: a2 :: a3 :: r9) (v :: st) A = rg v (exG TB d 202 6 (a0 :: a1 :: a2 :: some v :: r9) st A) := x_rgt (op := o_astore 3 1) rfl rfl
theorem x_202_6  : exG TB d 202 6 (some v :: r9) st A = rg v (exG TB d 202 7 (some v :: r9) (v :: st) A) := x_rg (op := o_aload 0 1) rfl rfl
theorem x_202_7  : exG TB d 202 7 (a0 :: a1 :: some (.int i1) :: r9) st A = exG TB d 202 8 (a0 :: a1 :: some (.int i1) :: r9) (.int i1 :: st) A := x_nx (op := o_iload 2 1) rfl rfl
theorem x_202_8  : exG TB d 202 8 L [b0, .ref p] A = kw (sel (gc A p) [(0, 188)]) [.ref p, b0] d 202 11 L [] A := x_cvb (op := o_cv [(0, 188)] 1 3 false none) rfl rfl x_noh rfl
theorem x_202_11  : exG TB d 202 11 (a0 :: a1 :: a2 :: a3 :: a4 :: r9) (v :: st) A = rg v (exG TB d 202 13 (a0 :: a1 :: a2 :: a3 :: some v :: r9) st A) := x_rgt (op := o_astore 4 2) rfl rfl
theorem x_202_13  : exG TB d 202 13 (a0 :: a1 :: a2 :: some v :: r9) st A = rg v (exG TB d 202 14 (a0 :: a1 :: a2 :: some v :: r9) (v :: st) A) := x_rg (op := o_aload 3 1) rfl rfl
theorem x_202_14  : exG TB d 202 14 L (.ref p :: st) A = kv (gf A p 95) d 202 17 L st A := x_bd (op := o_get 95) rfl rfl (fun _ => rfl)
theorem x_202_17  : exG TB d 202 17 L st A = exG TB d 202 18 L (.int (nI 1) :: st) A := x_nx (op := o_push 1 (.int 1)) rfl rfl
theorem x_202_18  : exG TB d 202 18 L (.int i2 :: .int i1 :: st) A = if i1 = i2 then exG TB d 202 29 L st A else exG TB d 202 21 L st A := x_if (op := o_icmp (fun x y => decide (x = y)) 29) rfl rfl rfl
theorem x_202_21  : exG TB d 202 21 (a0 :: a1 :: a2 :: some v :: r9) st A = rg v (exG TB d 202 22 (a0 :: a1 :: a2 :: some v :: r9) (v :: st) A) := x_rg (op := o_aload 3 1) rfl rfl
theorem x_202_22  : exG TB d 202 22 L (.ref p :: st) A = kv (gf A p 95) d 202 25 L st A := x_bd (op := o_get 95) rfl rfl (fun _ => rfl)
theorem x_202_25  : exG TB d 202 25 L st A = exG TB d 202 26 L (.int (nI 4) :: st) A := x_nx (op := o_push 1 (.int 4)) rfl rfl
theorem x_202_26  : exG TB d 202 26 L (.int i2 :: .int i1 :: st) A = if ¬ i1 = i2 then exG TB d 202 33 L st A else exG TB d 202 29 L st A := x_if (op := o_icmp (fun x y => decide (¬ x = y)) 33) rfl rfl rfl
theorem x_202_29  : exG TB d 202 29 L st A = exG TB d 202 30 L (.int (nI 1) :: st) A := x_nx (op := o_push 1 (.int 1)) rfl rfl
theorem x_202_30  : exG TB d 202 30 L st A = exG TB d 202 34 L st A := x_nx (op := o_goto 34) rfl rfl
theorem x_202_33  : exG TB d 202 33 L st A = exG TB d 202 34 L (.int (nI 0) :: st) A := x_nx (op := o_push 1 (.int 0)) rfl rfl
theorem x_202_34  : exG TB d 202 34 L [b0] A = kc0 (evG TB d 170 [b0] A) d 202 37 L [] := x_c0 (op := o_cs 170 1 true none) rfl rfl x_noh rfl
theorem x_202_37  : exG TB d 202 37 (some v :: r9) st A = rg v (exG TB d 202 38 (some v :: r9) (v :: st) A) := x_rg (op := o_aload 0 1) rfl rfl
theorem x_202_38  : exG TB d 202 38 L (.ref p :: st) A = kv (gf A p 0) d 202 41 L st A := x_bd (op := o_get 0) rfl rfl (fun _ => rfl)
theorem x_202_41  : exG TB d 202 41 (a0 :: a1 :: a2 :: some v :: r9) st A = rg v (exG TB d 202 42 (a0 :: a1 :: a2 :: some v :: r9) (v :: st) A) := x_rg (op := o_aload 3 1) rfl rfl
theorem x_202_42  : exG TB d 202 42 (a0 :: a1 :: some (.int i1) :: r9) st A = exG TB d 202 43 (a0 :: a1 :: some (.int i1) :: r9) (.int i1 :: st) A := x_nx (op := o_iload 2 1) rfl rfl
theorem x_202_43  : exG TB d 202 43 L [b1, b0, .ref p] A = kw0 (sel (gc A p) [(1, 263)]) [.ref p, b0, b1] d 202 46 L [] A := x_c0b (op := o_cv [(1, 263)] 2 3 true none) rfl rfl x_noh rfl
theorem x_202_46  : exG TB d 202 46 (a0 :: a1 :: a2 :: some v :: r9) st A = rg v (exG TB d 202 47 (a0 :: a1 :: a2 :: some v :: r9) (v :: st) A) := x_rg (op := o_aload 3 1) rfl rfl
theorem x_202_47  : exG TB d 202 47 L (.ref p :: st) A = kv (gf A p 95) d 202 50 L st A := x_bd (op := o_get 95) rfl rfl (fun _ => rfl)
theorem x_202_50  : exG TB d 202 50 L [v] A = ck (okv 1 v) (some (.inl (some v), A)) := x_outg (op := o_ret 1) rfl rfl
theorem e_203 {j1 : Int32} : evG TB (d + 1) 203 [.ref p, .int j1] A = exG TB d 203 0 [some (.ref p), some (.int j1), none] [] A := evG_eq TB d 203 _ A
theorem x_203_0  : exG TB d 203 0 (some v :: r9) st A = rg v (exG TB d 203 1 (some v :: r9) (v :: st) A) := x_rg (op := o_aload 0 1) rfl rfl
theorem x_203_1  : exG TB d 203 1 (a0 :: some (.int i1) :: r9) st A = exG TB d 203 2 (a0 :: some (.int i1) :: r9) (.int i1 :: st) A := x_nx (op := o_iload 1 1) rfl rfl
theorem x_203_2  : exG TB d 203 2 L [b0, .ref p] A = kw (sel (gc A p) [(0, 188)]) [.ref p, b0] d 203 5 L [] A := x_cvb (op := o_cv [(0, 188)] 1 3 false none) rfl rfl x_noh rfl
theorem x_203_5  : exG TB d 203 5 (a0 :: a1 :: a2 :: r9) (v :: st) A = rg v (exG TB d 203 6 (a0 :: a1 :: some v :: r9) st A) := x_rgt (op := o_astore 2 1) rfl rfl
theorem x_203_6  : exG TB d 203 6 (some v :: r9) st A = rg v (exG TB d 203 7 (some v :: r9) (v :: st) A) := x_rg (op := o_aload 0 1) rfl rfl
theorem x_203_7  : exG TB d 203 7 L (.ref p :: st) A = kv (gf A p 0) d 203 10 L st A := x_bd (op := o_get 0) rfl rfl (fun _ => rfl)
theorem x_203_10  : exG TB d 203 10 (a0 :: some (.int i1) :: r9) st A = exG TB d 203 11 (a0 :: some (.int i1) :: r9) (.int i1 :: st) A := x_nx (op := o_iload 1 1) rfl rfl
theorem x_203_11  : exG TB d 203 11 L [b0, .ref p] A = kw (sel (gc A p) [(1, 264)]) [.ref p, b0] d 203 14 L [] A := x_cvb (op := o_cv [(1, 264)] 1 3 false none) rfl rfl x_noh rfl
theorem x_203_14  : exG TB d 203 14 L [.ref p] A = kw (sel (gc A p) [(3, 42)]) [.ref p] d 203 17 L [] A := x_cvb (op := o_cv [(3, 42)] 0 3 false none) rfl rfl x_noh rfl
theorem x_203_17  : exG TB d 203 17 L [v] A = ck (okv 1 v) (some (.inl (some v), A)) := x_outg (op := o_ret 1) rfl rfl
theorem e_204 {j1 : Int32} {j2 : Int32} {j3 : Int32} : evG TB (d + 1) 204 [.ref p, .int j1, .int j2, .int j3] A = exG TB d 204 0 [some (.ref p), some (.int j1), some (.int j2), some (.int j3), none] [] A := evG_eq TB d 204 _ A
theorem x_204_0  : exG TB d 204 0 (some v :: r9) st A = rg v (exG TB d 204 1 (some v :: r9) (v :: st) A) := x_rg (op := o_aload 0 1) rfl rfl
theorem x_204_1  : exG TB d 204 1 (a0 :: some (.int i1) :: r9) st A = exG TB d 204 2 (a0 :: some (.int i1) :: r9) (.int i1 :: st) A := x_nx (op := o_iload 1 1) rfl rfl
theorem x_204_2  : exG TB d 204 2 (a0 :: a1 :: some (.int i1) :: r9) st A = exG TB d 204 3 (a0 :: a1 :: some (.int i1) :: r9) (.int i1 :: st) A := x_nx (op := o_iload 2 1) rfl rfl
theorem x_204_3  : exG TB d 204 3 L [b1, b0, .ref p] A = kw (sel (gc A p) [(0, 205)]) [.ref p, b0, b1] d 204 6 L [] A := x_cvb (op := o_cv [(0, 205)] 2 3 false none) rfl rfl x_noh rfl
theorem x_204_6  : exG TB d 204 6 (a0 :: a1 :: a2 :: a3 :: a4 :: r9) (v :: st) A = rg v (exG TB d 204 8 (a0 :: a1 :: a2 :: a3 :: some v :: r9) st A) := x_rgt (op := o_astore 4 2) rfl rfl
theorem x_204_8  : exG TB d 204 8 (a0 :: a1 :: a2 :: some (.int i1) :: r9) st A = exG TB d 204 9 (a0 :: a1 :: a2 :: some (.int i1) :: r9) (.int i1 :: st) A := x_nx (op := o_iload 3 1) rfl rfl
theorem x_204_9  : exG TB d 204 9 L (.int i1 :: st) A = exG TB d 204 10 L (.long i1.toInt64 :: st) A := x_nx (op := o_i2l) rfl rfl
theorem x_204_10  : exG TB d 204 10 L st A = exG TB d 204 11 L (.long 0 :: st) A := x_nx (op := o_push 1 (.long 0)) rfl rfl
theorem x_204_11  : exG TB d 204 11 L st A = exG TB d 204 14 L (.long 7 :: st) A := x_nx (op := o_push 3 (.long 7)) rfl rfl
theorem x_204_14  : exG TB d 204 14 L [b2, b1, b0] A = kc (evG TB d 165 [b0, b1, b2] A) d 204 17 L [] := x_cv (op := o_cs 165 3 false none) rfl rfl x_noh rfl
theorem x_204_17  : exG TB d 204 17 L [b0] A = kc0 (evG TB d 172 [b0] A) d 204 20 L [] := x_c0 (op := o_cs 172 1 true none) rfl rfl x_noh rfl
theorem x_204_20  : exG TB d 204 20 (a0 :: a1 :: a2 :: some (.int i1) :: r9) st A = exG TB d 204 21 (a0 :: a1 :: a2 :: some (.int i1) :: r9) (.int i1 :: st) A := x_nx (op := o_iload 3 1) rfl rfl
theorem x_204_21  : exG TB d 204 21 L (.int i1 :: st) A = exG TB d 204 (swt 0 [64, 70, 76, 85, 94, 100, 106] 112 i1) L st A := x_nx (op := o_sw (swt 0 [64, 70, 76, 85, 94, 100, 106] 112)) rfl rfl
theorem x_204_64  : exG TB d 204 64 (a0 :: a1 :: a2 :: a3 :: some v :: r9) st A = rg v (exG TB d 204 66 (a0 :: a1 :: a2 :: a3 :: some v :: r9) (v :: st) A) := x_rg (op := o_aload 4 2) rfl rfl
theorem x_204_66  : exG TB d 204 66 L [.ref p] A = kw (sel (gc A p) [(26, 244)]) [.ref p] d 204 69 L [] A := x_cvb (op := o_cv [(26, 244)] 0 3 false none) rfl rfl x_noh rfl
theorem x_204_69  : exG TB d 204 69 L [v] A = ck (okv 1 v) (some (.inl (some v), A)) := x_outg (op := o_ret 1) rfl rfl
theorem x_204_70  : exG TB d 204 70 (a0 :: a1 :: a2 :: a3 :: some v :: r9) st A = rg v (exG TB d 204 72 (a0 :: a1 :: a2 :: a3 :: some v :: r9) (v :: st) A) := x_rg (op := o_aload 4 2) rfl rfl
theorem x_204_72  : exG TB d 204 72 L [.ref p] A = kw (sel (gc A p) [(26, 245)]) [.ref p] d 204 75 L [] A := x_cvb (op := o_cv [(26, 245)] 0 3 false none) rfl rfl x_noh rfl
theorem x_204_75  : exG TB d 204 75 L [v] A = ck (okv 1 v) (some (.inl (some v), A)) := x_outg (op := o_ret 1) rfl rfl
theorem x_204_76  : exG TB d 204 76 (a0 :: a1 :: a2 :: a3 :: some v :: r9) st A = rg v (exG TB d 204 78 (a0 :: a1 :: a2 :: a3 :: some v :: r9) (v :: st) A) := x_rg (op := o_aload 4 2) rfl rfl
theorem x_204_78  : exG TB d 204 78 L (.ref p :: st) A = kv (gf A p 127) d 204 81 L st A := x_bd (op := o_get 127) rfl rfl (fun _ => rfl)
theorem x_204_81  : exG TB d 204 81 L [.ref p] A = kw (sel (gc A p) [(3, 42)]) [.ref p] d 204 84 L [] A := x_cvb (op := o_cv [(3, 42)] 0 3 false none) rfl rfl x_noh rfl
theorem x_204_84  : exG TB d 204 84 L [v] A = ck (okv 1 v) (some (.inl (some v), A)) := x_outg (op := o_ret 1) rfl rfl
theorem x_204_85  : exG TB d 204 85 (a0 :: a1 :: a2 :: a3 :: some v :: r9) st A = rg v (exG TB d 204 87 (a0 :: a1 :: a2 :: a3 :: some v :: r9) (v :: st) A) := x_rg (op := o_aload 4 2) rfl rfl
theorem x_204_87  : exG TB d 204 87 L (.ref p :: st) A = kv (gf A p 128) d 204 90 L st A := x_bd (op := o_get 128) rfl rfl (fun _ => rfl)
theorem x_204_90  : exG TB d 204 90 L [.ref p] A = kw (sel (gc A p) [(3, 42)]) [.ref p] d 204 93 L [] A := x_cvb (op := o_cv [(3, 42)] 0 3 false none) rfl rfl x_noh rfl
theorem x_204_93  : exG TB d 204 93 L [v] A = ck (okv 1 v) (some (.inl (some v), A)) := x_outg (op := o_ret 1) rfl rfl
theorem x_204_94  : exG TB d 204 94 (a0 :: a1 :: a2 :: a3 :: some v :: r9) st A = rg v (exG TB d 204 96 (a0 :: a1 :: a2 :: a3 :: some v :: r9) (v :: st) A) := x_rg (op := o_aload 4 2) rfl rfl
theorem x_204_96  : exG TB d 204 96 L (.ref p :: st) A = kv (gf A p 130) d 204 99 L st A := x_bd (op := o_get 130) rfl rfl (fun _ => rfl)
theorem x_204_99  : exG TB d 204 99 L [v] A = ck (okv 1 v) (some (.inl (some v), A)) := x_outg (op := o_ret 1) rfl rfl
theorem x_204_100  : exG TB d 204 100 (a0 :: a1 :: a2 :: a3 :: some v :: r9) st A = rg v (exG TB d 204 102 (a0 :: a1 :: a2 :: a3 :: some v :: r9) (v :: st) A) := x_rg (op := o_aload 4 2) rfl rfl
theorem x_204_102  : exG TB d 204 102 L [.ref p] A = kw (sel (gc A p) [(26, 246)]) [.ref p] d 204 105 L [] A := x_cvb (op := o_cv [(26, 246)] 0 3 false none) rfl rfl x_noh rfl
theorem x_204_105  : exG TB d 204 105 L [v] A = ck (okv 1 v) (some (.inl (some v), A)) := x_outg (op := o_ret 1) rfl rfl
theorem x_204_106  : exG TB d 204 106 (a0 :: a1 :: a2 :: a3 :: some v :: r9) st A = rg v (exG TB d 204 108 (a0 :: a1 :: a2 :: a3 :: some v :: r9) (v :: st) A) := x_rg (op := o_aload 4 2) rfl rfl
theorem x_204_108  : exG TB d 204 108 L (.ref p :: st) A = kv (gf A p 132) d 204 111 L st A := x_bd (op := o_get 132) rfl rfl (fun _ => rfl)
theorem x_204_111  : exG TB d 204 111 L [v] A = ck (okv 1 v) (some (.inl (some v), A)) := x_outg (op := o_ret 1) rfl rfl
theorem x_204_112  : exG TB d 204 112 (a0 :: a1 :: a2 :: a3 :: some v :: r9) st A = rg v (exG TB d 204 114 (a0 :: a1 :: a2 :: a3 :: some v :: r9) (v :: st) A) := x_rg (op := o_aload 4 2) rfl rfl
theorem x_204_114  : exG TB d 204 114 L [.ref p] A = kw (sel (gc A p) [(26, 247)]) [.ref p] d 204 117 L [] A := x_cvb (op := o_cv [(26, 247)] 0 3 false none) rfl rfl x_noh rfl
theorem x_204_117  : exG TB d 204 117 L [v] A = ck (okv 1 v) (some (.inl (some v), A)) := x_outg (op := o_ret 1) rfl rfl
theorem e_205 {j1 : Int32} {j2 : Int32} : evG TB (d + 1) 205 [.ref p, .int j1, .int j2] A = exG TB d 205 0 [some (.ref p), some (.int j1), some (.int j2), none, none] [] A := evG_eq TB d 205 _ A
theorem x_205_0  : exG TB d 205 0 (some v :: r9) st A = rg v (exG TB d 205 1 (some v :: r9) (v :: st) A) := x_rg (op := o_aload 0 1) rfl rfl
theorem x_205_1  : exG TB d 205 1 (a0 :: some (.int i1) :: r9) st A = exG TB d 205 2 (a0 :: some (.int i1) :: r9) (.int i1 :: st) A := x_nx (op := o_iload 1 1) rfl rfl
theorem x_205_2  : exG TB d 205 2 L [b0, .ref p] A = kw (sel (gc A p) [(0, 188)]) [.ref p, b0] d 205 5 L [] A := x_cvb (op := o_cv [(0, 188)] 1 3 false none) rfl rfl x_noh rfl
theorem x_205_5  : exG TB d 205 5 (a0 :: a1 :: a2 :: a3 :: r9) (v :: st) A = rg v (exG TB d 205 6 (a0 :: a1 :: a2 :: some v :: r9) st A) := x_rgt (op := o_astore 3 1) rfl rfl
theorem x_205_6  : exG TB d 205 6 (some v :: r9) st A = rg v (exG TB d 205 7 (some v :: r9) (v :: st) A) := x_rg (op := o_aload 0 1) rfl rfl
theorem x_205_7  : exG TB d 205 7 L (.ref p :: st) A = kv (gf A p 0) d 205 10 L st A := x_bd (op := o_get 0) rfl rfl (fun _ => rfl)
theorem x_205_10  : exG TB d 205 10 (a0 :: some (.int i1) :: r9) st A = exG TB d 205 11 (a0 :: some (.int i1) :: r9) (.int i1 :: st) A := x_nx (op := o_iload 1 1) rfl rfl
theorem x_205_11  : exG TB d 205 11 L [b0, .ref p] A = kw (sel (gc A p) [(1, 264)]) [.ref p, b0] d 205 14 L [] A := x_cvb (op := o_cv [(1, 264)] 1 3 false none) rfl rfl x_noh rfl
theorem x_205_14  : exG TB d 205 14 (a0 :: a1 :: a2 :: a3 :: a4 :: r9) (v :: st) A = rg v (exG TB d 205 16 (a0 :: a1 :: a2 :: a3 :: some v :: r9) st A) := x_rgt (op := o_astore 4 2) rfl rfl
theorem x_205_16  : exG TB d 205 16 (a0 :: a1 :: some (.int i1) :: r9) st A = exG TB d 205 17 (a0 :: a1 :: some (.int i1) :: r9) (.int i1 :: st) A := x_nx (op := o_iload 2 1) rfl rfl
theorem x_205_17  : exG TB d 205 17 L (.int i1 :: st) A = exG TB d 205 18 L (.long i1.toInt64 :: st) A := x_nx (op := o_i2l) rfl rfl
theorem x_205_18  : exG TB d 205 18 L st A = exG TB d 205 19 L (.long 0 :: st) A := x_nx (op := o_push 1 (.long 0)) rfl rfl
theorem x_205_19  : exG TB d 205 19 (a0 :: a1 :: a2 :: a3 :: some v :: r9) st A = rg v (exG TB d 205 21 (a0 :: a1 :: a2 :: a3 :: some v :: r9) (v :: st) A) := x_rg (op := o_aload 4 2) rfl rfl
theorem x_205_21  : exG TB d 205 21 L [.ref p, w0, w1] A = kw (sel (gc A p) [(3, 42)]) [.ref p] d 205 24 L [w0, w1] A := x_cvb (op := o_cv [(3, 42)] 0 3 false none) rfl rfl x_noh rfl
theorem x_205_24  : exG TB d 205 24 L st A = exG TB d 205 25 L (.int (nI 1) :: st) A := x_nx (op := o_push 1 (.int 1)) rfl rfl
theorem x_205_25  : exG TB d 205 25 L (.int i2 :: .int i1 :: st) A = exG TB d 205 26 L (.int (i1 - i2) :: st) A := x_nx (op := o_iop (fun x y => x - y)) rfl rfl
theorem x_205_26  : exG TB d 205 26 L (.int i1 :: st) A = exG TB d 205 27 L (.long i1.toInt64 :: st) A := x_nx (op := o_i2l) rfl rfl
theorem x_205_27  : exG TB d 205 27 L [b2, b1, b0] A = kc (evG TB d 165 [b0, b1, b2] A) d 205 30 L [] := x_cv (op := o_cs 165 3 false none) rfl rfl x_noh rfl
theorem x_205_30  : exG TB d 205 30 L [b0] A = kc0 (evG TB d 176 [b0] A) d 205 33 L [] := x_c0 (op := o_cs 176 1 true none) rfl rfl x_noh rfl
theorem x_205_33  : exG TB d 205 33 (a0 :: a1 :: a2 :: a3 :: some v :: r9) st A = rg v (exG TB d 205 35 (a0 :: a1 :: a2 :: a3 :: some v :: r9) (v :: st) A) := x_rg (op := o_aload 4 2) rfl rfl
theorem x_205_35  : exG TB d 205 35 (a0 :: a1 :: some (.int i1) :: r9) st A = exG TB d 205 36 (a0 :: a1 :: some (.int i1) :: r9) (.int i1 :: st) A := x_nx (op := o_iload 2 1) rfl rfl
theorem x_205_36  : exG TB d 205 36 L [b0, .ref p] A = kw (sel (gc A p) [(3, 47)]) [.ref p, b0] d 205 39 L [] A := x_cvb (op := o_cv [(3, 47)] 1 3 false none) rfl rfl x_noh rfl
theorem x_205_39n  : exG TB d 205 39 L (.null :: st) A = exG TB d 205 42 L (.null :: st) A := x_nx (op := o_cast [26]) rfl rfl
theorem x_205_39r  : exG TB d 205 39 L (.ref p :: st) A = ck (cin (gcs A p) [26]) (exG TB d 205 42 L (.ref p :: st) A) := x_gd (op := o_cast [26]) rfl rfl
theorem x_205_42  : exG TB d 205 42 L [v] A = ck (okv 0 v) (some (.inl (some v), A)) := x_outg (op := o_ret 0) rfl rfl
theorem e_206 {j1 : Int32} {j2 : Int32} {j3 : Int32} : evG TB (d + 1) 206 [.ref p, .int j1, .int j2, .int j3] A = exG TB d 206 0 [some (.ref p), some (.int j1), some (.int j2), some (.int j3), none] [] A := evG_eq TB d 206 _ A
theorem x_206_0  : exG TB d 206 0 (some v :: r9) st A = rg v (exG TB d 206 1 (some v :: r9) (v :: st) A) := x_rg (op := o_aload 0 1) rfl rfl
theorem x_206_1  : exG TB d 206 1 (a0 :: some (.int i1) :: r9) st A = exG TB d 206 2 (a0 :: some (.int i1) :: r9) (.int i1 :: st) A := x_nx (op := o_iload 1 1) rfl rfl
theorem x_206_2  : exG TB d 206 2 (a0 :: a1 :: some (.int i1) :: r9) st A = exG TB d 206 3 (a0 :: a1 :: some (.int i1) :: r9) (.int i1 :: st) A := x_nx (op := o_iload 2 1) rfl rfl
theorem x_206_3  : exG TB d 206 3 L [b1, b0, .ref p] A = kw (sel (gc A p) [(0, 205)]) [.ref p, b0, b1] d 206 6 L [] A := x_cvb (op := o_cv [(0, 205)] 2 3 false none) rfl rfl x_noh rfl
theorem x_206_6  : exG TB d 206 6 (a0 :: a1 :: a2 :: a3 :: a4 :: r9) (v :: st) A = rg v (exG TB d 206 8 (a0 :: a1 :: a2 :: a3 :: some v :: r9) st A) := x_rgt (op := o_astore 4 2) rfl rfl
theorem x_206_8  : exG TB d 206 8 (a0 :: a1 :: a2 :: some (.int i1) :: r9) st A = exG TB d 206 9 (a0 :: a1 :: a2 :: some (.int i1) :: r9) (.int i1 :: st) A := x_nx (op := o_iload 3 1) rfl rfl
theorem x_206_9  : exG TB d 206 9 L (.int i1 :: st) A = exG TB d 206 10 L (.long i1.toInt64 :: st) A := x_nx (op := o_i2l) rfl rfl
theorem x_206_10  : exG TB d 206 10 L st A = exG TB d 206 11 L (.long 0 :: st) A := x_nx (op := o_push 1 (.long 0)) rfl rfl
theorem x_206_11  : exG TB d 206 11 (a0 :: a1 :: a2 :: a3 :: some v :: r9) st A = rg v (exG TB d 206 13 (a0 :: a1 :: a2 :: a3 :: some v :: r9) (v :: st) A) := x_rg (op := o_aload 4 2) rfl rfl
theorem x_206_13  : exG TB d 206 13 L (.ref p :: st) A = kv (gf A p 128) d 206 16 L st A := x_bd (op := o_get 128) rfl rfl (fun _ => rfl)
theorem x_206_16  : exG TB d 206 16 L [.ref p, w0, w1] A = kw (sel (gc A p) [(3, 42)]) [.ref p] d 206 19 L [w0, w1] A := x_cvb (op := o_cv [(3, 42)] 0 3 false none) rfl rfl x_noh rfl
theorem x_206_19  : exG TB d 206 19 L st A = exG TB d 206 20 L (.int (nI 1) :: st) A := x_nx (op := o_push 1 (.int 1)) rfl rfl
theorem x_206_20  : exG TB d 206 20 L (.int i2 :: .int i1 :: st) A = exG TB d 206 21 L (.int (i1 - i2) :: st) A := x_nx (op := o_iop (fun x y => x - y)) rfl rfl
theorem x_206_21  : exG TB d 206 21 L (.int i1 :: st) A = exG TB d 206 22 L (.long i1.toInt64 :: st) A := x_nx (op := o_i2l) rfl rfl
theorem x_206_22  : exG TB d 206 22 L [b2, b1, b0] A = kc (evG TB d 165 [b0, b1, b2] A) d 206 25 L [] := x_cv (op := o_cs 165 3 false none) rfl rfl x_noh rfl
theorem x_206_25  : exG TB d 206 25 L [b0] A = kc0 (evG TB d 176 [b0] A) d 206 28 L [] := x_c0 (op := o_cs 176 1 true none) rfl rfl x_noh rfl
theorem x_206_28  : exG TB d 206 28 (a0 :: a1 :: a2 :: a3 :: some v :: r9) st A = rg v (exG TB d 206 30 (a0 :: a1 :: a2 :: a3 :: some v :: r9) (v :: st) A) := x_rg (op := o_aload 4 2) rfl rfl
theorem x_206_30  : exG TB d 206 30 L (.ref p :: st) A = kv (gf A p 128) d 206 33 L st A := x_bd (op := o_get 128) rfl rfl (fun _ => rfl)
theorem x_206_33  : exG TB d 206 33 (a0 :: a1 :: a2 :: some (.int i1) :: r9) st A = exG TB d 206 34 (a0 :: a1 :: a2 :: some (.int i1) :: r9) (.int i1 :: st) A := x_nx (op := o_iload 3 1) rfl rfl
theorem x_206_34  : exG TB d 206 34 L [b0, .ref p] A = kw (sel (gc A p) [(3, 47)]) [.ref p, b0] d 206 37 L [] A := x_cvb (op := o_cv [(3, 47)] 1 3 false none) rfl rfl x_noh rfl
theorem x_206_37n  : exG TB d 206 37 L (.null :: st) A = exG TB d 206 40 L (.null :: st) A := x_nx (op := o_cast [21]) rfl rfl
theorem x_206_37r  : exG TB d 206 37 L (.ref p :: st) A = ck (cin (gcs A p) [21]) (exG TB d 206 40 L (.ref p :: st) A) := x_gd (op := o_cast [21]) rfl rfl
theorem x_206_40  : exG TB d 206 40 L [.ref p] A = kw (sel (gcs A p) [(21, 21)]) [.ref p] d 206 43 L [] A := x_cvb (op := o_cvs [(21, 21)] 0 3 false) rfl rfl x_noh rfl
theorem x_206_43  : exG TB d 206 43 L [v] A = ck (okv 1 v) (some (.inl (some v), A)) := x_outg (op := o_ret 1) rfl rfl
theorem e_207 {j1 : Int32} {j2 : Int32} : evG TB (d + 1) 207 [.ref p, .int j1, .int j2] A = exG TB d 207 0 [some (.ref p), some (.int j1), some (.int j2), none] [] A := evG_eq TB d 207 _ A
theorem x_207_0  : exG TB d 207 0 (some v :: r9) st A = rg v (exG TB d 207 1 (some v :: r9) (v :: st) A) := x_rg (op := o_aload 0 1) rfl rfl
theorem x_207_1  : exG TB d 207 1 (a0 :: some (.int i1) :: r9) st A = exG TB d 207 2 (a0 :: some (.int i1) :: r9) (.int i1 :: st) A := x_nx (op := o_iload 1 1) rfl rfl
theorem x_207_2  : exG TB d 207 2 L [b0, .ref p] A = kw (sel (gc A p) [(0, 188)]) [.ref p, b0] d 207 5 L [] A := x_cvb (op := o_cv [(0, 188)] 1 3 false none) rfl rfl x_noh rfl
theorem x_207_5  : exG TB d 207 5 (a0 :: a1 :: a2 :: a3 :: r9) (v :: st) A = rg v (exG TB d 207 6 (a0 :: a1 :: a2 :: some v :: r9) st A) := x_rgt (op := o_astore 3 1) rfl rfl
theorem x_207_6  : exG TB d 207 6 (a0 :: a1 :: some (.int i1) :: r9) st A = exG TB d 207 7 (a0 :: a1 :: some (.int i1) :: r9) (.int i1 :: st) A := x_nx (op := o_iload 2 1) rfl rfl
theorem x_207_7  : exG TB d 207 7 L [b0] A = kc (evG TB d 208 [b0] A) d 207 10 L [] := x_cv (op := o_cs 208 1 false none) rfl rfl x_noh rfl
theorem x_207_10  : exG TB d 207 10 L [b0] A = kc0 (evG TB d 172 [b0] A) d 207 13 L [] := x_c0 (op := o_cs 172 1 true none) rfl rfl x_noh rfl
theorem x_207_13  : exG TB d 207 13 (some v :: r9) st A = rg v (exG TB d 207 14 (some v :: r9) (v :: st) A) := x_rg (op := o_aload 0 1) rfl rfl
theorem x_207_14  : exG TB d 207 14 L (.ref p :: st) A = kv (gf A p 0) d 207 17 L st A := x_bd (op := o_get 0) rfl rfl (fun _ => rfl)
theorem x_207_17  : exG TB d 207 17 (a0 :: some (.int i1) :: r9) st A = exG TB d 207 18 (a0 :: some (.int i1) :: r9) (.int i1 :: st) A := x_nx (op := o_iload 1 1) rfl rfl
theorem x_207_18  : exG TB d 207 18 (a0 :: a1 :: some (.int i1) :: r9) st A = exG TB d 207 19 (a0 :: a1 :: some (.int i1) :: r9) (.int i1 :: st) A := x_nx (op := o_iload 2 1) rfl rfl
theorem x_207_19  : exG TB d 207 19 L [b1, b0, .ref p] A = kw (sel (gc A p) [(1, 265)]) [.ref p, b0, b1] d 207 22 L [] A := x_cvb (op := o_cv [(1, 265)] 2 3 false none) rfl rfl x_noh rfl
theorem x_207_22  : exG TB d 207 22 L [v] A = ck (okv 1 v) (some (.inl (some v), A)) := x_outg (op := o_ret 1) rfl rfl
theorem e_208 {j0 : Int32} : evG TB (d + 1) 208 [.int j0] A = exG TB d 208 0 [some (.int j0)] [] A := evG_eq TB d 208 _ A
theorem x_208_0  : exG TB d 208 0 (some (.int i1) :: r9) st A = exG TB d 208 1 (some (.int i1) :: r9) (.int i1 :: st) A := x_nx (op := o_iload 0 1) rfl rfl
theorem x_208_1  : exG TB d 208 1 L (.int i1 :: st) A = exG TB d 208 2 L (.long i1.toInt64 :: st) A := x_nx (op := o_i2l) rfl rfl
theorem x_208_2  : exG TB d 208 2 L st A = exG TB d 208 3 L (.long 0 :: st) A := x_nx (op := o_push 1 (.long 0)) rfl rfl
theorem x_208_3  : exG TB d 208 3 L st A = exG TB d 208 6 L (.long 200000 :: st) A := x_nx (op := o_push 3 (.long 200000)) rfl rfl
theorem x_208_6  : exG TB d 208 6 L [b2, b1, b0] A = kc (evG TB d 165 [b0, b1, b2] A) d 208 9 L [] := x_cv (op := o_cs 165 3 false none) rfl rfl x_noh rfl
theorem x_208_9  : exG TB d 208 9 L [v] A = ck (okv 5 v) (some (.inl (some v), A)) := x_outg (op := o_ret 5) rfl rfl
theorem e_209 {j1 : Int32} : evG TB (d + 1) 209 [.ref p, .int j1] A = exG TB d 209 0 [some (.ref p), some (.int j1), none, none] [] A := evG_eq TB d 209 _ A
theorem x_209_0  : exG TB d 209 0 (a0 :: some (.int i1) :: r9) st A = exG TB d 209 1 (a0 :: some (.int i1) :: r9) (.int i1 :: st) A := x_nx (op := o_iload 1 1) rfl rfl
theorem x_209_1  : exG TB d 209 1 L [b0] A = kc (evG TB d 208 [b0] A) d 209 4 L [] := x_cv (op := o_cs 208 1 false none) rfl rfl x_noh rfl
theorem x_209_4  : exG TB d 209 4 L [b0] A = kc0 (evG TB d 172 [b0] A) d 209 7 L [] := x_c0 (op := o_cs 172 1 true none) rfl rfl x_noh rfl
theorem x_209_7  : exG TB d 209 7 L st A = exG TB d 209 8 L (.int (nI 0) :: st) A := x_nx (op := o_push 1 (.int 0)) rfl rfl
theorem x_209_8  : exG TB d 209 8 (a0 :: a1 :: a2 :: r9) (.int i1 :: st) A = exG TB d 209 9 (a0 :: a1 :: some (.int i1) :: r9) st A := x_nx (op := o_istore 2 1) rfl rfl
theorem x_209_9  : exG TB d 209 9 L st A = exG TB d 209 10 L (.int (nI 0) :: st) A := x_nx (op := o_push 1 (.int 0)) rfl rfl
theorem x_209_10  : exG TB d 209 10 (a0 :: a1 :: a2 :: a3 :: r9) (.int i1 :: st) A = exG TB d 209 11 (a0 :: a1 :: a2 :: some (.int i1) :: r9) st A := x_nx (op := o_istore 3 1) rfl rfl
theorem x_209_11  : exG TB d 209 11 (a0 :: a1 :: a2 :: some (.int i1) :: r9) st A = exG TB d 209 12 (a0 :: a1 :: a2 :: some (.int i1) :: r9) (.int i1 :: st) A := x_nx (op := o_iload 3 1) rfl rfl
theorem x_209_12  : exG TB d 209 12 (some v :: r9) st A = rg v (exG TB d 209 13 (some v :: r9) (v :: st) A) := x_rg (op := o_aload 0 1) rfl rfl
theorem x_209_13  : exG TB d 209 13 L (.ref p :: st) A = kv (gf A p 0) d 209 16 L st A := x_bd (op := o_get 0) rfl rfl (fun _ => rfl)
theorem x_209_16  : exG TB d 209 16 L (.ref p :: st) A = kv (gf A p 10) d 209 19 L st A := x_bd (op := o_get 10) rfl rfl (fun _ => rfl)
theorem x_209_19  : exG TB d 209 19 L [.ref p, w0] A = kw (sel (gc A p) [(3, 42)]) [.ref p] d 209 22 L [w0] A := x_cvb (op := o_cv [(3, 42)] 0 3 false none) rfl rfl x_noh rfl
theorem x_209_22  : exG TB d 209 22 L (.int i2 :: .int i1 :: st) A = if i2 ≤ i1 then exG TB d 209 43 L st A else exG TB d 209 25 L st A := x_if (op := o_icmp (fun x y => decide (y ≤ x)) 43) rfl rfl rfl
theorem x_209_25  : exG TB d 209 25 (a0 :: a1 :: some (.int i1) :: r9) st A = exG TB d 209 26 (a0 :: a1 :: some (.int i1) :: r9) (.int i1 :: st) A := x_nx (op := o_iload 2 1) rfl rfl
theorem x_209_26  : exG TB d 209 26 (some v :: r9) st A = rg v (exG TB d 209 27 (some v :: r9) (v :: st) A) := x_rg (op := o_aload 0 1) rfl rfl
theorem x_209_27  : exG TB d 209 27 L (.ref p :: st) A = kv (gf A p 0) d 209 30 L st A := x_bd (op := o_get 0) rfl rfl (fun _ => rfl)
theorem x_209_30  : exG TB d 209 30 (a0 :: a1 :: a2 :: some (.int i1) :: r9) st A = exG TB d 209 31 (a0 :: a1 :: a2 :: some (.int i1) :: r9) (.int i1 :: st) A := x_nx (op := o_iload 3 1) rfl rfl
theorem x_209_31  : exG TB d 209 31 (a0 :: some (.int i1) :: r9) st A = exG TB d 209 32 (a0 :: some (.int i1) :: r9) (.int i1 :: st) A := x_nx (op := o_iload 1 1) rfl rfl
theorem x_209_32  : exG TB d 209 32 L [b1, b0, .ref p, w0] A = kw (sel (gc A p) [(1, 265)]) [.ref p, b0, b1] d 209 35 L [w0] A := x_cvb (op := o_cv [(1, 265)] 2 3 false none) rfl rfl x_noh rfl
theorem x_209_35  : exG TB d 209 35 L (.int i2 :: .int i1 :: st) A = exG TB d 209 36 L (.int (i1 + i2) :: st) A := x_nx (op := o_iop (fun x y => x + y)) rfl rfl
theorem x_209_36  : exG TB d 209 36 (a0 :: a1 :: a2 :: r9) (.int i1 :: st) A = exG TB d 209 37 (a0 :: a1 :: some (.int i1) :: r9) st A := x_nx (op := o_istore 2 1) rfl rfl
theorem x_209_37  : exG TB d 209 37 (a0 :: a1 :: a2 :: some (.int i1) :: r9) st A = exG TB d 209 40 (a0 :: a1 :: a2 :: some (.int (i1 + (nI 1))) :: r9) st A := x_nx (op := o_iinc 3 1) rfl rfl
theorem x_209_40  : exG TB d 209 40 L st A = exG TB d 209 11 L st A := x_nx (op := o_goto 11) rfl rfl
theorem x_209_43  : exG TB d 209 43 (a0 :: a1 :: some (.int i1) :: r9) st A = exG TB d 209 44 (a0 :: a1 :: some (.int i1) :: r9) (.int i1 :: st) A := x_nx (op := o_iload 2 1) rfl rfl
theorem x_209_44  : exG TB d 209 44 L [v] A = ck (okv 1 v) (some (.inl (some v), A)) := x_outg (op := o_ret 1) rfl rfl
theorem e_210 {j1 : Int32} {j2 : Int32} : evG TB (d + 1) 210 [.ref p, .int j1, .int j2] A = exG TB d 210 0 [some (.ref p), some (.int j1), some (.int j2), none] [] A := evG_eq TB d 210 _ A
theorem x_210_0  : exG TB d 210 0 (some v :: r9) st A = rg v (exG TB d 210 1 (some v :: r9) (v :: st) A) := x_rg (op := o_aload 0 1) rfl rfl
theorem x_210_1  : exG TB d 210 1 (a0 :: some (.int i1) :: r9) st A = exG TB d 210 2 (a0 :: some (.int i1) :: r9) (.int i1 :: st) A := x_nx (op := o_iload 1 1) rfl rfl
theorem x_210_2  : exG TB d 210 2 L [b0, .ref p] A = kw (sel (gc A p) [(0, 188)]) [.ref p, b0] d 210 5 L [] A := x_cvb (op := o_cv [(0, 188)] 1 3 false none) rfl rfl x_noh rfl
theorem x_210_5  : exG TB d 210 5 (a0 :: a1 :: a2 :: a3 :: r9) (v :: st) A = rg v (exG TB d 210 6 (a0 :: a1 :: a2 :: some v :: r9) st A) := x_rgt (op := o_astore 3 1) rfl rfl
theorem x_210_6  : exG TB d 210 6 (a0 :: a1 :: some (.int i1) :: r9) st A = exG TB d 210 7 (a0 :: a1 :: some (.int i1) :: r9) (.int i1 :: st) A := x_nx (op := o_iload 2 1) rfl rfl
theorem x_210_7  : exG TB d 210 7 L [b0] A = kc (evG TB d 208 [b0] A) d 210 10 L [] := x_cv (op := o_cs 208 1 false none) rfl rfl x_noh rfl
theorem x_210_10  : exG TB d 210 10 L [b0] A = kc0 (evG TB d 172 [b0] A) d 210 13 L [] := x_c0 (op := o_cs 172 1 true none) rfl rfl x_noh rfl
theorem x_210_13  : exG TB d 210 13 (some v :: r9) st A = rg v (exG TB d 210 14 (some v :: r9) (v :: st) A) := x_rg (op := o_aload 0 1) rfl rfl
theorem x_210_14  : exG TB d 210 14 L (.ref p :: st) A = kv (gf A p 0) d 210 17 L st A := x_bd (op := o_get 0) rfl rfl (fun _ => rfl)
theorem x_210_17  : exG TB d 210 17 (a0 :: some (.int i1) :: r9) st A = exG TB d 210 18 (a0 :: some (.int i1) :: r9) (.int i1 :: st) A := x_nx (op := o_iload 1 1) rfl rfl
theorem x_210_18  : exG TB d 210 18 (a0 :: a1 :: some (.int i1) :: r9) st A = exG TB d 210 19 (a0 :: a1 :: some (.int i1) :: r9) (.int i1 :: st) A := x_nx (op := o_iload 2 1) rfl rfl
theorem x_210_19  : exG TB d 210 19 L [b1, b0, .ref p] A = kw (sel (gc A p) [(1, 272)]) [.ref p, b0, b1] d 210 22 L [] A := x_cvb (op := o_cv [(1, 272)] 2 3 false none) rfl rfl x_noh rfl
theorem x_210_22  : exG TB d 210 22 L [v] A = ck (okv 1 v) (some (.inl (some v), A)) := x_outg (op := o_ret 1) rfl rfl
theorem e_211 {j1 : Int32} {j2 : Int32} : evG TB (d + 1) 211 [.ref p, .int j1, .int j2] A = exG TB d 211 0 [some (.ref p), some (.int j1), some (.int j2), none] [] A := evG_eq TB d 211 _ A
theorem x_211_0  : exG TB d 211 0 (some v :: r9) st A = rg v (exG TB d 211 1 (some v :: r9) (v :: st) A) := x_rg (op := o_aload 0 1) rfl rfl
theorem x_211_1  : exG TB d 211 1 (a0 :: some (.int i1) :: r9) st A = exG TB d 211 2 (a0 :: some (.int i1) :: r9) (.int i1 :: st) A := x_nx (op := o_iload 1 1) rfl rfl
theorem x_211_2  : exG TB d 211 2 L [b0, .ref p] A = kw (sel (gc A p) [(0, 212)]) [.ref p, b0] d 211 5 L [] A := x_cvb (op := o_cv [(0, 212)] 1 3 false none) rfl rfl x_noh rfl
theorem x_211_5  : exG TB d 211 5 (a0 :: a1 :: a2 :: a3 :: r9) (v :: st) A = rg v (exG TB d 211 6 (a0 :: a1 :: a2 :: some v :: r9) st A) := x_rgt (op := o_astore 3 1) rfl rfl
theorem x_211_6  : exG TB d 211 6 (a0 :: a1 :: some (.int i1) :: r9) st A = exG TB d 211 7 (a0 :: a1 :: some (.int i1) :: r9) (.int i1 :: st) A := x_nx (op := o_iload 2 1) rfl rfl
theorem x_211_7  : exG TB d 211 7 L (.int i1 :: st) A = exG TB d 211 8 L (.long i1.toInt64 :: st) A := x_nx (op := o_i2l) rfl rfl
theorem x_211_8  : exG TB d 211 8 L st A = exG TB d 211 9 L (.long 0 :: st) A := x_nx (op := o_push 1 (.long 0)) rfl rfl
theorem x_211_9  : exG TB d 211 9 L st A = exG TB d 211 12 L (.long 12 :: st) A := x_nx (op := o_push 3 (.long 12)) rfl rfl
theorem x_211_12  : exG TB d 211 12 L [b2, b1, b0] A = kc (evG TB d 165 [b0, b1, b2] A) d 211 15 L [] := x_cv (op := o_cs 165 3 false none) rfl rfl x_noh rfl
theorem x_211_15  : exG TB d 211 15 L [b0] A = kc0 (evG TB d 172 [b0] A) d 211 18 L [] := x_c0 (op := o_cs 172 1 true none) rfl rfl x_noh rfl
theorem x_211_18  : exG TB d 211 18 (a0 :: a1 :: some (.int i1) :: r9) st A = exG TB d 211 19 (a0 :: a1 :: some (.int i1) :: r9) (.int i1 :: st) A := x_nx (op := o_iload 2 1) rfl rfl
theorem x_211_19  : exG TB d 211 19 L (.int i1 :: st) A = exG TB d 211 (swt 0 [80, 85, 90, 95, 100, 105, 110, 118, 126, 137, 145, 156] 161 i1) L st A := x_nx (op := o_sw (swt 0 [80, 85, 90, 95, 100, 105, 110, 118, 126, 137, 145, 156] 161)) rfl rfl
theorem x_211_80  : exG TB d 211 80 (a0 :: a1 :: a2 :: some v :: r9) st A = rg v (exG TB d 211 81 (a0 :: a1 :: a2 :: some v :: r9) (v :: st) A) := x_rg (op := o_aload 3 1) rfl rfl
theorem x_211_81  : exG TB d 211 81 L (.ref p :: st) A = kv (gf A p 133) d 211 84 L st A := x_bd (op := o_get 133) rfl rfl (fun _ => rfl)
theorem x_211_84  : exG TB d 211 84 L [v] A = ck (okv 1 v) (some (.inl (some v), A)) := x_outg (op := o_ret 1) rfl rfl
theorem x_211_85  : exG TB d 211 85 (a0 :: a1 :: a2 :: some v :: r9) st A = rg v (exG TB d 211 86 (a0 :: a1 :: a2 :: some v :: r9) (v :: st) A) := x_rg (op := o_aload 3 1) rfl rfl
theorem x_211_86  : exG TB d 211 86 L (.ref p :: st) A = kv (gf A p 134) d 211 89 L st A := x_bd (op := o_get 134) rfl rfl (fun _ => rfl)
theorem x_211_89  : exG TB d 211 89 L [v] A = ck (okv 1 v) (some (.inl (some v), A)) := x_outg (op := o_ret 1) rfl rfl
theorem x_211_90  : exG TB d 211 90 (a0 :: a1 :: a2 :: some v :: r9) st A = rg v (exG TB d 211 91 (a0 :: a1 :: a2 :: some v :: r9) (v :: st) A) := x_rg (op := o_aload 3 1) rfl rfl
theorem x_211_91  : exG TB d 211 91 L (.ref p :: st) A = kv (gf A p 135) d 211 94 L st A := x_bd (op := o_get 135) rfl rfl (fun _ => rfl)
theorem x_211_94  : exG TB d 211 94 L [v] A = ck (okv 1 v) (some (.inl (some v), A)) := x_outg (op := o_ret 1) rfl rfl
theorem x_211_95  : exG TB d 211 95 (a0 :: a1 :: a2 :: some v :: r9) st A = rg v (exG TB d 211 96 (a0 :: a1 :: a2 :: some v :: r9) (v :: st) A) := x_rg (op := o_aload 3 1) rfl rfl
theorem x_211_96  : exG TB d 211 96 L (.ref p :: st) A = kv (gf A p 136) d 211 99 L st A := x_bd (op := o_get 136) rfl rfl (fun _ => rfl)
theorem x_211_99  : exG TB d 211 99 L [v] A = ck (okv 1 v) (some (.inl (some v), A)) := x_outg (op := o_ret 1) rfl rfl
theorem x_211_100  : exG TB d 211 100 (a0 :: a1 :: a2 :: some v :: r9) st A = rg v (exG TB d 211 101 (a0 :: a1 :: a2 :: some v :: r9) (v :: st) A) := x_rg (op := o_aload 3 1) rfl rfl
theorem x_211_101  : exG TB d 211 101 L [.ref p] A = kw (sel (gc A p) [(27, 250)]) [.ref p] d 211 104 L [] A := x_cvb (op := o_cv [(27, 250)] 0 3 false none) rfl rfl x_noh rfl
theorem x_211_104  : exG TB d 211 104 L [v] A = ck (okv 1 v) (some (.inl (some v), A)) := x_outg (op := o_ret 1) rfl rfl
theorem x_211_105  : exG TB d 211 105 (a0 :: a1 :: a2 :: some v :: r9) st A = rg v (exG TB d 211 106 (a0 :: a1 :: a2 :: some v :: r9) (v :: st) A) := x_rg (op := o_aload 3 1) rfl rfl
theorem x_211_106  : exG TB d 211 106 L (.ref p :: st) A = kv (gf A p 138) d 211 109 L st A := x_bd (op := o_get 138) rfl rfl (fun _ => rfl)
theorem x_211_109  : exG TB d 211 109 L [v] A = ck (okv 1 v) (some (.inl (some v), A)) := x_outg (op := o_ret 1) rfl rfl
theorem x_211_110  : exG TB d 211 110 (a0 :: a1 :: a2 :: some v :: r9) st A = rg v (exG TB d 211 111 (a0 :: a1 :: a2 :: some v :: r9) (v :: st) A) := x_rg (op := o_aload 3 1) rfl rfl
theorem x_211_111  : exG TB d 211 111 L (.ref p :: st) A = kv (gf A p 140) d 211 114 L st A := x_bd (op := o_get 140) rfl rfl (fun _ => rfl)
theorem x_211_114  : exG TB d 211 114 L [.ref p] A = kw (sel (gc A p) [(26, 244)]) [.ref p] d 211 117 L [] A := x_cvb (op := o_cv [(26, 244)] 0 3 false none) rfl rfl x_noh rfl
theorem x_211_117  : exG TB d 211 117 L [v] A = ck (okv 1 v) (some (.inl (some v), A)) := x_outg (op := o_ret 1) rfl rfl
theorem x_211_118  : exG TB d 211 118 (a0 :: a1 :: a2 :: some v :: r9) st A = rg v (exG TB d 211 119 (a0 :: a1 :: a2 :: some v :: r9) (v :: st) A) := x_rg (op := o_aload 3 1) rfl rfl
theorem x_211_119  : exG TB d 211 119 L (.ref p :: st) A = kv (gf A p 140) d 211 122 L st A := x_bd (op := o_get 140) rfl rfl (fun _ => rfl)
theorem x_211_122  : exG TB d 211 122 L [.ref p] A = kw (sel (gc A p) [(26, 245)]) [.ref p] d 211 125 L [] A := x_cvb (op := o_cv [(26, 245)] 0 3 false none) rfl rfl x_noh rfl
theorem x_211_125  : exG TB d 211 125 L [v] A = ck (okv 1 v) (some (.inl (some v), A)) := x_outg (op := o_ret 1) rfl rfl
theorem x_211_126  : exG TB d 211 126 (a0 :: a1 :: a2 :: some v :: r9) st A = rg v (exG TB d 211 127 (a0 :: a1 :: a2 :: some v :: r9) (v :: st) A) := x_rg (op := o_aload 3 1) rfl rfl
theorem x_211_127  : exG TB d 211 127 L (.ref p :: st) A = kv (gf A p 140) d 211 130 L st A := x_bd (op := o_get 140) rfl rfl (fun _ => rfl)
theorem x_211_130  : exG TB d 211 130 L (.ref p :: st) A = kv (gf A p 128) d 211 133 L st A := x_bd (op := o_get 128) rfl rfl (fun _ => rfl)
theorem x_211_133  : exG TB d 211 133 L [.ref p] A = kw (sel (gc A p) [(3, 42)]) [.ref p] d 211 136 L [] A := x_cvb (op := o_cv [(3, 42)] 0 3 false none) rfl rfl x_noh rfl
theorem x_211_136  : exG TB d 211 136 L [v] A = ck (okv 1 v) (some (.inl (some v), A)) := x_outg (op := o_ret 1) rfl rfl
theorem x_211_137  : exG TB d 211 137 (a0 :: a1 :: a2 :: some v :: r9) st A = rg v (exG TB d 211 138 (a0 :: a1 :: a2 :: some v :: r9) (v :: st) A) := x_rg (op := o_aload 3 1) rfl rfl
theorem x_211_138  : exG TB d 211 138 L (.ref p :: st) A = kv (gf A p 140) d 211 141 L st A := x_bd (op := o_get 140) rfl rfl (fun _ => rfl)
theorem x_211_141  : exG TB d 211 141 L (.ref p :: st) A = kv (gf A p 130) d 211 144 L st A := x_bd (op := o_get 130) rfl rfl (fun _ => rfl)
theorem x_211_144  : exG TB d 211 144 L [v] A = ck (okv 1 v) (some (.inl (some v), A)) := x_outg (op := o_ret 1) rfl rfl
theorem x_211_145  : exG TB d 211 145 (a0 :: a1 :: a2 :: some v :: r9) st A = rg v (exG TB d 211 146 (a0 :: a1 :: a2 :: some v :: r9) (v :: st) A) := x_rg (op := o_aload 3 1) rfl rfl
theorem x_211_146  : exG TB d 211 146 L (.ref p :: st) A = kv (gf A p 140) d 211 149 L st A := x_bd (op := o_get 140) rfl rfl (fun _ => rfl)
theorem x_211_149  : exG TB d 211 149 L (.ref p :: st) A = kv (gf A p 127) d 211 152 L st A := x_bd (op := o_get 127) rfl rfl (fun _ => rfl)
theorem x_211_152  : exG TB d 211 152 L [.ref p] A = kw (sel (gc A p) [(3, 42)]) [.ref p] d 211 155 L [] A := x_cvb (op := o_cv [(3, 42)] 0 3 false none) rfl rfl x_noh rfl
theorem x_211_155  : exG TB d 211 155 L [v] A = ck (okv 1 v) (some (.inl (some v), A)) := x_outg (op := o_ret 1) rfl rfl
theorem x_211_156  : exG TB d 211 156 (a0 :: a1 :: a2 :: some v :: r9) st A = rg v (exG TB d 211 157 (a0 :: a1 :: a2 :: some v :: r9) (v :: st) A) := x_rg (op := o_aload 3 1) rfl rfl
theorem x_211_157  : exG TB d 211 157 L (.ref p :: st) A = kv (gf A p 141) d 211 160 L st A := x_bd (op := o_get 141) rfl rfl (fun _ => rfl)
theorem x_211_160  : exG TB d 211 160 L [v] A = ck (okv 1 v) (some (.inl (some v), A)) := x_outg (op := o_ret 1) rfl rfl
theorem x_211_161  : exG TB d 211 161 (a0 :: a1 :: a2 :: some v :: r9) st A = rg v (exG TB d 211 162 (a0 :: a1 :: a2 :: some v :: r9) (v :: st) A) := x_rg (op := o_aload 3 1) rfl rfl
theorem x_211_162  : exG TB d 211 162 L (.ref p :: st) A = kv (gf A p 142) d 211 165 L st A := x_bd (op := o_get 142) rfl rfl (fun _ => rfl)
theorem x_211_165  : exG TB d 211 165 L [v] A = ck (okv 1 v) (some (.inl (some v), A)) := x_outg (op := o_ret 1) rfl rfl
theorem e_212 {j1 : Int32} : evG TB (d + 1) 212 [.ref p, .int j1] A = exG TB d 212 0 [some (.ref p), some (.int j1)] [] A := evG_eq TB d 212 _ A
theorem x_212_0  : exG TB d 212 0 (a0 :: some (.int i1) :: r9) st A = exG TB d 212 1 (a0 :: some (.int i1) :: r9) (.int i1 :: st) A := x_nx (op := o_iload 1 1) rfl rfl
theorem x_212_1  : exG TB d 212 1 L (.int i1 :: st) A = exG TB d 212 2 L (.long i1.toInt64 :: st) A := x_nx (op := o_i2l) rfl rfl
theorem x_212_2  : exG TB d 212 2 L st A = exG TB d 212 3 L (.long 0 :: st) A := x_nx (op := o_push 1 (.long 0)) rfl rfl
theorem x_212_3  : exG TB d 212 3 (some v :: r9) st A = rg v (exG TB d 212 4 (some v :: r9) (v :: st) A) := x_rg (op := o_aload 0 1) rfl rfl
theorem x_212_4  : exG TB d 212 4 L (.ref p :: st) A = kv (gf A p 0) d 212 7 L st A := x_bd (op := o_get 0) rfl rfl (fun _ => rfl)
theorem x_212_7  : exG TB d 212 7 L (.ref p :: st) A = kv (gf A p 12) d 212 10 L st A := x_bd (op := o_get 12) rfl rfl (fun _ => rfl)
theorem x_212_10  : exG TB d 212 10 L [.ref p, w0, w1] A = kw (sel (gc A p) [(3, 42)]) [.ref p] d 212 13 L [w0, w1] A := x_cvb (op := o_cv [(3, 42)] 0 3 false none) rfl rfl x_noh rfl
theorem x_212_13  : exG TB d 212 13 L st A = exG TB d 212 14 L (.int (nI 1) :: st) A := x_nx (op := o_push 1 (.int 1)) rfl rfl
theorem x_212_14  : exG TB d 212 14 L (.int i2 :: .int i1 :: st) A = exG TB d 212 15 L (.int (i1 - i2) :: st) A := x_nx (op := o_iop (fun x y => x - y)) rfl rfl
theorem x_212_15  : exG TB d 212 15 L (.int i1 :: st) A = exG TB d 212 16 L (.long i1.toInt64 :: st) A := x_nx (op := o_i2l) rfl rfl
theorem x_212_16  : exG TB d 212 16 L [b2, b1, b0] A = kc (evG TB d 165 [b0, b1, b2] A) d 212 19 L [] := x_cv (op := o_cs 165 3 false none) rfl rfl x_noh rfl
theorem x_212_19  : exG TB d 212 19 L [b0] A = kc0 (evG TB d 176 [b0] A) d 212 22 L [] := x_c0 (op := o_cs 176 1 true none) rfl rfl x_noh rfl
theorem x_212_22  : exG TB d 212 22 (some v :: r9) st A = rg v (exG TB d 212 23 (some v :: r9) (v :: st) A) := x_rg (op := o_aload 0 1) rfl rfl
theorem x_212_23  : exG TB d 212 23 L (.ref p :: st) A = kv (gf A p 0) d 212 26 L st A := x_bd (op := o_get 0) rfl rfl (fun _ => rfl)
theorem x_212_26  : exG TB d 212 26 L (.ref p :: st) A = kv (gf A p 12) d 212 29 L st A := x_bd (op := o_get 12) rfl rfl (fun _ => rfl)
theorem x_212_29  : exG TB d 212 29 (a0 :: some (.int i1) :: r9) st A = exG TB d 212 30 (a0 :: some (.int i1) :: r9) (.int i1 :: st) A := x_nx (op := o_iload 1 1) rfl rfl
theorem x_212_30  : exG TB d 212 30 L [b0, .ref p] A = kw (sel (gc A p) [(3, 47)]) [.ref p, b0] d 212 33 L [] A := x_cvb (op := o_cv [(3, 47)] 1 3 false none) rfl rfl x_noh rfl
theorem x_212_33n  : exG TB d 212 33 L (.null :: st) A = exG TB d 212 36 L (.null :: st) A := x_nx (op := o_cast [27]) rfl rfl
theorem x_212_33r  : exG TB d 212 33 L (.ref p :: st) A = ck (cin (gcs A p) [27]) (exG TB d 212 36 L (.ref p :: st) A) := x_gd (op := o_cast [27]) rfl rfl
theorem x_212_36  : exG TB d 212 36 L [v] A = ck (okv 0 v) (some (.inl (some v), A)) := x_outg (op := o_ret 0) rfl rfl
theorem e_213 {j1 : Int32} {j2 : Int32} : evG TB (d + 1) 213 [.ref p, .int j1, .int j2] A = exG TB d 213 0 [some (.ref p), some (.int j1), some (.int j2), none] [] A := evG_eq TB d 213 _ A
theorem x_213_0  : exG TB d 213 0 (some v :: r9) st A = rg v (exG TB d 213 1 (some v :: r9) (v :: st) A) := x_rg (op := o_aload 0 1) rfl rfl
theorem x_213_1  : exG TB d 213 1 (a0 :: some (.int i1) :: r9) st A = exG TB d 213 2 (a0 :: some (.int i1) :: r9) (.int i1 :: st) A := x_nx (op := o_iload 1 1) rfl rfl
theorem x_213_2  : exG TB d 213 2 L [b0, .ref p] A = kw (sel (gc A p) [(0, 212)]) [.ref p, b0] d 213 5 L [] A := x_cvb (op := o_cv [(0, 212)] 1 3 false none) rfl rfl x_noh rfl
theorem x_213_5  : exG TB d 213 5 (a0 :: a1 :: a2 :: a3 :: r9) (v :: st) A = rg v (exG TB d 213 6 (a0 :: a1 :: a2 :: some v :: r9) st A) := x_rgt (op := o_astore 3 1) rfl rfl
theorem x_213_6  : exG TB d 213 6 (a0 :: a1 :: some (.int i1) :: r9) st A = exG TB d 213 7 (a0 :: a1 :: some (.int i1) :: r9) (.int i1 :: st) A := x_nx (op := o_iload 2 1) rfl rfl
theorem x_213_7  : exG TB d 213 7 L (.int i1 :: st) A = exG TB d 213 8 L (.long i1.toInt64 :: st) A := x_nx (op := o_i2l) rfl rfl
theorem x_213_8  : exG TB d 213 8 L st A = exG TB d 213 9 L (.long 0 :: st) A := x_nx (op := o_push 1 (.long 0)) rfl rfl
theorem x_213_9  : exG TB d 213 9 (a0 :: a1 :: a2 :: some v :: r9) st A = rg v (exG TB d 213 10 (a0 :: a1 :: a2 :: some v :: r9) (v :: st) A) := x_rg (op := o_aload 3 1) rfl rfl
theorem x_213_10  : exG TB d 213 10 L (.ref p :: st) A = kv (gf A p 140) d 213 13 L st A := x_bd (op := o_get 140) rfl rfl (fun _ => rfl)
theorem x_213_13  : exG TB d 213 13 L (.ref p :: st) A = kv (gf A p 128) d 213 16 L st A := x_bd (op := o_get 128) rfl rfl (fun _ => rfl)
theorem x_213_16  : exG TB d 213 16 L [.ref p, w0, w1] A = kw (sel (gc A p) [(3, 42)]) [.ref p] d 213 19 L [w0, w1] A := x_cvb (op := o_cv [(3, 42)] 0 3 false none) rfl rfl x_noh rfl
theorem x_213_19  : exG TB d 213 19 L st A = exG TB d 213 20 L (.int (nI 1) :: st) A := x_nx (op := o_push 1 (.int 1)) rfl rfl
theorem x_213_20  : exG TB d 213 20 L (.int i2 :: .int i1 :: st) A = exG TB d 213 21 L (.int (i1 - i2) :: st) A := x_nx (op := o_iop (fun x y => x - y)) rfl rfl
theorem x_213_21  : exG TB d 213 21 L (.int i1 :: st) A = exG TB d 213 22 L (.long i1.toInt64 :: st) A := x_nx (op := o_i2l) rfl rfl
theorem x_213_22  : exG TB d 213 22 L [b2, b1, b0] A = kc (evG TB d 165 [b0, b1, b2] A) d 213 25 L [] := x_cv (op := o_cs 165 3 false none) rfl rfl x_noh rfl
theorem x_213_25  : exG TB d 213 25 L [b0] A = kc0 (evG TB d 176 [b0] A) d 213 28 L [] := x_c0 (op := o_cs 176 1 true none) rfl rfl x_noh rfl
theorem x_213_28  : exG TB d 213 28 (a0 :: a1 :: a2 :: some v :: r9) st A = rg v (exG TB d 213 29 (a0 :: a1 :: a2 :: some v :: r9) (v :: st) A) := x_rg (op := o_aload 3 1) rfl rfl
theorem x_213_29  : exG TB d 213 29 L (.ref p :: st) A = kv (gf A p 140) d 213 32 L st A := x_bd (op := o_get 140) rfl rfl (fun _ => rfl)
theorem x_213_32  : exG TB d 213 32 L (.ref p :: st) A = kv (gf A p 128) d 213 35 L st A := x_bd (op := o_get 128) rfl rfl (fun _ => rfl)
theorem x_213_35  : exG TB d 213 35 (a0 :: a1 :: some (.int i1) :: r9) st A = exG TB d 213 36 (a0 :: a1 :: some (.int i1) :: r9) (.int i1 :: st) A := x_nx (op := o_iload 2 1) rfl rfl
theorem x_213_36  : exG TB d 213 36 L [b0, .ref p] A = kw (sel (gc A p) [(3, 47)]) [.ref p, b0] d 213 39 L [] A := x_cvb (op := o_cv [(3, 47)] 1 3 false none) rfl rfl x_noh rfl
theorem x_213_39n  : exG TB d 213 39 L (.null :: st) A = exG TB d 213 42 L (.null :: st) A := x_nx (op := o_cast [21]) rfl rfl
theorem x_213_39r  : exG TB d 213 39 L (.ref p :: st) A = ck (cin (gcs A p) [21]) (exG TB d 213 42 L (.ref p :: st) A) := x_gd (op := o_cast [21]) rfl rfl
theorem x_213_42  : exG TB d 213 42 L [.ref p] A = kw (sel (gcs A p) [(21, 21)]) [.ref p] d 213 45 L [] A := x_cvb (op := o_cvs [(21, 21)] 0 3 false) rfl rfl x_noh rfl
theorem x_213_45  : exG TB d 213 45 L [v] A = ck (okv 1 v) (some (.inl (some v), A)) := x_outg (op := o_ret 1) rfl rfl
theorem e_214 {j1 : Int32} {j2 : Int32} : evG TB (d + 1) 214 [.ref p, .int j1, .int j2] A = exG TB d 214 0 [some (.ref p), some (.int j1), some (.int j2), none] [] A := evG_eq TB d 214 _ A
theorem x_214_0  : exG TB d 214 0 (some v :: r9) st A = rg v (exG TB d 214 1 (some v :: r9) (v :: st) A) := x_rg (op := o_aload 0 1) rfl rfl
theorem x_214_1  : exG TB d 214 1 (a0 :: some (.int i1) :: r9) st A = exG TB d 214 2 (a0 :: some (.int i1) :: r9) (.int i1 :: st) A := x_nx (op := o_iload 1 1) rfl rfl
theorem x_214_2  : exG TB d 214 2 L [b0, .ref p] A = kw (sel (gc A p) [(0, 212)]) [.ref p, b0] d 214 5 L [] A := x_cvb (op := o_cv [(0, 212)] 1 3 false none) rfl rfl x_noh rfl
theorem x_214_5  : exG TB d 214 5 (a0 :: a1 :: a2 :: a3 :: r9) (v :: st) A = rg v (exG TB d 214 6 (a0 :: a1 :: a2 :: some v :: r9) st A) := x_rgt (op := o_astore 3 1) rfl rfl
theorem x_214_6  : exG TB d 214 6 (a0 :: a1 :: some (.int i1) :: r9) st A = exG TB d 214 7 (a0 :: a1 :: some (.int i1) :: r9) (.int i1 :: st) A := x_nx (op := o_iload 2 1) rfl rfl
theorem x_214_7  : exG TB d 214 7 L (.int i1 :: st) A = exG TB d 214 8 L (.long i1.toInt64 :: st) A := x_nx (op := o_i2l) rfl rfl
theorem x_214_8  : exG TB d 214 8 L st A = exG TB d 214 9 L (.long 0 :: st) A := x_nx (op := o_push 1 (.long 0)) rfl rfl
theorem x_214_9  : exG TB d 214 9 L st A = exG TB d 214 12 L (.long 2 :: st) A := x_nx (op := o_push 3 (.long 2)) rfl rfl
theorem x_214_12  : exG TB d 214 12 L [b2, b1, b0] A = kc (evG TB d 165 [b0, b1, b2] A) d 214 15 L [] := x_cv (op := o_cs 165 3 false none) rfl rfl x_noh rfl
theorem x_214_15  : exG TB d 214 15 L [b0] A = kc0 (evG TB d 172 [b0] A) d 214 18 L [] := x_c0 (op := o_cs 172 1 true none) rfl rfl x_noh rfl
theorem x_214_18  : exG TB d 214 18 (a0 :: a1 :: a2 :: some v :: r9) st A = rg v (exG TB d 214 19 (a0 :: a1 :: a2 :: some v :: r9) (v :: st) A) := x_rg (op := o_aload 3 1) rfl rfl
theorem x_214_19  : exG TB d 214 19 L (.ref p :: st) A = kv (gf A p 141) d 214 22 L st A := x_bd (op := o_get 141) rfl rfl (fun _ => rfl)
theorem x_214_22  : exG TB d 214 22 L (.int i1 :: st) A = if ¬ i1 = nI 0 then exG TB d 214 29 L st A else exG TB d 214 25 L st A := x_if (op := o_if (fun x => decide (¬ x = 0)) 29) rfl rfl rfl
theorem x_214_25  : exG TB d 214 25 L st A = exG TB d 214 26 L (.int (nI 1) :: st) A := x_nx (op := o_push 1 (.int 1)) rfl rfl
theorem x_214_26  : exG TB d 214 26 L st A = exG TB d 214 30 L st A := x_nx (op := o_goto 30) rfl rfl
theorem x_214_29  : exG TB d 214 29 L st A = exG TB d 214 30 L (.int (nI 0) :: st) A := x_nx (op := o_push 1 (.int 0)) rfl rfl
theorem x_214_30  : exG TB d 214 30 L [b0] A = kc0 (evG TB d 170 [b0] A) d 214 33 L [] := x_c0 (op := o_cs 170 1 true none) rfl rfl x_noh rfl
theorem x_214_33  : exG TB d 214 33 (some v :: r9) st A = rg v (exG TB d 214 34 (some v :: r9) (v :: st) A) := x_rg (op := o_aload 0 1) rfl rfl
theorem x_214_34  : exG TB d 214 34 L (.ref p :: st) A = kv (gf A p 0) d 214 37 L st A := x_bd (op := o_get 0) rfl rfl (fun _ => rfl)
theorem x_214_37  : exG TB d 214 37 (a0 :: a1 :: a2 :: some v :: r9) st A = rg v (exG TB d 214 38 (a0 :: a1 :: a2 :: some v :: r9) (v :: st) A) := x_rg (op := o_aload 3 1) rfl rfl
theorem x_214_38  : exG TB d 214 38 (a0 :: a1 :: some (.int i1) :: r9) st A = exG TB d 214 39 (a0 :: a1 :: some (.int i1) :: r9) (.int i1 :: st) A := x_nx (op := o_iload 2 1) rfl rfl
theorem x_214_39  : exG TB d 214 39 L [b1, b0, .ref p] A = kw (sel (gc A p) [(1, 273)]) [.ref p, b0, b1] d 214 42 L [] A := x_cvb (op := o_cv [(1, 273)] 2 3 false none) rfl rfl x_noh rfl
theorem x_214_42  : exG TB d 214 42 L [v] A = ck (okv 1 v) (some (.inl (some v), A)) := x_outg (op := o_ret 1) rfl rfl
theorem e_215 {j1 : Int32} : evG TB (d + 1) 215 [.ref p, .int j1] A = exG TB d 215 0 [some (.ref p), some (.int j1), none, none, none] [] A := evG_eq TB d 215 _ A
theorem x_215_0  : exG TB d 215 0 (a0 :: some (.int i1) :: r9) st A = exG TB d 215 1 (a0 :: some (.int i1) :: r9) (.int i1 :: st) A := x_nx (op := o_iload 1 1) rfl rfl
theorem x_215_1  : exG TB d 215 1 L (.int i1 :: st) A = exG TB d 215 2 L (.long i1.toInt64 :: st) A := x_nx (op := o_i2l) rfl rfl
theorem x_215_2  : exG TB d 215 2 L st A = exG TB d 215 3 L (.long 0 :: st) A := x_nx (op := o_push 1 (.long 0)) rfl rfl
theorem x_215_3  : exG TB d 215 3 L st A = exG TB d 215 6 L (.long 2 :: st) A := x_nx (op := o_push 3 (.long 2)) rfl rfl
theorem x_215_6  : exG TB d 215 6 L [b2, b1, b0] A = kc (evG TB d 165 [b0, b1, b2] A) d 215 9 L [] := x_cv (op := o_cs 165 3 false none) rfl rfl x_noh rfl
theorem x_215_9  : exG TB d 215 9 L [b0] A = kc0 (evG TB d 172 [b0] A) d 215 12 L [] := x_c0 (op := o_cs 172 1 true none) rfl rfl x_noh rfl
theorem x_215_12  : exG TB d 215 12 L st A = exG TB d 215 13 L (.int (nI 0) :: st) A := x_nx (op := o_push 1 (.int 0)) rfl rfl
theorem x_215_13  : exG TB d 215 13 (a0 :: a1 :: a2 :: r9) (.int i1 :: st) A = exG TB d 215 14 (a0 :: a1 :: some (.int i1) :: r9) st A := x_nx (op := o_istore 2 1) rfl rfl
theorem x_215_14  : exG TB d 215 14 (some v :: r9) st A = rg v (exG TB d 215 15 (some v :: r9) (v :: st) A) := x_rg (op := o_aload 0 1) rfl rfl
theorem x_215_15  : exG TB d 215 15 L (.ref p :: st) A = kv (gf A p 0) d 215 18 L st A := x_bd (op := o_get 0) rfl rfl (fun _ => rfl)
theorem x_215_18  : exG TB d 215 18 L (.ref p :: st) A = kv (gf A p 12) d 215 21 L st A := x_bd (op := o_get 12) rfl rfl (fun _ => rfl)
theorem x_215_21  : exG TB d 215 21 L [.ref p] A = kw (sel (gc A p) [(3, 40)]) [.ref p] d 215 24 L [] A := x_cvb (op := o_cv [(3, 40)] 0 3 false none) rfl rfl x_noh rfl
theorem x_215_24  : exG TB d 215 24 (a0 :: a1 :: a2 :: a3 :: r9) (v :: st) A = rg v (exG TB d 215 25 (a0 :: a1 :: a2 :: some v :: r9) st A) := x_rgt (op := o_astore 3 1) rfl rfl
theorem x_215_25  : exG TB d 215 25 (a0 :: a1 :: a2 :: some v :: r9) st A = rg v (exG TB d 215 26 (a0 :: a1 :: a2 :: some v :: r9) (v :: st) A) := x_rg (op := o_aload 3 1) rfl rfl
theorem x_215_26  : exG TB d 215 26 L [.ref p] A = kw (sel (gc A p) [(7, 50), (24, 86), (25, 92)]) [.ref p] d 215 31 L [] A := x_cvb (op := o_cv [(7, 50), (24, 86), (25, 92)] 0 5 false none) rfl rfl x_noh rfl
theorem x_215_31  : exG TB d 215 31 L (.int i1 :: st) A = if i1 = nI 0 then exG TB d 215 77 L st A else exG TB d 215 34 L st A := x_if (op := o_if (fun x => decide (x = 0)) 77) rfl rfl rfl
theorem x_215_34  : exG TB d 215 34 (a0 :: a1 :: a2 :: some v :: r9) st A = rg v (exG TB d 215 35 (a0 :: a1 :: a2 :: some v :: r9) (v :: st) A) := x_rg (op := o_aload 3 1) rfl rfl
theorem x_215_35  : exG TB d 215 35 L [.ref p] A = kw (sel (gc A p) [(7, 51), (24, 89), (25, 95)]) [.ref p] d 215 40 L [] A := x_cvb (op := o_cv [(7, 51), (24, 89), (25, 95)] 0 5 false none) rfl rfl x_noh rfl
theorem x_215_40n  : exG TB d 215 40 L (.null :: st) A = exG TB d 215 43 L (.null :: st) A := x_nx (op := o_cast [27]) rfl rfl
theorem x_215_40r  : exG TB d 215 40 L (.ref p :: st) A = ck (cin (gcs A p) [27]) (exG TB d 215 43 L (.ref p :: st) A) := x_gd (op := o_cast [27]) rfl rfl
theorem x_215_43  : exG TB d 215 43 (a0 :: a1 :: a2 :: a3 :: a4 :: r9) (v :: st) A = rg v (exG TB d 215 45 (a0 :: a1 :: a2 :: a3 :: some v :: r9) st A) := x_rgt (op := o_astore 4 2) rfl rfl
theorem x_215_45  : exG TB d 215 45 (a0 :: a1 :: some (.int i1) :: r9) st A = exG TB d 215 46 (a0 :: a1 :: some (.int i1) :: r9) (.int i1 :: st) A := x_nx (op := o_iload 2 1) rfl rfl
theorem x_215_46  : exG TB d 215 46 (a0 :: a1 :: a2 :: a3 :: some v :: r9) st A = rg v (exG TB d 215 48 (a0 :: a1 :: a2 :: a3 :: some v :: r9) (v :: st) A) := x_rg (op := o_aload 4 2) rfl rfl
theorem x_215_48  : exG TB d 215 48 L (.ref p :: st) A = kv (gf A p 141) d 215 51 L st A := x_bd (op := o_get 141) rfl rfl (fun _ => rfl)
theorem x_215_51  : exG TB d 215 51 L (.int i1 :: st) A = if ¬ i1 = nI 0 then exG TB d 215 71 L st A else exG TB d 215 54 L st A := x_if (op := o_if (fun x => decide (¬ x = 0)) 71) rfl rfl rfl
theorem x_215_54  : exG TB d 215 54 (some v :: r9) st A = rg v (exG TB d 215 55 (some v :: r9) (v :: st) A) := x_rg (op := o_aload 0 1) rfl rfl
theorem x_215_55  : exG TB d 215 55 L (.ref p :: st) A = kv (gf A p 0) d 215 58 L st A := x_bd (op := o_get 0) rfl rfl (fun _ => rfl)
theorem x_215_58  : exG TB d 215 58 (a0 :: a1 :: a2 :: a3 :: some v :: r9) st A = rg v (exG TB d 215 60 (a0 :: a1 :: a2 :: a3 :: some v :: r9) (v :: st) A) := x_rg (op := o_aload 4 2) rfl rfl
theorem x_215_60  : exG TB d 215 60 (a0 :: some (.int i1) :: r9) st A = exG TB d 215 61 (a0 :: some (.int i1) :: r9) (.int i1 :: st) A := x_nx (op := o_iload 1 1) rfl rfl
theorem x_215_61  : exG TB d 215 61 L [b1, b0, .ref p, w0] A = kw (sel (gc A p) [(1, 274)]) [.ref p, b0, b1] d 215 64 L [w0] A := x_cvb (op := o_cv [(1, 274)] 2 3 false none) rfl rfl x_noh rfl
theorem x_215_64  : exG TB d 215 64 L (.int i1 :: st) A = if i1 ≤ nI 0 then exG TB d 215 71 L st A else exG TB d 215 67 L st A := x_if (op := o_if (fun x => decide (x ≤ 0)) 71) rfl rfl rfl
theorem x_215_67  : exG TB d 215 67 L st A = exG TB d 215 68 L (.int (nI 1) :: st) A := x_nx (op := o_push 1 (.int 1)) rfl rfl
theorem x_215_68  : exG TB d 215 68 L st A = exG TB d 215 72 L st A := x_nx (op := o_goto 72) rfl rfl
theorem x_215_71  : exG TB d 215 71 L st A = exG TB d 215 72 L (.int (nI 0) :: st) A := x_nx (op := o_push 1 (.int 0)) rfl rfl
theorem x_215_72  : exG TB d 215 72 L (.int i2 :: .int i1 :: st) A = exG TB d 215 73 L (.int (i1 + i2) :: st) A := x_nx (op := o_iop (fun x y => x + y)) rfl rfl
theorem x_215_73  : exG TB d 215 73 (a0 :: a1 :: a2 :: r9) (.int i1 :: st) A = exG TB d 215 74 (a0 :: a1 :: some (.int i1) :: r9) st A := x_nx (op := o_istore 2 1) rfl rfl
theorem x_215_74  : exG TB d 215 74 L st A = exG TB d 215 25 L st A := x_nx (op := o_goto 25) rfl rfl
theorem x_215_77  : exG TB d 215 77 (a0 :: a1 :: some (.int i1) :: r9) st A = exG TB d 215 78 (a0 :: a1 :: some (.int i1) :: r9) (.int i1 :: st) A := x_nx (op := o_iload 2 1) rfl rfl
theorem x_215_78  : exG TB d 215 78 L [v] A = ck (okv 1 v) (some (.inl (some v), A)) := x_outg (op := o_ret 1) rfl rfl
theorem e_216 {j1 : Int32} {j2 : Int32} : evG TB (d + 1) 216 [.ref p, .int j1, .int j2] A = exG TB d 216 0 [some (.ref p), some (.int j1), some (.int j2)] [] A := evG_eq TB d 216 _ A
theorem x_216_0  : exG TB d 216 0 (some v :: r9) st A = rg v (exG TB d 216 1 (some v :: r9) (v :: st) A) := x_rg (op := o_aload 0 1) rfl rfl
theorem x_216_1  : exG TB d 216 1 (a0 :: some (.int i1) :: r9) st A = exG TB d 216 2 (a0 :: some (.int i1) :: r9) (.int i1 :: st) A := x_nx (op := o_iload 1 1) rfl rfl
theorem x_216_2  : exG TB d 216 2 L [b0, .ref p] A = kw0 (sel (gc A p) [(0, 175)]) [.ref p, b0] d 216 5 L [] A := x_c0b (op := o_cv [(0, 175)] 1 3 true none) rfl rfl x_noh rfl
theorem x_216_5  : exG TB d 216 5 (a0 :: a1 :: some (.int i1) :: r9) st A = exG TB d 216 6 (a0 :: a1 :: some (.int i1) :: r9) (.int i1 :: st) A := x_nx (op := o_iload 2 1) rfl rfl
theorem x_216_6  : exG TB d 216 6 L (.int i1 :: st) A = exG TB d 216 7 L (.long i1.toInt64 :: st) A := x_nx (op := o_i2l) rfl rfl
theorem x_216_7  : exG TB d 216 7 L st A = exG TB d 216 8 L (.long 0 :: st) A := x_nx (op := o_push 1 (.long 0)) rfl rfl
theorem x_216_8  : exG TB d 216 8 L st A = exG TB d 216 11 L (.long 3 :: st) A := x_nx (op := o_push 3 (.long 3)) rfl rfl
theorem x_216_11  : exG TB d 216 11 L [b2, b1, b0] A = kc (evG TB d 165 [b0, b1, b2] A) d 216 14 L [] := x_cv (op := o_cs 165 3 false none) rfl rfl x_noh rfl
theorem x_216_14  : exG TB d 216 14 L [b0] A = kc0 (evG TB d 172 [b0] A) d 216 17 L [] := x_c0 (op := o_cs 172 1 true none) rfl rfl x_noh rfl
theorem x_216_17  : exG TB d 216 17 (a0 :: a1 :: some (.int i1) :: r9) st A = exG TB d 216 18 (a0 :: a1 :: some (.int i1) :: r9) (.int i1 :: st) A := x_nx (op := o_iload 2 1) rfl rfl
theorem x_216_18  : exG TB d 216 18 L (.int i1 :: st) A = exG TB d 216 (swt 0 [44, 57, 63] 69 i1) L st A := x_nx (op := o_sw (swt 0 [44, 57, 63] 69)) rfl rfl
theorem x_216_44  : exG TB d 216 44 (some v :: r9) st A = rg v (exG TB d 216 45 (some v :: r9) (v :: st) A) := x_rg (op := o_aload 0 1) rfl rfl
theorem x_216_45  : exG TB d 216 45 L (.ref p :: st) A = kv (gf A p 0) d 216 48 L st A := x_bd (op := o_get 0) rfl rfl (fun _ => rfl)
theorem x_216_48  : exG TB d 216 48 L (.ref p :: st) A = kv (gf A p 6) d 216 51 L st A := x_bd (op := o_get 6) rfl rfl (fun _ => rfl)
theorem x_216_51  : exG TB d 216 51 L (.ref p :: st) A = kv (gf A p 14) d 216 54 L st A := x_bd (op := o_get 14) rfl rfl (fun _ => rfl)
theorem x_216_54  : exG TB d 216 54 (a0 :: some (.int i1) :: r9) st A = exG TB d 216 55 (a0 :: some (.int i1) :: r9) (.int i1 :: st) A := x_nx (op := o_iload 1 1) rfl rfl
theorem x_216_55  : exG TB d 216 55 L (.int i1 :: .ref p :: st) A = ki (rdI 0 (ga A p) i1) d 216 56 L st A := x_bd (op := o_rdI 0) rfl rfl (fun _ => rfl)
theorem x_216_56  : exG TB d 216 56 L [v] A = ck (okv 1 v) (some (.inl (some v), A)) := x_outg (op := o_ret 1) rfl rfl
theorem x_216_57  : exG TB d 216 57 (some v :: r9) st A = rg v (exG TB d 216 58 (some v :: r9) (v :: st) A) := x_rg (op := o_aload 0 1) rfl rfl
theorem x_216_58  : exG TB d 216 58 (a0 :: some (.int i1) :: r9) st A = exG TB d 216 59 (a0 :: some (.int i1) :: r9) (.int i1 :: st) A := x_nx (op := o_iload 1 1) rfl rfl
theorem x_216_59  : exG TB d 216 59 L [b0, .ref p] A = kw (sel (gc A p) [(0, 217)]) [.ref p, b0] d 216 62 L [] A := x_cvb (op := o_cv [(0, 217)] 1 3 false none) rfl rfl x_noh rfl
theorem x_216_62  : exG TB d 216 62 L [v] A = ck (okv 1 v) (some (.inl (some v), A)) := x_outg (op := o_ret 1) rfl rfl
theorem x_216_63  : exG TB d 216 63 (some v :: r9) st A = rg v (exG TB d 216 64 (some v :: r9) (v :: st) A) := x_rg (op := o_aload 0 1) rfl rfl
theorem x_216_64  : exG TB d 216 64 (a0 :: some (.int i1) :: r9) st A = exG TB d 216 65 (a0 :: some (.int i1) :: r9) (.int i1 :: st) A := x_nx (op := o_iload 1 1) rfl rfl
theorem x_216_65  : exG TB d 216 65 L [b0, .ref p] A = kw (sel (gc A p) [(0, 218)]) [.ref p, b0] d 216 68 L [] A := x_cvb (op := o_cv [(0, 218)] 1 3 false none) rfl rfl x_noh rfl
theorem x_216_68  : exG TB d 216 68 L [v] A = ck (okv 1 v) (some (.inl (some v), A)) := x_outg (op := o_ret 1) rfl rfl
theorem x_216_69  : exG TB d 216 69 (some v :: r9) st A = rg v (exG TB d 216 70 (some v :: r9) (v :: st) A) := x_rg (op := o_aload 0 1) rfl rfl
theorem x_216_70  : exG TB d 216 70 L (.ref p :: st) A = kv (gf A p 0) d 216 73 L st A := x_bd (op := o_get 0) rfl rfl (fun _ => rfl)
theorem x_216_73  : exG TB d 216 73 (a0 :: some (.int i1) :: r9) st A = exG TB d 216 74 (a0 :: some (.int i1) :: r9) (.int i1 :: st) A := x_nx (op := o_iload 1 1) rfl rfl
theorem x_216_74  : exG TB d 216 74 L st A = exG TB d 216 75 L (.int (nI 1) :: st) A := x_nx (op := o_push 1 (.int 1)) rfl rfl
theorem x_216_75  : exG TB d 216 75 L [b1, b0, .ref p] A = kw (sel (gc A p) [(1, 257)]) [.ref p, b0, b1] d 216 78 L [] A := x_cvb (op := o_cv [(1, 257)] 2 3 false none) rfl rfl x_noh rfl
theorem x_216_78  : exG TB d 216 78 L [v] A = ck (okv 1 v) (some (.inl (some v), A)) := x_outg (op := o_ret 1) rfl rfl
theorem e_217 {j1 : Int32} : evG TB (d + 1) 217 [.ref p, .int j1] A = exG TB d 217 0 [some (.ref p), some (.int j1), none, none, none] [] A := evG_eq TB d 217 _ A
theorem x_217_0  : exG TB d 217 0 L st A = exG TB d 217 1 L (.int (nI 0) :: st) A := x_nx (op := o_push 1 (.int 0)) rfl rfl
theorem x_217_1  : exG TB d 217 1 (a0 :: a1 :: a2 :: r9) (.int i1 :: st) A = exG TB d 217 2 (a0 :: a1 :: some (.int i1) :: r9) st A := x_nx (op := o_istore 2 1) rfl rfl
theorem x_217_2  : exG TB d 217 2 (some v :: r9) st A = rg v (exG TB d 217 3 (some v :: r9) (v :: st) A) := x_rg (op := o_aload 0 1) rfl rfl
theorem x_217_3  : exG TB d 217 3 L (.ref p :: st) A = kv (gf A p 0) d 217 6 L st A := x_bd (op := o_get 0) rfl rfl (fun _ => rfl)
theorem x_217_6  : exG TB d 217 6 L (.ref p :: st) A = kv (gf A p 11) d 217 9 L st A := x_bd (op := o_get 11) rfl rfl (fun _ => rfl)
theorem x_217_9  : exG TB d 217 9 L [.ref p] A = kw (sel (gc A p) [(3, 40)]) [.ref p] d 217 12 L [] A := x_cvb (op := o_cv [(3, 40)] 0 3 false none) rfl rfl x_noh rfl
theorem x_217_12  : exG TB d 217 12 (a0 :: a1 :: a2 :: a3 :: r9) (v :: st) A = rg v (exG TB d 217 13 (a0 :: a1 :: a2 :: some v :: r9) st A) := x_rgt (op := o_astore 3 1) rfl rfl
theorem x_217_13  : exG TB d 217 13 (a0 :: a1 :: a2 :: some v :: r9) st A = rg v (exG TB d 217 14 (a0 :: a1 :: a2 :: some v :: r9) (v :: st) A) := x_rg (op := o_aload 3 1) rfl rfl
theorem x_217_14  : exG TB d 217 14 L [.ref p] A = kw (sel (gc A p) [(7, 50), (24, 86), (25, 92)]) [.ref p] d 217 19 L [] A := x_cvb (op := o_cv [(7, 50), (24, 86), (25, 92)] 0 5 false none) rfl rfl x_noh rfl
theorem x_217_19  : exG TB d 217 19 L (.int i1 :: st) A = if i1 = nI 0 then exG TB d 217 71 L st A else exG TB d 217 22 L st A := x_if (op := o_if (fun x => decide (x = 0)) 71) rfl rfl rfl
theorem x_217_22  : exG TB d 217 22 (a0 :: a1 :: a2 :: some v :: r9) st A = rg v (exG TB d 217 23 (a0 :: a1 :: a2 :: some v :: r9) (v :: st) A) := x_rg (op := o_aload 3 1) rfl rfl
theorem x_217_23  : exG TB d 217 23 L [.ref p] A = kw (sel (gc A p) [(7, 51), (24, 89), (25, 95)]) [.ref p] d 217 28 L [] A := x_cvb (op := o_cv [(7, 51), (24, 89), (25, 95)] 0 5 false none) rfl rfl x_noh rfl
theorem x_217_28n  : exG TB d 217 28 L (.null :: st) A = exG TB d 217 31 L (.null :: st) A := x_nx (op := o_cast [17]) rfl rfl
theorem x_217_28r  : exG TB d 217 28 L (.ref p :: st) A = ck (cin (gcs A p) [17]) (exG TB d 217 31 L (.ref p :: st) A) := x_gd (op := o_cast [17]) rfl rfl
theorem x_217_31  : exG TB d 217 31 (a0 :: a1 :: a2 :: a3 :: a4 :: r9) (v :: st) A = rg v (exG TB d 217 33 (a0 :: a1 :: a2 :: a3 :: some v :: r9) st A) := x_rgt (op := o_astore 4 2) rfl rfl
theorem x_217_33  : exG TB d 217 33 (a0 :: a1 :: some (.int i1) :: r9) st A = exG TB d 217 34 (a0 :: a1 :: some (.int i1) :: r9) (.int i1 :: st) A := x_nx (op := o_iload 2 1) rfl rfl
theorem x_217_34  : exG TB d 217 34 (a0 :: a1 :: a2 :: a3 :: some v :: r9) st A = rg v (exG TB d 217 36 (a0 :: a1 :: a2 :: a3 :: some v :: r9) (v :: st) A) := x_rg (op := o_aload 4 2) rfl rfl
theorem x_217_36  : exG TB d 217 36 L (.ref p :: st) A = kv (gf A p 90) d 217 39 L st A := x_bd (op := o_get 90) rfl rfl (fun _ => rfl)
theorem x_217_39  : exG TB d 217 39 (a0 :: some (.int i1) :: r9) st A = exG TB d 217 40 (a0 :: some (.int i1) :: r9) (.int i1 :: st) A := x_nx (op := o_iload 1 1) rfl rfl
theorem x_217_40  : exG TB d 217 40 L (.int i2 :: .int i1 :: st) A = if ¬ i1 = i2 then exG TB d 217 65 L st A else exG TB d 217 43 L st A := x_if (op := o_icmp (fun x y => decide (¬ x = y)) 65) rfl rfl rfl
theorem x_217_43  : exG TB d 217 43 (a0 :: a1 :: a2 :: a3 :: some v :: r9) st A = rg v (exG TB d 217 45 (a0 :: a1 :: a2 :: a3 :: some v :: r9) (v :: st) A) := x_rg (op := o_aload 4 2) rfl rfl
theorem x_217_45  : exG TB d 217 45 L (.ref p :: st) A = kv (gf A p 95) d 217 48 L st A := x_bd (op := o_get 95) rfl rfl (fun _ => rfl)
theorem x_217_48  : exG TB d 217 48 L st A = exG TB d 217 49 L (.int (nI 1) :: st) A := x_nx (op := o_push 1 (.int 1)) rfl rfl
theorem x_217_49  : exG TB d 217 49 L (.int i2 :: .int i1 :: st) A = if i1 = i2 then exG TB d 217 61 L st A else exG TB d 217 52 L st A := x_if (op := o_icmp (fun x y => decide (x = y)) 61) rfl rfl rfl
theorem x_217_52  : exG TB d 217 52 (a0 :: a1 :: a2 :: a3 :: some v :: r9) st A = rg v (exG TB d 217 54 (a0 :: a1 :: a2 :: a3 :: some v :: r9) (v :: st) A) := x_rg (op := o_aload 4 2) rfl rfl
theorem x_217_54  : exG TB d 217 54 L (.ref p :: st) A = kv (gf A p 95) d 217 57 L st A := x_bd (op := o_get 95) rfl rfl (fun _ => rfl)
theorem x_217_57  : exG TB d 217 57 L st A = exG TB d 217 58 L (.int (nI 3) :: st) A := x_nx (op := o_push 1 (.int 3)) rfl rfl
theorem x_217_58  : exG TB d 217 58 L (.int i2 :: .int i1 :: st) A = if ¬ i1 = i2 then exG TB d 217 65 L st A else exG TB d 217 61 L st A := x_if (op := o_icmp (fun x y => decide (¬ x = y)) 65) rfl rfl rfl
theorem x_217_61  : exG TB d 217 61 L st A = exG TB d 217 62 L (.int (nI 1) :: st) A := x_nx (op := o_push 1 (.int 1)) rfl rfl
theorem x_217_62  : exG TB d 217 62 L st A = exG TB d 217 66 L st A := x_nx (op := o_goto 66) rfl rfl
theorem x_217_65  : exG TB d 217 65 L st A = exG TB d 217 66 L (.int (nI 0) :: st) A := x_nx (op := o_push 1 (.int 0)) rfl rfl
theorem x_217_66  : exG TB d 217 66 L (.int i2 :: .int i1 :: st) A = exG TB d 217 67 L (.int (i1 + i2) :: st) A := x_nx (op := o_iop (fun x y => x + y)) rfl rfl
theorem x_217_67  : exG TB d 217 67 (a0 :: a1 :: a2 :: r9) (.int i1 :: st) A = exG TB d 217 68 (a0 :: a1 :: some (.int i1) :: r9) st A := x_nx (op := o_istore 2 1) rfl rfl
theorem x_217_68  : exG TB d 217 68 L st A = exG TB d 217 13 L st A := x_nx (op := o_goto 13) rfl rfl
theorem x_217_71  : exG TB d 217 71 (a0 :: a1 :: some (.int i1) :: r9) st A = exG TB d 217 72 (a0 :: a1 :: some (.int i1) :: r9) (.int i1 :: st) A := x_nx (op := o_iload 2 1) rfl rfl
theorem x_217_72  : exG TB d 217 72 L [v] A = ck (okv 1 v) (some (.inl (some v), A)) := x_outg (op := o_ret 1) rfl rfl
theorem e_218 {j1 : Int32} : evG TB (d + 1) 218 [.ref p, .int j1] A = exG TB d 218 0 [some (.ref p), some (.int j1)] [] A := evG_eq TB d 218 _ A
theorem x_218_0  : exG TB d 218 0 (some v :: r9) st A = rg v (exG TB d 218 1 (some v :: r9) (v :: st) A) := x_rg (op := o_aload 0 1) rfl rfl
theorem x_218_1  : exG TB d 218 1 L (.ref p :: st) A = kv (gf A p 0) d 218 4 L st A := x_bd (op := o_get 0) rfl rfl (fun _ => rfl)
theorem x_218_4  : exG TB d 218 4 (a0 :: some (.int i1) :: r9) st A = exG TB d 218 5 (a0 :: some (.int i1) :: r9) (.int i1 :: st) A := x_nx (op := o_iload 1 1) rfl rfl
theorem x_218_5  : exG TB d 218 5 L st A = exG TB d 218 6 L (.int (nI 1) :: st) A := x_nx (op := o_push 1 (.int 1)) rfl rfl
theorem x_218_6  : exG TB d 218 6 L [b1, b0, .ref p] A = kw (sel (gc A p) [(1, 257)]) [.ref p, b0, b1] d 218 9 L [] A := x_cvb (op := o_cv [(1, 257)] 2 3 false none) rfl rfl x_noh rfl
theorem x_218_9  : exG TB d 218 9 (some v :: r9) st A = rg v (exG TB d 218 10 (some v :: r9) (v :: st) A) := x_rg (op := o_aload 0 1) rfl rfl
theorem x_218_10  : exG TB d 218 10 L (.ref p :: st) A = kv (gf A p 0) d 218 13 L st A := x_bd (op := o_get 0) rfl rfl (fun _ => rfl)
theorem x_218_13  : exG TB d 218 13 (a0 :: some (.int i1) :: r9) st A = exG TB d 218 14 (a0 :: some (.int i1) :: r9) (.int i1 :: st) A := x_nx (op := o_iload 1 1) rfl rfl
theorem x_218_14  : exG TB d 218 14 L st A = exG TB d 218 15 L (.int (nI 0) :: st) A := x_nx (op := o_push 1 (.int 0)) rfl rfl
theorem x_218_15  : exG TB d 218 15 L [b1, b0, .ref p, w0] A = kw (sel (gc A p) [(1, 257)]) [.ref p, b0, b1] d 218 18 L [w0] A := x_cvb (op := o_cv [(1, 257)] 2 3 false none) rfl rfl x_noh rfl
theorem x_218_18  : exG TB d 218 18 L (.int i2 :: .int i1 :: st) A = exG TB d 218 19 L (.int (i1 + i2) :: st) A := x_nx (op := o_iop (fun x y => x + y)) rfl rfl
theorem x_218_19  : exG TB d 218 19 L [v] A = ck (okv 1 v) (some (.inl (some v), A)) := x_outg (op := o_ret 1) rfl rfl
theorem e_219 {j1 : Int32} : evG TB (d + 1) 219 [.ref p, .int j1] A = exG TB d 219 0 [some (.ref p), some (.int j1), none] [] A := evG_eq TB d 219 _ A
theorem x_219_0  : exG TB d 219 0 (some v :: r9) st A = rg v (exG TB d 219 1 (some v :: r9) (v :: st) A) := x_rg (op := o_aload 0 1) rfl rfl
theorem x_219_1  : exG TB d 219 1 (a0 :: some (.int i1) :: r9) st A = exG TB d 219 2 (a0 :: some (.int i1) :: r9) (.int i1 :: st) A := x_nx (op := o_iload 1 1) rfl rfl
theorem x_219_2  : exG TB d 219 2 L [b0, .ref p] A = kw0 (sel (gc A p) [(0, 175)]) [.ref p, b0] d 219 5 L [] A := x_c0b (op := o_cv [(0, 175)] 1 3 true none) rfl rfl x_noh rfl
theorem x_219_5  : exG TB d 219 5 (some v :: r9) st A = rg v (exG TB d 219 6 (some v :: r9) (v :: st) A) := x_rg (op := o_aload 0 1) rfl rfl
theorem x_219_6  : exG TB d 219 6 (a0 :: some (.int i1) :: r9) st A = exG TB d 219 7 (a0 :: some (.int i1) :: r9) (.int i1 :: st) A := x_nx (op := o_iload 1 1) rfl rfl
theorem x_219_7  : exG TB d 219 7 L [b0, .ref p] A = kw (sel (gc A p) [(0, 218)]) [.ref p, b0] d 219 10 L [] A := x_cvb (op := o_cv [(0, 218)] 1 3 false none) rfl rfl x_noh rfl
theorem x_219_10  : exG TB d 219 10 (a0 :: a1 :: a2 :: r9) (.int i1 :: st) A = exG TB d 219 11 (a0 :: a1 :: some (.int i1) :: r9) st A := x_nx (op := o_istore 2 1) rfl rfl
theorem x_219_11  : exG TB d 219 11 (a0 :: a1 :: some (.int i1) :: r9) st A = exG TB d 219 12 (a0 :: a1 :: some (.int i1) :: r9) (.int i1 :: st) A := x_nx (op := o_iload 2 1) rfl rfl
theorem x_219_12  : exG TB d 219 12 L (.int i1 :: st) A = if ¬ i1 = nI 0 then exG TB d 219 21 L st A else exG TB d 219 15 L st A := x_if (op := o_if (fun x => decide (¬ x = 0)) 21) rfl rfl rfl
theorem x_219_15  : exG TB d 219 15 L st A = exG TB d 219 18 L (.float 3212836864 :: st) A := x_nx (op := o_push 3 (.float 3212836864)) rfl rfl
theorem x_219_18  : exG TB d 219 18 L st A = exG TB d 219 34 L st A := x_nx (op := o_goto 34) rfl rfl
theorem x_219_21  : exG TB d 219 21 (some v :: r9) st A = rg v (exG TB d 219 22 (some v :: r9) (v :: st) A) := x_rg (op := o_aload 0 1) rfl rfl
theorem x_219_22  : exG TB d 219 22 L (.ref p :: st) A = kv (gf A p 0) d 219 25 L st A := x_bd (op := o_get 0) rfl rfl (fun _ => rfl)
theorem x_219_25  : exG TB d 219 25 (a0 :: some (.int i1) :: r9) st A = exG TB d 219 26 (a0 :: some (.int i1) :: r9) (.int i1 :: st) A := x_nx (op := o_iload 1 1) rfl rfl
theorem x_219_26  : exG TB d 219 26 L st A = exG TB d 219 27 L (.int (nI 1) :: st) A := x_nx (op := o_push 1 (.int 1)) rfl rfl
theorem x_219_27  : exG TB d 219 27 L [b1, b0, .ref p] A = kw (sel (gc A p) [(1, 257)]) [.ref p, b0, b1] d 219 30 L [] A := x_cvb (op := o_cv [(1, 257)] 2 3 false none) rfl rfl x_noh rfl
theorem x_219_30  : exG TB d 219 30 L (.int i1 :: st) A = exG TB d 219 31 L (.float (FP.i2f i1) :: st) A := x_nx (op := o_i2f) rfl rfl
theorem x_219_31  : exG TB d 219 31 (a0 :: a1 :: some (.int i1) :: r9) st A = exG TB d 219 32 (a0 :: a1 :: some (.int i1) :: r9) (.int i1 :: st) A := x_nx (op := o_iload 2 1) rfl rfl
theorem x_219_32  : exG TB d 219 32 L (.int i1 :: st) A = exG TB d 219 33 L (.float (FP.i2f i1) :: st) A := x_nx (op := o_i2f) rfl rfl
theorem x_219_33  : exG TB d 219 33 L (.float f2 :: .float f1 :: st) A = ck (b_n32 (FP.fdiv f1 f2)) (exG TB d 219 34 L (.float (FP.fdiv f1 f2) :: st) A) := x_gd (op := o_fdiv) rfl rfl
theorem x_219_34  : exG TB d 219 34 L [v] A = ck (okv 3 v) (some (.inl (some v), A)) := x_outg (op := o_ret 3) rfl rfl
theorem e_220 {j1 : Int32} : evG TB (d + 1) 220 [.ref p, .int j1] A = exG TB d 220 0 [some (.ref p), some (.int j1)] [] A := evG_eq TB d 220 _ A
theorem x_220_0  : exG TB d 220 0 (a0 :: some (.int i1) :: r9) st A = exG TB d 220 1 (a0 :: some (.int i1) :: r9) (.int i1 :: st) A := x_nx (op := o_iload 1 1) rfl rfl
theorem x_220_1  : exG TB d 220 1 L (.int i1 :: st) A = exG TB d 220 2 L (.long i1.toInt64 :: st) A := x_nx (op := o_i2l) rfl rfl
theorem x_220_2  : exG TB d 220 2 L st A = exG TB d 220 3 L (.long 0 :: st) A := x_nx (op := o_push 1 (.long 0)) rfl rfl
theorem x_220_3  : exG TB d 220 3 L st A = exG TB d 220 4 L (.long 1 :: st) A := x_nx (op := o_push 1 (.long 1)) rfl rfl
theorem x_220_4  : exG TB d 220 4 L [b2, b1, b0] A = kc (evG TB d 165 [b0, b1, b2] A) d 220 7 L [] := x_cv (op := o_cs 165 3 false none) rfl rfl x_noh rfl
theorem x_220_7  : exG TB d 220 7 L [b0] A = kc0 (evG TB d 172 [b0] A) d 220 10 L [] := x_c0 (op := o_cs 172 1 true none) rfl rfl x_noh rfl
theorem x_220_10  : exG TB d 220 10 (some v :: r9) st A = rg v (exG TB d 220 11 (some v :: r9) (v :: st) A) := x_rg (op := o_aload 0 1) rfl rfl
theorem x_220_11  : exG TB d 220 11 L (.ref p :: st) A = kv (gf A p 1) d 220 14 L st A := x_bd (op := o_get 1) rfl rfl (fun _ => rfl)
theorem x_220_14  : exG TB d 220 14 (a0 :: some (.int i1) :: r9) st A = exG TB d 220 15 (a0 :: some (.int i1) :: r9) (.int i1 :: st) A := x_nx (op := o_iload 1 1) rfl rfl
theorem x_220_15  : exG TB d 220 15 (some v :: r9) st A = rg v (exG TB d 220 16 (some v :: r9) (v :: st) A) := x_rg (op := o_aload 0 1) rfl rfl
theorem x_220_16  : exG TB d 220 16 L (.ref p :: st) A = kv (gf A p 0) d 220 19 L st A := x_bd (op := o_get 0) rfl rfl (fun _ => rfl)
theorem x_220_19  : exG TB d 220 19 L [.ref p, w0, w1] A = kw (sel (gc A p) [(1, 278)]) [.ref p] d 220 22 L [w0, w1] A := x_cvb (op := o_cv [(1, 278)] 0 3 false none) rfl rfl x_noh rfl
theorem x_220_22r  : exG TB d 220 22 L (.ref q :: .int i1 :: .ref p :: st) A = ck (atag (ga A p) 8 && okq A [1] (.ref q)) (ka (wrQ (ga A p) i1 (some q)) p d 220 23 L st A) := x_gb (op := o_wrQ 8 [1]) rfl rfl (fun _ => rfl)
theorem x_220_22n  : exG TB d 220 22 L (.null :: .int i1 :: .ref p :: st) A = ck (atag (ga A p) 8 && okq A [1] (.null)) (ka (wrQ (ga A p) i1 none) p d 220 23 L st A) := x_gb (op := o_wrQ 8 [1]) rfl rfl (fun _ => rfl)
theorem x_220_23  : exG TB d 220 23 L [] A = some (.inl none, A) := x_out (op := o_vret) rfl rfl
theorem e_221 {j1 : Int32} : evG TB (d + 1) 221 [.ref p, .int j1] A = exG TB d 221 0 [some (.ref p), some (.int j1)] [] A := evG_eq TB d 221 _ A
theorem x_221_0  : exG TB d 221 0 (a0 :: some (.int i1) :: r9) st A = exG TB d 221 1 (a0 :: some (.int i1) :: r9) (.int i1 :: st) A := x_nx (op := o_iload 1 1) rfl rfl
theorem x_221_1  : exG TB d 221 1 L (.int i1 :: st) A = exG TB d 221 2 L (.long i1.toInt64 :: st) A := x_nx (op := o_i2l) rfl rfl
theorem x_221_2  : exG TB d 221 2 L st A = exG TB d 221 3 L (.long 0 :: st) A := x_nx (op := o_push 1 (.long 0)) rfl rfl
theorem x_221_3  : exG TB d 221 3 L st A = exG TB d 221 4 L (.long 1 :: st) A := x_nx (op := o_push 1 (.long 1)) rfl rfl
theorem x_221_4  : exG TB d 221 4 L [b2, b1, b0] A = kc (evG TB d 165 [b0, b1, b2] A) d 221 7 L [] := x_cv (op := o_cs 165 3 false none) rfl rfl x_noh rfl
theorem x_221_7  : exG TB d 221 7 L [b0] A = kc0 (evG TB d 172 [b0] A) d 221 10 L [] := x_c0 (op := o_cs 172 1 true none) rfl rfl x_noh rfl
theorem x_221_10  : exG TB d 221 10 (some v :: r9) st A = rg v (exG TB d 221 11 (some v :: r9) (v :: st) A) := x_rg (op := o_aload 0 1) rfl rfl
theorem x_221_11  : exG TB d 221 11 L (.ref p :: st) A = kv (gf A p 1) d 221 14 L st A := x_bd (op := o_get 1) rfl rfl (fun _ => rfl)
theorem x_221_14  : exG TB d 221 14 (a0 :: some (.int i1) :: r9) st A = exG TB d 221 15 (a0 :: some (.int i1) :: r9) (.int i1 :: st) A := x_nx (op := o_iload 1 1) rfl rfl
theorem x_221_15  : exG TB d 221 15 L (.int i1 :: .ref p :: st) A = kq (rdQ (ga A p) i1) d 221 16 L st A := x_bd (op := o_rdQ) rfl rfl (fun _ => rfl)
theorem x_221_16n  : exG TB d 221 16 L (.null :: st) A = exG TB d 221 23 L st A := x_nx (op := o_ifnull 23) rfl rfl
theorem x_221_16r  : exG TB d 221 16 L (.ref p :: st) A = exG TB d 221 19 L st A := x_nx (op := o_ifnull 23) rfl rfl
theorem x_221_19  : exG TB d 221 19 L st A = exG TB d 221 20 L (.int (nI 1) :: st) A := x_nx (op := o_push 1 (.int 1)) rfl rfl
theorem x_221_20  : exG TB d 221 20 L st A = exG TB d 221 24 L st A := x_nx (op := o_goto 24) rfl rfl
theorem x_221_23  : exG TB d 221 23 L st A = exG TB d 221 24 L (.int (nI 0) :: st) A := x_nx (op := o_push 1 (.int 0)) rfl rfl
theorem x_221_24  : exG TB d 221 24 L [b0] A = kc0 (evG TB d 170 [b0] A) d 221 27 L [] := x_c0 (op := o_cs 170 1 true none) rfl rfl x_noh rfl
theorem x_221_27  : exG TB d 221 27 (some v :: r9) st A = rg v (exG TB d 221 28 (some v :: r9) (v :: st) A) := x_rg (op := o_aload 0 1) rfl rfl
theorem x_221_28  : exG TB d 221 28 (some v :: r9) st A = rg v (exG TB d 221 29 (some v :: r9) (v :: st) A) := x_rg (op := o_aload 0 1) rfl rfl
theorem x_221_29  : exG TB d 221 29 L (.ref p :: st) A = kv (gf A p 1) d 221 32 L st A := x_bd (op := o_get 1) rfl rfl (fun _ => rfl)
theorem x_221_32  : exG TB d 221 32 (a0 :: some (.int i1) :: r9) st A = exG TB d 221 33 (a0 :: some (.int i1) :: r9) (.int i1 :: st) A := x_nx (op := o_iload 1 1) rfl rfl
theorem x_221_33  : exG TB d 221 33 L (.int i1 :: .ref p :: st) A = kq (rdQ (ga A p) i1) d 221 34 L st A := x_bd (op := o_rdQ) rfl rfl (fun _ => rfl)
theorem x_221_34  : exG TB d 221 34 L [.ref p, w0] A = kw (sel (gc A p) [(1, 278)]) [.ref p] d 221 37 L [w0] A := x_cvb (op := o_cv [(1, 278)] 0 3 false none) rfl rfl x_noh rfl
theorem x_221_37  : exG TB d 221 37 L (v :: .ref p :: st) A = ck ((gf A p 0).isSome && okv 0 v) (exG TB d 221 40 L st (setf A p 0 v)) := x_gd (op := o_put 0 0) rfl rfl
theorem x_221_40  : exG TB d 221 40 L [] A = some (.inl none, A) := x_out (op := o_vret) rfl rfl
theorem e_222 {j0 : Int32} : evG TB (d + 1) 222 [.int j0] A = exG TB d 222 0 [some (.int j0), none, none, none, none] [] A := evG_eq TB d 222 _ A
theorem x_222_0  : exG TB d 222 0 L st A = exG TB d 222 2 L (.int (nI 8) :: st) A := x_nx (op := o_push 2 (.int 8)) rfl rfl
theorem x_222_2  : exG TB d 222 2 L (.int i1 :: st) A = ck (okn i1) (exG TB d 222 4 L (.ref (nx A) :: st) (newa A (zar 0 i1.toNatClampNeg))) := x_gd (op := o_newa 0 2) rfl rfl
theorem x_222_4  : exG TB d 222 4 L (v :: st) A = ck (c1 v) (exG TB d 222 5 L (v :: v :: st) A) := x_gd (op := o_dup) rfl rfl
theorem x_222_5  : exG TB d 222 5 L st A = exG TB d 222 6 L (.int (nI 0) :: st) A := x_nx (op := o_push 1 (.int 0)) rfl rfl
theorem x_222_6  : exG TB d 222 6 L st A = exG TB d 222 7 L (.int (nI 1) :: st) A := x_nx (op := o_push 1 (.int 1)) rfl rfl
theorem x_222_7  : exG TB d 222 7 L (.int i2 :: .int i1 :: .ref p :: st) A = ka (wrI 0 (ga A p) i1 i2) p d 222 8 L st A := x_bd (op := o_wrI 0) rfl rfl (fun _ => rfl)
theorem x_222_8  : exG TB d 222 8 L (v :: st) A = ck (c1 v) (exG TB d 222 9 L (v :: v :: st) A) := x_gd (op := o_dup) rfl rfl
theorem x_222_9  : exG TB d 222 9 L st A = exG TB d 222 10 L (.int (nI 1) :: st) A := x_nx (op := o_push 1 (.int 1)) rfl rfl
theorem x_222_10  : exG TB d 222 10 L st A = exG TB d 222 11 L (.int (nI 0) :: st) A := x_nx (op := o_push 1 (.int 0)) rfl rfl
theorem x_222_11  : exG TB d 222 11 L (.int i2 :: .int i1 :: .ref p :: st) A = ka (wrI 0 (ga A p) i1 i2) p d 222 12 L st A := x_bd (op := o_wrI 0) rfl rfl (fun _ => rfl)
theorem x_222_12  : exG TB d 222 12 L (v :: st) A = ck (c1 v) (exG TB d 222 13 L (v :: v :: st) A) := x_gd (op := o_dup) rfl rfl
theorem x_222_13  : exG TB d 222 13 L st A = exG TB d 222 14 L (.int (nI 2) :: st) A := x_nx (op := o_push 1 (.int 2)) rfl rfl
theorem x_222_14  : exG TB d 222 14 L st A = exG TB d 222 15 L (.int (nI 0) :: st) A := x_nx (op := o_push 1 (.int 0)) rfl rfl
theorem x_222_15  : exG TB d 222 15 L (.int i2 :: .int i1 :: .ref p :: st) A = ka (wrI 0 (ga A p) i1 i2) p d 222 16 L st A := x_bd (op := o_wrI 0) rfl rfl (fun _ => rfl)
theorem x_222_16  : exG TB d 222 16 L (v :: st) A = ck (c1 v) (exG TB d 222 17 L (v :: v :: st) A) := x_gd (op := o_dup) rfl rfl
theorem x_222_17  : exG TB d 222 17 L st A = exG TB d 222 18 L (.int (nI 3) :: st) A := x_nx (op := o_push 1 (.int 3)) rfl rfl
theorem x_222_18  : exG TB d 222 18 L st A = exG TB d 222 20 L (.int (nI 50) :: st) A := x_nx (op := o_push 2 (.int 50)) rfl rfl
theorem x_222_20  : exG TB d 222 20 L (.int i2 :: .int i1 :: .ref p :: st) A = ka (wrI 0 (ga A p) i1 i2) p d 222 21 L st A := x_bd (op := o_wrI 0) rfl rfl (fun _ => rfl)
theorem x_222_21  : exG TB d 222 21 L (v :: st) A = ck (c1 v) (exG TB d 222 22 L (v :: v :: st) A) := x_gd (op := o_dup) rfl rfl
theorem x_222_22  : exG TB d 222 22 L st A = exG TB d 222 23 L (.int (nI 4) :: st) A := x_nx (op := o_push 1 (.int 4)) rfl rfl
theorem x_222_23  : exG TB d 222 23 L st A = exG TB d 222 24 L (.int (nI 0) :: st) A := x_nx (op := o_push 1 (.int 0)) rfl rfl
theorem x_222_24  : exG TB d 222 24 L (.int i2 :: .int i1 :: .ref p :: st) A = ka (wrI 0 (ga A p) i1 i2) p d 222 25 L st A := x_bd (op := o_wrI 0) rfl rfl (fun _ => rfl)
theorem x_222_25  : exG TB d 222 25 L (v :: st) A = ck (c1 v) (exG TB d 222 26 L (v :: v :: st) A) := x_gd (op := o_dup) rfl rfl
theorem x_222_26  : exG TB d 222 26 L st A = exG TB d 222 27 L (.int (nI 5) :: st) A := x_nx (op := o_push 1 (.int 5)) rfl rfl
theorem x_222_27  : exG TB d 222 27 L st A = exG TB d 222 28 L (.int (nI 0) :: st) A := x_nx (op := o_push 1 (.int 0)) rfl rfl
theorem x_222_28  : exG TB d 222 28 L (.int i2 :: .int i1 :: .ref p :: st) A = ka (wrI 0 (ga A p) i1 i2) p d 222 29 L st A := x_bd (op := o_wrI 0) rfl rfl (fun _ => rfl)
theorem x_222_29  : exG TB d 222 29 L (v :: st) A = ck (c1 v) (exG TB d 222 30 L (v :: v :: st) A) := x_gd (op := o_dup) rfl rfl
theorem x_222_30  : exG TB d 222 30 L st A = exG TB d 222 32 L (.int (nI 6) :: st) A := x_nx (op := o_push 2 (.int 6)) rfl rfl
theorem x_222_32  : exG TB d 222 32 L st A = exG TB d 222 33 L (.int (nI 0) :: st) A := x_nx (op := o_push 1 (.int 0)) rfl rfl
theorem x_222_33  : exG TB d 222 33 L (.int i2 :: .int i1 :: .ref p :: st) A = ka (wrI 0 (ga A p) i1 i2) p d 222 34 L st A := x_bd (op := o_wrI 0) rfl rfl (fun _ => rfl)
theorem x_222_34  : exG TB d 222 34 L (v :: st) A = ck (c1 v) (exG TB d 222 35 L (v :: v :: st) A) := x_gd (op := o_dup) rfl rfl
theorem x_222_35  : exG TB d 222 35 L st A = exG TB d 222 37 L (.int (nI 7) :: st) A := x_nx (op := o_push 2 (.int 7)) rfl rfl
theorem x_222_37  : exG TB d 222 37 L st A = exG TB d 222 38 L (.int (nI 0) :: st) A := x_nx (op := o_push 1 (.int 0)) rfl rfl
theorem x_222_38  : exG TB d 222 38 L (.int i2 :: .int i1 :: .ref p :: st) A = ka (wrI 0 (ga A p) i1 i2) p d 222 39 L st A := x_bd (op := o_wrI 0) rfl rfl (fun _ => rfl)
theorem x_222_39  : exG TB d 222 39 (a0 :: a1 :: r9) (v :: st) A = rg v (exG TB d 222 40 (a0 :: some v :: r9) st A) := x_rgt (op := o_astore 1 1) rfl rfl
theorem x_222_40  : exG TB d 222 40 L st A = exG TB d 222 42 L (.int (nI 8) :: st) A := x_nx (op := o_push 2 (.int 8)) rfl rfl
theorem x_222_42  : exG TB d 222 42 L (.int i1 :: st) A = ck (okn i1) (exG TB d 222 44 L (.ref (nx A) :: st) (newa A (zar 0 i1.toNatClampNeg))) := x_gd (op := o_newa 0 2) rfl rfl
theorem x_222_44  : exG TB d 222 44 L (v :: st) A = ck (c1 v) (exG TB d 222 45 L (v :: v :: st) A) := x_gd (op := o_dup) rfl rfl
theorem x_222_45  : exG TB d 222 45 L st A = exG TB d 222 46 L (.int (nI 0) :: st) A := x_nx (op := o_push 1 (.int 0)) rfl rfl
theorem x_222_46  : exG TB d 222 46 L st A = exG TB d 222 49 L (.int (nI 600) :: st) A := x_nx (op := o_push 3 (.int 600)) rfl rfl
theorem x_222_49  : exG TB d 222 49 L (.int i2 :: .int i1 :: .ref p :: st) A = ka (wrI 0 (ga A p) i1 i2) p d 222 50 L st A := x_bd (op := o_wrI 0) rfl rfl (fun _ => rfl)
theorem x_222_50  : exG TB d 222 50 L (v :: st) A = ck (c1 v) (exG TB d 222 51 L (v :: v :: st) A) := x_gd (op := o_dup) rfl rfl
theorem x_222_51  : exG TB d 222 51 L st A = exG TB d 222 52 L (.int (nI 1) :: st) A := x_nx (op := o_push 1 (.int 1)) rfl rfl
theorem x_222_52  : exG TB d 222 52 L st A = exG TB d 222 54 L (.int (nI 60) :: st) A := x_nx (op := o_push 2 (.int 60)) rfl rfl
theorem x_222_54  : exG TB d 222 54 L (.int i2 :: .int i1 :: .ref p :: st) A = ka (wrI 0 (ga A p) i1 i2) p d 222 55 L st A := x_bd (op := o_wrI 0) rfl rfl (fun _ => rfl)
theorem x_222_55  : exG TB d 222 55 L (v :: st) A = ck (c1 v) (exG TB d 222 56 L (v :: v :: st) A) := x_gd (op := o_dup) rfl rfl
theorem x_222_56  : exG TB d 222 56 L st A = exG TB d 222 57 L (.int (nI 2) :: st) A := x_nx (op := o_push 1 (.int 2)) rfl rfl
theorem x_222_57  : exG TB d 222 57 L st A = exG TB d 222 59 L (.int (nI 20) :: st) A := x_nx (op := o_push 2 (.int 20)) rfl rfl
theorem x_222_59  : exG TB d 222 59 L (.int i2 :: .int i1 :: .ref p :: st) A = ka (wrI 0 (ga A p) i1 i2) p d 222 60 L st A := x_bd (op := o_wrI 0) rfl rfl (fun _ => rfl)
theorem x_222_60  : exG TB d 222 60 L (v :: st) A = ck (c1 v) (exG TB d 222 61 L (v :: v :: st) A) := x_gd (op := o_dup) rfl rfl
theorem x_222_61  : exG TB d 222 61 L st A = exG TB d 222 62 L (.int (nI 3) :: st) A := x_nx (op := o_push 1 (.int 3)) rfl rfl
theorem x_222_62  : exG TB d 222 62 L st A = exG TB d 222 64 L (.int (nI 100) :: st) A := x_nx (op := o_push 2 (.int 100)) rfl rfl
theorem x_222_64  : exG TB d 222 64 L (.int i2 :: .int i1 :: .ref p :: st) A = ka (wrI 0 (ga A p) i1 i2) p d 222 65 L st A := x_bd (op := o_wrI 0) rfl rfl (fun _ => rfl)
theorem x_222_65  : exG TB d 222 65 L (v :: st) A = ck (c1 v) (exG TB d 222 66 L (v :: v :: st) A) := x_gd (op := o_dup) rfl rfl
theorem x_222_66  : exG TB d 222 66 L st A = exG TB d 222 67 L (.int (nI 4) :: st) A := x_nx (op := o_push 1 (.int 4)) rfl rfl
theorem x_222_67  : exG TB d 222 67 L st A = exG TB d 222 69 L (.int (nI 100) :: st) A := x_nx (op := o_push 2 (.int 100)) rfl rfl
theorem x_222_69  : exG TB d 222 69 L (.int i2 :: .int i1 :: .ref p :: st) A = ka (wrI 0 (ga A p) i1 i2) p d 222 70 L st A := x_bd (op := o_wrI 0) rfl rfl (fun _ => rfl)
theorem x_222_70  : exG TB d 222 70 L (v :: st) A = ck (c1 v) (exG TB d 222 71 L (v :: v :: st) A) := x_gd (op := o_dup) rfl rfl
theorem x_222_71  : exG TB d 222 71 L st A = exG TB d 222 72 L (.int (nI 5) :: st) A := x_nx (op := o_push 1 (.int 5)) rfl rfl
theorem x_222_72  : exG TB d 222 72 L st A = exG TB d 222 74 L (.int (nI 100) :: st) A := x_nx (op := o_push 2 (.int 100)) rfl rfl
theorem x_222_74  : exG TB d 222 74 L (.int i2 :: .int i1 :: .ref p :: st) A = ka (wrI 0 (ga A p) i1 i2) p d 222 75 L st A := x_bd (op := o_wrI 0) rfl rfl (fun _ => rfl)
theorem x_222_75  : exG TB d 222 75 L (v :: st) A = ck (c1 v) (exG TB d 222 76 L (v :: v :: st) A) := x_gd (op := o_dup) rfl rfl
theorem x_222_76  : exG TB d 222 76 L st A = exG TB d 222 78 L (.int (nI 6) :: st) A := x_nx (op := o_push 2 (.int 6)) rfl rfl
theorem x_222_78  : exG TB d 222 78 L st A = exG TB d 222 81 L (.int (nI 999) :: st) A := x_nx (op := o_push 3 (.int 999)) rfl rfl
theorem x_222_81  : exG TB d 222 81 L (.int i2 :: .int i1 :: .ref p :: st) A = ka (wrI 0 (ga A p) i1 i2) p d 222 82 L st A := x_bd (op := o_wrI 0) rfl rfl (fun _ => rfl)
theorem x_222_82  : exG TB d 222 82 L (v :: st) A = ck (c1 v) (exG TB d 222 83 L (v :: v :: st) A) := x_gd (op := o_dup) rfl rfl
theorem x_222_83  : exG TB d 222 83 L st A = exG TB d 222 85 L (.int (nI 7) :: st) A := x_nx (op := o_push 2 (.int 7)) rfl rfl
theorem x_222_85  : exG TB d 222 85 L st A = exG TB d 222 88 L (.int (nI 999) :: st) A := x_nx (op := o_push 3 (.int 999)) rfl rfl
theorem x_222_88  : exG TB d 222 88 L (.int i2 :: .int i1 :: .ref p :: st) A = ka (wrI 0 (ga A p) i1 i2) p d 222 89 L st A := x_bd (op := o_wrI 0) rfl rfl (fun _ => rfl)
theorem x_222_89  : exG TB d 222 89 (a0 :: a1 :: a2 :: r9) (v :: st) A = rg v (exG TB d 222 90 (a0 :: a1 :: some v :: r9) st A) := x_rgt (op := o_astore 2 1) rfl rfl
theorem x_222_90  : exG TB d 222 90 (a0 :: some v :: r9) st A = rg v (exG TB d 222 91 (a0 :: some v :: r9) (v :: st) A) := x_rg (op := o_aload 1 1) rfl rfl
theorem x_222_91  : exG TB d 222 91 (some (.int i1) :: r9) st A = exG TB d 222 92 (some (.int i1) :: r9) (.int i1 :: st) A := x_nx (op := o_iload 0 1) rfl rfl
theorem x_222_92  : exG TB d 222 92 L (.int i1 :: .ref p :: st) A = ki (rdI 0 (ga A p) i1) d 222 93 L st A := x_bd (op := o_rdI 0) rfl rfl (fun _ => rfl)
theorem x_222_93  : exG TB d 222 93 (a0 :: a1 :: a2 :: a3 :: r9) (.int i1 :: st) A = exG TB d 222 94 (a0 :: a1 :: a2 :: some (.int i1) :: r9) st A := x_nx (op := o_istore 3 1) rfl rfl
theorem x_222_94  : exG TB d 222 94 (a0 :: a1 :: some v :: r9) st A = rg v (exG TB d 222 95 (a0 :: a1 :: some v :: r9) (v :: st) A) := x_rg (op := o_aload 2 1) rfl rfl
theorem x_222_95  : exG TB d 222 95 (some (.int i1) :: r9) st A = exG TB d 222 96 (some (.int i1) :: r9) (.int i1 :: st) A := x_nx (op := o_iload 0 1) rfl rfl
theorem x_222_96  : exG TB d 222 96 L (.int i1 :: .ref p :: st) A = ki (rdI 0 (ga A p) i1) d 222 97 L st A := x_bd (op := o_rdI 0) rfl rfl (fun _ => rfl)
theorem x_222_97  : exG TB d 222 97 (a0 :: a1 :: a2 :: a3 :: a4 :: r9) (.int i1 :: st) A = exG TB d 222 99 (a0 :: a1 :: a2 :: a3 :: some (.int i1) :: r9) st A := x_nx (op := o_istore 4 2) rfl rfl
theorem x_222_99  : exG TB d 222 99 L st A = exG TB d 222 102 L (.ref (nx A) :: st) (newo A 14 2 dv14) := x_nx (op := o_new 14 2 dv14) rfl rfl
theorem x_222_102  : exG TB d 222 102 L (v :: st) A = ck (c1 v) (exG TB d 222 103 L (v :: v :: st) A) := x_gd (op := o_dup) rfl rfl
theorem x_222_103  : exG TB d 222 103 (a0 :: a1 :: a2 :: some (.int i1) :: r9) st A = exG TB d 222 104 (a0 :: a1 :: a2 :: some (.int i1) :: r9) (.int i1 :: st) A := x_nx (op := o_iload 3 1) rfl rfl
theorem x_222_104  : exG TB d 222 104 (a0 :: a1 :: a2 :: a3 :: some (.int i1) :: r9) st A = exG TB d 222 106 (a0 :: a1 :: a2 :: a3 :: some (.int i1) :: r9) (.int i1 :: st) A := x_nx (op := o_iload 4 2) rfl rfl
theorem x_222_106  : exG TB d 222 106 L [b1, b0, .ref p, w0] A = kc0 (evG TB d 224 [.ref p, b0, b1] A) d 222 109 L [w0] := x_c0 (op := o_ci 224 2) rfl rfl x_noh rfl
theorem x_222_109  : exG TB d 222 109 L [v] A = ck (okv 0 v) (some (.inl (some v), A)) := x_outg (op := o_ret 0) rfl rfl
theorem e_223 {j1 : Int32} : evG TB (d + 1) 223 [.ref p, .int j1] A = exG TB d 223 0 [some (.ref p), some (.int j1)] [] A := evG_eq TB d 223 _ A
theorem x_223_0  : exG TB d 223 0 (a0 :: some (.int i1) :: r9) st A = exG TB d 223 1 (a0 :: some (.int i1) :: r9) (.int i1 :: st) A := x_nx (op := o_iload 1 1) rfl rfl
theorem x_223_1  : exG TB d 223 1 L (.int i1 :: st) A = exG TB d 223 2 L (.long i1.toInt64 :: st) A := x_nx (op := o_i2l) rfl rfl
theorem x_223_2  : exG TB d 223 2 (some v :: r9) st A = rg v (exG TB d 223 3 (some v :: r9) (v :: st) A) := x_rg (op := o_aload 0 1) rfl rfl
theorem x_223_3  : exG TB d 223 3 L [.ref p, w0] A = kw (sel (gc A p) [(14, 225)]) [.ref p] d 223 8 L [w0] A := x_cvb (op := o_cv [(14, 225)] 0 5 false none) rfl rfl x_noh rfl
theorem x_223_8  : exG TB d 223 8 L (.int i1 :: st) A = exG TB d 223 9 L (.long i1.toInt64 :: st) A := x_nx (op := o_i2l) rfl rfl
theorem x_223_9  : exG TB d 223 9 (some v :: r9) st A = rg v (exG TB d 223 10 (some v :: r9) (v :: st) A) := x_rg (op := o_aload 0 1) rfl rfl
theorem x_223_10  : exG TB d 223 10 L [.ref p, w0, w1] A = kw (sel (gc A p) [(14, 226)]) [.ref p] d 223 15 L [w0, w1] A := x_cvb (op := o_cv [(14, 226)] 0 5 false none) rfl rfl x_noh rfl
theorem x_223_15  : exG TB d 223 15 L (.int i1 :: st) A = exG TB d 223 16 L (.long i1.toInt64 :: st) A := x_nx (op := o_i2l) rfl rfl
theorem x_223_16  : exG TB d 223 16 L [b2, b1, b0] A = kc (evG TB d 165 [b0, b1, b2] A) d 223 19 L [] := x_cv (op := o_cs 165 3 false none) rfl rfl x_noh rfl
theorem x_223_19  : exG TB d 223 19 L [v] A = ck (okv 5 v) (some (.inl (some v), A)) := x_outg (op := o_ret 5) rfl rfl
theorem e_224 {j1 : Int32} {j2 : Int32} : evG TB (d + 1) 224 [.ref p, .int j1, .int j2] A = exG TB d 224 0 [some (.ref p), some (.int j1), some (.int j2)] [] A := evG_eq TB d 224 _ A
theorem x_224_0  : exG TB d 224 0 (some v :: r9) st A = rg v (exG TB d 224 1 (some v :: r9) (v :: st) A) := x_rg (op := o_aload 0 1) rfl rfl
theorem x_224_1  : exG TB d 224 1 (a0 :: some (.int i1) :: r9) st A = exG TB d 224 2 (a0 :: some (.int i1) :: r9) (.int i1 :: st) A := x_nx (op := o_iload 1 1) rfl rfl
theorem x_224_2  : exG TB d 224 2 L (v :: .ref p :: st) A = ck ((gf A p 75).isSome && okv 1 v) (exG TB d 224 5 L st (setf A p 75 v)) := x_gd (op := o_put 75 1) rfl rfl
theorem x_224_5  : exG TB d 224 5 (some v :: r9) st A = rg v (exG TB d 224 6 (some v :: r9) (v :: st) A) := x_rg (op := o_aload 0 1) rfl rfl
theorem x_224_6  : exG TB d 224 6 (a0 :: a1 :: some (.int i1) :: r9) st A = exG TB d 224 7 (a0 :: a1 :: some (.int i1) :: r9) (.int i1 :: st) A := x_nx (op := o_iload 2 1) rfl rfl
theorem x_224_7  : exG TB d 224 7 L (v :: .ref p :: st) A = ck ((gf A p 76).isSome && okv 1 v) (exG TB d 224 10 L st (setf A p 76 v)) := x_gd (op := o_put 76 1) rfl rfl
theorem x_224_10  : exG TB d 224 10 (some v :: r9) st A = rg v (exG TB d 224 11 (some v :: r9) (v :: st) A) := x_rg (op := o_aload 0 1) rfl rfl
theorem x_224_11  : exG TB d 224 11 L [.ref p] A = exG TB d 224 14 L [] A := x_nx (op := o_oi) rfl rfl
theorem x_224_14  : exG TB d 224 14 L [] A = some (.inl none, A) := x_out (op := o_vret) rfl rfl
theorem e_225  : evG TB (d + 1) 225 [.ref p] A = exG TB d 225 0 [some (.ref p)] [] A := evG_eq TB d 225 _ A
theorem x_225_0  : exG TB d 225 0 (some v :: r9) st A = rg v (exG TB d 225 1 (some v :: r9) (v :: st) A) := x_rg (op := o_aload 0 1) rfl rfl
theorem x_225_1  : exG TB d 225 1 L (.ref p :: st) A = kv (gf A p 75) d 225 4 L st A := x_bd (op := o_get 75) rfl rfl (fun _ => rfl)
theorem x_225_4  : exG TB d 225 4 L [v] A = ck (okv 1 v) (some (.inl (some v), A)) := x_outg (op := o_ret 1) rfl rfl
theorem e_226  : evG TB (d + 1) 226 [.ref p] A = exG TB d 226 0 [some (.ref p)] [] A := evG_eq TB d 226 _ A
theorem x_226_0  : exG TB d 226 0 (some v :: r9) st A = rg v (exG TB d 226 1 (some v :: r9) (v :: st) A) := x_rg (op := o_aload 0 1) rfl rfl
theorem x_226_1  : exG TB d 226 1 L (.ref p :: st) A = kv (gf A p 76) d 226 4 L st A := x_bd (op := o_get 76) rfl rfl (fun _ => rfl)
theorem x_226_4  : exG TB d 226 4 L [v] A = ck (okv 1 v) (some (.inl (some v), A)) := x_outg (op := o_ret 1) rfl rfl
theorem e_227 {j2 : Int32} {j3 : Int32} : evG TB (d + 1) 227 [.ref p, b1, .int j2, .int j3] A = rg b1 (exG TB d 227 0 [some (.ref p), some (b1), some (.int j2), some (.int j3)] [] A) := by
  rw [evG_eq]
  show (bif (true && (isR b1 && (true && (true && true)))) then exG TB d 227 0 [some (.ref p), some (b1), some (.int j2), some (.int j3)] [] A else none) = _
  unfold rg
  cases isR b1 <;> rfl
theorem x_227_0  : exG TB d 227 0 (some v :: r9) st A = rg v (exG TB d 227 1 (some v :: r9) (v :: st) A) := x_rg (op := o_aload 0 1) rfl rfl
theorem x_227_1  : exG TB d 227 1 L [.ref p] A = exG TB d 227 4 L [] A := x_nx (op := o_oi) rfl rfl
theorem x_227_4  : exG TB d 227 4 (some v :: r9) st A = rg v (exG TB d 227 5 (some v :: r9) (v :: st) A) := x_rg (op := o_aload 0 1) rfl rfl
theorem x_227_5  : exG TB d 227 5 L st A = exG TB d 227 7 L (.int (nI 7) :: st) A := x_nx (op := o_push 2 (.int 7)) rfl rfl
theorem x_227_7  : exG TB d 227 7 L (.int i1 :: st) A = ck (okn i1) (exG TB d 227 9 L (.ref (nx A) :: st) (newa A (zar 0 i1.toNatClampNeg))) := x_gd (op := o_newa 0 2) rfl rfl
theorem x_227_9  : exG TB d 227 9 L (v :: .ref p :: st) A = ck ((gf A p 79).isSome && okv 0 v) (exG TB d 227 12 L st (setf A p 79 v)) := x_gd (op := o_put 79 0) rfl rfl
theorem x_227_12  : exG TB d 227 12 (some v :: r9) st A = rg v (exG TB d 227 13 (some v :: r9) (v :: st) A) := x_rg (op := o_aload 0 1) rfl rfl
theorem x_227_13  : exG TB d 227 13 L st A = exG TB d 227 15 L (.int (nI 7) :: st) A := x_nx (op := o_push 2 (.int 7)) rfl rfl
theorem x_227_15  : exG TB d 227 15 L (.int i1 :: st) A = ck (okn i1) (exG TB d 227 17 L (.ref (nx A) :: st) (newa A (zar 0 i1.toNatClampNeg))) := x_gd (op := o_newa 0 2) rfl rfl
theorem x_227_17  : exG TB d 227 17 L (v :: .ref p :: st) A = ck ((gf A p 80).isSome && okv 0 v) (exG TB d 227 20 L st (setf A p 80 v)) := x_gd (op := o_put 80 0) rfl rfl
theorem x_227_20  : exG TB d 227 20 (some v :: r9) st A = rg v (exG TB d 227 21 (some v :: r9) (v :: st) A) := x_rg (op := o_aload 0 1) rfl rfl
theorem x_227_21  : exG TB d 227 21 L st A = exG TB d 227 22 L (.int nN :: st) A := x_nx (op := o_push 1 (.int (-1))) rfl rfl
theorem x_227_22  : exG TB d 227 22 L (v :: .ref p :: st) A = ck ((gf A p 81).isSome && okv 1 v) (exG TB d 227 25 L st (setf A p 81 v)) := x_gd (op := o_put 81 1) rfl rfl
theorem x_227_25  : exG TB d 227 25 (some v :: r9) st A = rg v (exG TB d 227 26 (some v :: r9) (v :: st) A) := x_rg (op := o_aload 0 1) rfl rfl
theorem x_227_26  : exG TB d 227 26 (a0 :: some v :: r9) st A = rg v (exG TB d 227 27 (a0 :: some v :: r9) (v :: st) A) := x_rg (op := o_aload 1 1) rfl rfl
theorem x_227_27  : exG TB d 227 27 L (v :: .ref p :: st) A = ck ((gf A p 77).isSome && okv 0 v) (exG TB d 227 30 L st (setf A p 77 v)) := x_gd (op := o_put 77 0) rfl rfl
theorem x_227_30  : exG TB d 227 30 (some v :: r9) st A = rg v (exG TB d 227 31 (some v :: r9) (v :: st) A) := x_rg (op := o_aload 0 1) rfl rfl
theorem x_227_31  : exG TB d 227 31 (a0 :: a1 :: a2 :: some (.int i1) :: r9) st A = exG TB d 227 32 (a0 :: a1 :: a2 :: some (.int i1) :: r9) (.int i1 :: st) A := x_nx (op := o_iload 3 1) rfl rfl
theorem x_227_32  : exG TB d 227 32 L (v :: .ref p :: st) A = ck ((gf A p 78).isSome && okv 1 v) (exG TB d 227 35 L st (setf A p 78 v)) := x_gd (op := o_put 78 1) rfl rfl
theorem x_227_35  : exG TB d 227 35 (some v :: r9) st A = rg v (exG TB d 227 36 (some v :: r9) (v :: st) A) := x_rg (op := o_aload 0 1) rfl rfl
theorem x_227_36  : exG TB d 227 36 L (.ref p :: st) A = kv (gf A p 79) d 227 39 L st A := x_bd (op := o_get 79) rfl rfl (fun _ => rfl)
theorem x_227_39  : exG TB d 227 39 L st A = exG TB d 227 40 L (.int (nI 0) :: st) A := x_nx (op := o_push 1 (.int 0)) rfl rfl
theorem x_227_40  : exG TB d 227 40 (a0 :: a1 :: some (.int i1) :: r9) st A = exG TB d 227 41 (a0 :: a1 :: some (.int i1) :: r9) (.int i1 :: st) A := x_nx (op := o_iload 2 1) rfl rfl
theorem x_227_41  : exG TB d 227 41 L (.int i2 :: .int i1 :: .ref p :: st) A = ka (wrI 0 (ga A p) i1 i2) p d 227 42 L st A := x_bd (op := o_wrI 0) rfl rfl (fun _ => rfl)
theorem x_227_42  : exG TB d 227 42 L [] A = some (.inl none, A) := x_out (op := o_vret) rfl rfl
theorem e_228  : evG TB (d + 1) 228 [.ref p] A = exG TB d 228 0 [some (.ref p)] [] A := evG_eq TB d 228 _ A
theorem x_228_0  : exG TB d 228 0 (some v :: r9) st A = rg v (exG TB d 228 1 (some v :: r9) (v :: st) A) := x_rg (op := o_aload 0 1) rfl rfl
theorem x_228_1  : exG TB d 228 1 L st A = exG TB d 228 2 L (.int (nI 0) :: st) A := x_nx (op := o_push 1 (.int 0)) rfl rfl
theorem x_228_2  : exG TB d 228 2 L st A = exG TB d 228 3 L (.int (nI 1) :: st) A := x_nx (op := o_push 1 (.int 1)) rfl rfl
theorem x_228_3  : exG TB d 228 3 (some v :: r9) st A = rg v (exG TB d 228 4 (some v :: r9) (v :: st) A) := x_rg (op := o_aload 0 1) rfl rfl
theorem x_228_4  : exG TB d 228 4 L (.ref p :: st) A = kv (gf A p 79) d 228 7 L st A := x_bd (op := o_get 79) rfl rfl (fun _ => rfl)
theorem x_228_7  : exG TB d 228 7 L st A = exG TB d 228 8 L (.int (nI 0) :: st) A := x_nx (op := o_push 1 (.int 0)) rfl rfl
theorem x_228_8  : exG TB d 228 8 L (.int i1 :: .ref p :: st) A = ki (rdI 0 (ga A p) i1) d 228 9 L st A := x_bd (op := o_rdI 0) rfl rfl (fun _ => rfl)
theorem x_228_9  : exG TB d 228 9 L (.int i2 :: .int i1 :: st) A = exG TB d 228 10 L (.int (i1 <<< (i2 &&& 31)) :: st) A := x_nx (op := o_iop (fun x y => x <<< (y &&& 31))) rfl rfl
theorem x_228_10  : exG TB d 228 10 L st A = exG TB d 228 11 L (.int (nI 0) :: st) A := x_nx (op := o_push 1 (.int 0)) rfl rfl
theorem x_228_11  : exG TB d 228 11 L st A = exG TB d 228 12 L (.int (nI 0) :: st) A := x_nx (op := o_push 1 (.int 0)) rfl rfl
theorem x_228_12  : exG TB d 228 12 L st A = exG TB d 228 13 L (.int (nI 0) :: st) A := x_nx (op := o_push 1 (.int 0)) rfl rfl
theorem x_228_13  : exG TB d 228 13 L [b4, b3, b2, b1, b0, .ref p] A = kw0 (sel (gc A p) [(16, 229), (15, 229)]) [.ref p, b0, b1, b2, b3, b4] d 228 16 L [] A := x_c0b (op := o_cv [(16, 229), (15, 229)] 5 3 true none) rfl rfl x_noh rfl
theorem x_228_16  : exG TB d 228 16 (some v :: r9) st A = rg v (exG TB d 228 17 (some v :: r9) (v :: st) A) := x_rg (op := o_aload 0 1) rfl rfl
theorem x_228_17  : exG TB d 228 17 L [v] A = ck (okv 0 v) (some (.inl (some v), A)) := x_outg (op := o_ret 0) rfl rfl
theorem e_229 {j1 : Int32} {j2 : Int32} {j3 : Int32} {j4 : Int32} {j5 : Int32} : evG TB (d + 1) 229 [.ref p, .int j1, .int j2, .int j3, .int j4, .int j5] A = exG TB d 229 0 [some (.ref p), some (.int j1), some (.int j2), some (.int j3), some (.int j4), some (.int j5), none, none, none, none] [] A := evG_eq TB d 229 _ A
theorem x_229_0  : exG TB d 229 0 (some v :: r9) st A = rg v (exG TB d 229 1 (some v :: r9) (v :: st) A) := x_rg (op := o_aload 0 1) rfl rfl
theorem x_229_1  : exG TB d 229 1 L (.ref p :: st) A = kv (gf A p 79) d 229 4 L st A := x_bd (op := o_get 79) rfl rfl (fun _ => rfl)
theorem x_229_4  : exG TB d 229 4 (a0 :: some (.int i1) :: r9) st A = exG TB d 229 5 (a0 :: some (.int i1) :: r9) (.int i1 :: st) A := x_nx (op := o_iload 1 1) rfl rfl
theorem x_229_5  : exG TB d 229 5 L (.int i1 :: .ref p :: st) A = ki (rdI 0 (ga A p) i1) d 229 6 L st A := x_bd (op := o_rdI 0) rfl rfl (fun _ => rfl)
theorem x_229_6  : exG TB d 229 6 (a0 :: a1 :: a2 :: a3 :: a4 :: a5 :: a6 :: r9) (.int i1 :: st) A = exG TB d 229 8 (a0 :: a1 :: a2 :: a3 :: a4 :: a5 :: some (.int i1) :: r9) st A := x_nx (op := o_istore 6 2) rfl rfl
theorem x_229_8  : exG TB d 229 8 (a0 :: a1 :: a2 :: a3 :: a4 :: a5 :: some (.int i1) :: r9) st A = exG TB d 229 10 (a0 :: a1 :: a2 :: a3 :: a4 :: a5 :: some (.int i1) :: r9) (.int i1 :: st) A := x_nx (op := o_iload 6 2) rfl rfl
theorem x_229_10  : exG TB d 229 10 (some v :: r9) st A = rg v (exG TB d 229 11 (some v :: r9) (v :: st) A) := x_rg (op := o_aload 0 1) rfl rfl
theorem x_229_11  : exG TB d 229 11 L (.ref p :: st) A = kv (gf A p 78) d 229 14 L st A := x_bd (op := o_get 78) rfl rfl (fun _ => rfl)
theorem x_229_14  : exG TB d 229 14 L (.int i2 :: .int i1 :: st) A = if ¬ i1 = i2 then exG TB d 229 52 L st A else exG TB d 229 17 L st A := x_if (op := o_icmp (fun x y => decide (¬ x = y)) 52) rfl rfl rfl
theorem x_229_17  : exG TB d 229 17 (some v :: r9) st A = rg v (exG TB d 229 18 (some v :: r9) (v :: st) A) := x_rg (op := o_aload 0 1) rfl rfl
theorem x_229_18  : exG TB d 229 18 (a0 :: some (.int i1) :: r9) st A = exG TB d 229 19 (a0 :: some (.int i1) :: r9) (.int i1 :: st) A := x_nx (op := o_iload 1 1) rfl rfl
theorem x_229_19  : exG TB d 229 19 (a0 :: a1 :: a2 :: some (.int i1) :: r9) st A = exG TB d 229 20 (a0 :: a1 :: a2 :: some (.int i1) :: r9) (.int i1 :: st) A := x_nx (op := o_iload 3 1) rfl rfl
theorem x_229_20  : exG TB d 229 20 (a0 :: a1 :: a2 :: a3 :: some (.int i1) :: r9) st A = exG TB d 229 22 (a0 :: a1 :: a2 :: a3 :: some (.int i1) :: r9) (.int i1 :: st) A := x_nx (op := o_iload 4 2) rfl rfl
theorem x_229_22  : exG TB d 229 22 (a0 :: a1 :: a2 :: a3 :: a4 :: some (.int i1) :: r9) st A = exG TB d 229 24 (a0 :: a1 :: a2 :: a3 :: a4 :: some (.int i1) :: r9) (.int i1 :: st) A := x_nx (op := o_iload 5 2) rfl rfl
theorem x_229_24  : exG TB d 229 24 L [b3, b2, b1, b0, .ref p] A = kw (sel (gc A p) [(16, 233), (15, 232)]) [.ref p, b0, b1, b2, b3] d 229 27 L [] A := x_cvb (op := o_cv [(16, 233), (15, 232)] 4 3 false none) rfl rfl x_noh rfl
theorem x_229_27  : exG TB d 229 27 L (.int i1 :: st) A = if i1 = nI 0 then exG TB d 229 51 L st A else exG TB d 229 30 L st A := x_if (op := o_if (fun x => decide (x = 0)) 51) rfl rfl rfl
theorem x_229_30  : exG TB d 229 30 (some v :: r9) st A = rg v (exG TB d 229 31 (some v :: r9) (v :: st) A) := x_rg (op := o_aload 0 1) rfl rfl
theorem x_229_31  : exG TB d 229 31 (a0 :: some (.int i1) :: r9) st A = exG TB d 229 32 (a0 :: some (.int i1) :: r9) (.int i1 :: st) A := x_nx (op := o_iload 1 1) rfl rfl
theorem x_229_32  : exG TB d 229 32 L (v :: .ref p :: st) A = ck ((gf A p 81).isSome && okv 1 v) (exG TB d 229 35 L st (setf A p 81 v)) := x_gd (op := o_put 81 1) rfl rfl
theorem x_229_35  : exG TB d 229 35 (some v :: r9) st A = rg v (exG TB d 229 36 (some v :: r9) (v :: st) A) := x_rg (op := o_aload 0 1) rfl rfl
theorem x_229_36  : exG TB d 229 36 L (.ref p :: st) A = kv (gf A p 79) d 229 39 L st A := x_bd (op := o_get 79) rfl rfl (fun _ => rfl)
theorem x_229_39  : exG TB d 229 39 L st A = exG TB d 229 40 L (.int (nI 0) :: st) A := x_nx (op := o_push 1 (.int 0)) rfl rfl
theorem x_229_40  : exG TB d 229 40 (some v :: r9) st A = rg v (exG TB d 229 41 (some v :: r9) (v :: st) A) := x_rg (op := o_aload 0 1) rfl rfl
theorem x_229_41  : exG TB d 229 41 L (.ref p :: st) A = kv (gf A p 80) d 229 44 L st A := x_bd (op := o_get 80) rfl rfl (fun _ => rfl)
theorem x_229_44  : exG TB d 229 44 L st A = exG TB d 229 45 L (.int (nI 0) :: st) A := x_nx (op := o_push 1 (.int 0)) rfl rfl
theorem x_229_45  : exG TB d 229 45 (a0 :: some (.int i1) :: r9) st A = exG TB d 229 46 (a0 :: some (.int i1) :: r9) (.int i1 :: st) A := x_nx (op := o_iload 1 1) rfl rfl
theorem x_229_46  : exG TB d 229 46 L st A = exG TB d 229 47 L (.int (nI 1) :: st) A := x_nx (op := o_push 1 (.int 1)) rfl rfl
theorem x_229_47  : exG TB d 229 47 L (.int i2 :: .int i1 :: st) A = exG TB d 229 48 L (.int (i1 + i2) :: st) A := x_nx (op := o_iop (fun x y => x + y)) rfl rfl
theorem x_229_48  : exG TB d 229 48 L [.int i3, .int i2, .ref q, .int i1, .ref p] A = ka (cpI 0 (ga A p) (ga A q) i1 i2 i3) q d 229 51 L [] A := x_bd (op := o_cpI 0) rfl rfl (fun _ => rfl)
theorem x_229_51  : exG TB d 229 51 L [] A = some (.inl none, A) := x_out (op := o_vret) rfl rfl
theorem x_229_52  : exG TB d 229 52 (a0 :: some (.int i1) :: r9) st A = exG TB d 229 53 (a0 :: some (.int i1) :: r9) (.int i1 :: st) A := x_nx (op := o_iload 1 1) rfl rfl
theorem x_229_53  : exG TB d 229 53 L (.int i1 :: st) A = if ¬ i1 = nI 0 then exG TB d 229 60 L st A else exG TB d 229 56 L st A := x_if (op := o_if (fun x => decide (¬ x = 0)) 60) rfl rfl rfl
theorem x_229_56  : exG TB d 229 56 L st A = exG TB d 229 57 L (.int (nI 0) :: st) A := x_nx (op := o_push 1 (.int 0)) rfl rfl
theorem x_229_57  : exG TB d 229 57 L st A = exG TB d 229 70 L st A := x_nx (op := o_goto 70) rfl rfl
theorem x_229_60  : exG TB d 229 60 (some v :: r9) st A = rg v (exG TB d 229 61 (some v :: r9) (v :: st) A) := x_rg (op := o_aload 0 1) rfl rfl
theorem x_229_61  : exG TB d 229 61 L (.ref p :: st) A = kv (gf A p 77) d 229 64 L st A := x_bd (op := o_get 77) rfl rfl (fun _ => rfl)
theorem x_229_64  : exG TB d 229 64 L (.ref p :: st) A = kv (gf A p 14) d 229 67 L st A := x_bd (op := o_get 14) rfl rfl (fun _ => rfl)
theorem x_229_67  : exG TB d 229 67 (a0 :: a1 :: a2 :: a3 :: a4 :: a5 :: some (.int i1) :: r9) st A = exG TB d 229 69 (a0 :: a1 :: a2 :: a3 :: a4 :: a5 :: some (.int i1) :: r9) (.int i1 :: st) A := x_nx (op := o_iload 6 2) rfl rfl
theorem x_229_69  : exG TB d 229 69 L (.int i1 :: .ref p :: st) A = ki (rdI 0 (ga A p) i1) d 229 70 L st A := x_bd (op := o_rdI 0) rfl rfl (fun _ => rfl)
theorem x_229_70  : exG TB d 229 70 (a0 :: a1 :: a2 :: a3 :: a4 :: a5 :: a6 :: a7 :: r9) (.int i1 :: st) A = exG TB d 229 72 (a0 :: a1 :: a2 :: a3 :: a4 :: a5 :: a6 :: some (.int i1) :: r9) st A := x_nx (op := o_istore 7 2) rfl rfl
theorem x_229_72  : exG TB d 229 72 L st A = exG TB d 229 73 L (.int (nI 0) :: st) A := x_nx (op := o_push 1 (.int 0)) rfl rfl
theorem x_229_73  : exG TB d 229 73 (a0 :: a1 :: a2 :: a3 :: a4 :: a5 :: a6 :: a7 :: a8 :: r9) (.int i1 :: st) A = exG TB d 229 75 (a0 :: a1 :: a2 :: a3 :: a4 :: a5 :: a6 :: a7 :: some (.int i1) :: r9) st A := x_nx (op := o_istore 8 2) rfl rfl
theorem x_229_75  : exG TB d 229 75 (a0 :: a1 :: a2 :: a3 :: a4 :: a5 :: a6 :: a7 :: some (.int i1) :: r9) st A = exG TB d 229 77 (a0 :: a1 :: a2 :: a3 :: a4 :: a5 :: a6 :: a7 :: some (.int i1) :: r9) (.int i1 :: st) A := x_nx (op := o_iload 8 2) rfl rfl
theorem x_229_77  : exG TB d 229 77 (some v :: r9) st A = rg v (exG TB d 229 78 (some v :: r9) (v :: st) A) := x_rg (op := o_aload 0 1) rfl rfl
theorem x_229_78  : exG TB d 229 78 L (.ref p :: st) A = kv (gf A p 77) d 229 81 L st A := x_bd (op := o_get 77) rfl rfl (fun _ => rfl)
theorem x_229_81  : exG TB d 229 81 L (.ref p :: st) A = kv (gf A p 15) d 229 84 L st A := x_bd (op := o_get 15) rfl rfl (fun _ => rfl)
theorem x_229_84  : exG TB d 229 84 L (.int i2 :: .int i1 :: st) A = if i2 ≤ i1 then exG TB d 229 169 L st A else exG TB d 229 87 L st A := x_if (op := o_icmp (fun x y => decide (y ≤ x)) 169) rfl rfl rfl
theorem x_229_87  : exG TB d 229 87 (a0 :: some (.int i1) :: r9) st A = exG TB d 229 88 (a0 :: some (.int i1) :: r9) (.int i1 :: st) A := x_nx (op := o_iload 1 1) rfl rfl
theorem x_229_88  : exG TB d 229 88 L st A = exG TB d 229 90 L (.int (nI 6) :: st) A := x_nx (op := o_push 2 (.int 6)) rfl rfl
theorem x_229_90  : exG TB d 229 90 L (.int i2 :: .int i1 :: st) A = if i2 ≤ i1 then exG TB d 229 169 L st A else exG TB d 229 93 L st A := x_if (op := o_icmp (fun x y => decide (y ≤ x)) 169) rfl rfl rfl
theorem x_229_93  : exG TB d 229 93 (some v :: r9) st A = rg v (exG TB d 229 94 (some v :: r9) (v :: st) A) := x_rg (op := o_aload 0 1) rfl rfl
theorem x_229_94  : exG TB d 229 94 L (.ref p :: st) A = kv (gf A p 77) d 229 97 L st A := x_bd (op := o_get 77) rfl rfl (fun _ => rfl)
theorem x_229_97  : exG TB d 229 97 (a0 :: a1 :: a2 :: a3 :: a4 :: a5 :: some (.int i1) :: r9) st A = exG TB d 229 99 (a0 :: a1 :: a2 :: a3 :: a4 :: a5 :: some (.int i1) :: r9) (.int i1 :: st) A := x_nx (op := o_iload 6 2) rfl rfl
theorem x_229_99  : exG TB d 229 99 (a0 :: a1 :: a2 :: a3 :: a4 :: a5 :: a6 :: a7 :: some (.int i1) :: r9) st A = exG TB d 229 101 (a0 :: a1 :: a2 :: a3 :: a4 :: a5 :: a6 :: a7 :: some (.int i1) :: r9) (.int i1 :: st) A := x_nx (op := o_iload 8 2) rfl rfl
theorem x_229_101  : exG TB d 229 101 L [b1, b0, .ref p] A = kw (sel (gc A p) [(2, 284)]) [.ref p, b0, b1] d 229 104 L [] A := x_cvb (op := o_cv [(2, 284)] 2 3 false none) rfl rfl x_noh rfl
theorem x_229_104  : exG TB d 229 104 (a0 :: a1 :: a2 :: a3 :: a4 :: a5 :: a6 :: a7 :: a8 :: a9 :: r9) (v :: st) A = rg v (exG TB d 229 106 (a0 :: a1 :: a2 :: a3 :: a4 :: a5 :: a6 :: a7 :: a8 :: some v :: r9) st A) := x_rgt (op := o_astore 9 2) rfl rfl
theorem x_229_106  : exG TB d 229 106 (a0 :: a1 :: a2 :: a3 :: a4 :: a5 :: a6 :: a7 :: a8 :: some v :: r9) st A = rg v (exG TB d 229 108 (a0 :: a1 :: a2 :: a3 :: a4 :: a5 :: a6 :: a7 :: a8 :: some v :: r9) (v :: st) A) := x_rg (op := o_aload 9 2) rfl rfl
theorem x_229_108n  : exG TB d 229 108 L (.null :: st) A = exG TB d 229 163 L st A := x_nx (op := o_ifnull 163) rfl rfl
theorem x_229_108r  : exG TB d 229 108 L (.ref p :: st) A = exG TB d 229 111 L st A := x_nx (op := o_ifnull 163) rfl rfl
theorem x_229_111  : exG TB d 229 111 (a0 :: a1 :: some (.int i1) :: r9) st A = exG TB d 229 112 (a0 :: a1 :: some (.int i1) :: r9) (.int i1 :: st) A := x_nx (op := o_iload 2 1) rfl rfl
theorem x_229_112  : exG TB d 229 112 (a0 :: a1 :: a2 :: a3 :: a4 :: a5 :: a6 :: a7 :: some (.int i1) :: r9) st A = exG TB d 229 114 (a0 :: a1 :: a2 :: a3 :: a4 :: a5 :: a6 :: a7 :: some (.int i1) :: r9) (.int i1 :: st) A := x_nx (op := o_iload 8 2) rfl rfl
theorem x_229_114  : exG TB d 229 114 L (.int i2 :: .int i1 :: st) A = exG TB d 229 115 L (.int (i1 >>> (i2 &&& 31)) :: st) A := x_nx (op := o_iop (fun x y => x >>> (y &&& 31))) rfl rfl
theorem x_229_115  : exG TB d 229 115 L st A = exG TB d 229 116 L (.int (nI 1) :: st) A := x_nx (op := o_push 1 (.int 1)) rfl rfl
theorem x_229_116  : exG TB d 229 116 L (.int i2 :: .int i1 :: st) A = exG TB d 229 117 L (.int (i1 &&& i2) :: st) A := x_nx (op := o_iop (fun x y => x &&& y)) rfl rfl
theorem x_229_117  : exG TB d 229 117 L (.int i1 :: st) A = if ¬ i1 = nI 0 then exG TB d 229 163 L st A else exG TB d 229 120 L st A := x_if (op := o_if (fun x => decide (¬ x = 0)) 163) rfl rfl rfl
theorem x_229_120  : exG TB d 229 120 (some v :: r9) st A = rg v (exG TB d 229 121 (some v :: r9) (v :: st) A) := x_rg (op := o_aload 0 1) rfl rfl
theorem x_229_121  : exG TB d 229 121 L (.ref p :: st) A = kv (gf A p 79) d 229 124 L st A := x_bd (op := o_get 79) rfl rfl (fun _ => rfl)
theorem x_229_124  : exG TB d 229 124 (a0 :: some (.int i1) :: r9) st A = exG TB d 229 125 (a0 :: some (.int i1) :: r9) (.int i1 :: st) A := x_nx (op := o_iload 1 1) rfl rfl
theorem x_229_125  : exG TB d 229 125 L st A = exG TB d 229 126 L (.int (nI 1) :: st) A := x_nx (op := o_push 1 (.int 1)) rfl rfl
theorem x_229_126  : exG TB d 229 126 L (.int i2 :: .int i1 :: st) A = exG TB d 229 127 L (.int (i1 + i2) :: st) A := x_nx (op := o_iop (fun x y => x + y)) rfl rfl
theorem x_229_127  : exG TB d 229 127 (a0 :: a1 :: a2 :: a3 :: a4 :: a5 :: a6 :: a7 :: some (.int i1) :: r9) st A = exG TB d 229 129 (a0 :: a1 :: a2 :: a3 :: a4 :: a5 :: a6 :: a7 :: some (.int i1) :: r9) (.int i1 :: st) A := x_nx (op := o_iload 8 2) rfl rfl
theorem x_229_129  : exG TB d 229 129 L (.int i2 :: .int i1 :: .ref p :: st) A = ka (wrI 0 (ga A p) i1 i2) p d 229 130 L st A := x_bd (op := o_wrI 0) rfl rfl (fun _ => rfl)
theorem x_229_130  : exG TB d 229 130 (some v :: r9) st A = rg v (exG TB d 229 131 (some v :: r9) (v :: st) A) := x_rg (op := o_aload 0 1) rfl rfl
theorem x_229_131  : exG TB d 229 131 (a0 :: some (.int i1) :: r9) st A = exG TB d 229 132 (a0 :: some (.int i1) :: r9) (.int i1 :: st) A := x_nx (op := o_iload 1 1) rfl rfl
theorem x_229_132  : exG TB d 229 132 L st A = exG TB d 229 133 L (.int (nI 1) :: st) A := x_nx (op := o_push 1 (.int 1)) rfl rfl
theorem x_229_133  : exG TB d 229 133 L (.int i2 :: .int i1 :: st) A = exG TB d 229 134 L (.int (i1 + i2) :: st) A := x_nx (op := o_iop (fun x y => x + y)) rfl rfl
theorem x_229_134  : exG TB d 229 134 (a0 :: a1 :: some (.int i1) :: r9) st A = exG TB d 229 135 (a0 :: a1 :: some (.int i1) :: r9) (.int i1 :: st) A := x_nx (op := o_iload 2 1) rfl rfl
theorem x_229_135  : exG TB d 229 135 L st A = exG TB d 229 136 L (.int (nI 1) :: st) A := x_nx (op := o_push 1 (.int 1)) rfl rfl
theorem x_229_136  : exG TB d 229 136 (a0 :: a1 :: a2 :: a3 :: a4 :: a5 :: a6 :: a7 :: some (.int i1) :: r9) st A = exG TB d 229 138 (a0 :: a1 :: a2 :: a3 :: a4 :: a5 :: a6 :: a7 :: some (.int i1) :: r9) (.int i1 :: st) A := x_nx (op := o_iload 8 2) rfl rfl
theorem x_229_138  : exG TB d 229 138 L (.int i2 :: .int i1 :: st) A = exG TB d 229 139 L (.int (i1 <<< (i2 &&& 31)) :: st) A := x_nx (op := o_iop (fun x y => x <<< (y &&& 31))) rfl rfl
theorem x_229_139  : exG TB d 229 139 L (.int i2 :: .int i1 :: st) A = exG TB d 229 140 L (.int (i1 ||| i2) :: st) A := x_nx (op := o_iop (fun x y => x ||| y)) rfl rfl
theorem x_229_140  : exG TB d 229 140 (a0 :: a1 :: a2 :: some (.int i1) :: r9) st A = exG TB d 229 141 (a0 :: a1 :: a2 :: some (.int i1) :: r9) (.int i1 :: st) A := x_nx (op := o_iload 3 1) rfl rfl
theorem x_229_141  : exG TB d 229 141 (a0 :: a1 :: a2 :: a3 :: a4 :: a5 :: a6 :: a7 :: a8 :: some v :: r9) st A = rg v (exG TB d 229 143 (a0 :: a1 :: a2 :: a3 :: a4 :: a5 :: a6 :: a7 :: a8 :: some v :: r9) (v :: st) A) := x_rg (op := o_aload 9 2) rfl rfl
theorem x_229_143  : exG TB d 229 143 L (.ref p :: st) A = kv (gf A p 61) d 229 146 L st A := x_bd (op := o_get 61) rfl rfl (fun _ => rfl)
theorem x_229_146  : exG TB d 229 146 L (.int i2 :: .int i1 :: st) A = exG TB d 229 147 L (.int (i1 + i2) :: st) A := x_nx (op := o_iop (fun x y => x + y)) rfl rfl
theorem x_229_147  : exG TB d 229 147 (a0 :: a1 :: a2 :: a3 :: some (.int i1) :: r9) st A = exG TB d 229 149 (a0 :: a1 :: a2 :: a3 :: some (.int i1) :: r9) (.int i1 :: st) A := x_nx (op := o_iload 4 2) rfl rfl
theorem x_229_149  : exG TB d 229 149 (a0 :: a1 :: a2 :: a3 :: a4 :: a5 :: a6 :: a7 :: a8 :: some v :: r9) st A = rg v (exG TB d 229 151 (a0 :: a1 :: a2 :: a3 :: a4 :: a5 :: a6 :: a7 :: a8 :: some v :: r9) (v :: st) A) := x_rg (op := o_aload 9 2) rfl rfl
theorem x_229_151  : exG TB d 229 151 L (.ref p :: st) A = kv (gf A p 62) d 229 154 L st A := x_bd (op := o_get 62) rfl rfl (fun _ => rfl)
theorem x_229_154  : exG TB d 229 154 L (.int i2 :: .int i1 :: st) A = exG TB d 229 155 L (.int (i1 + i2) :: st) A := x_nx (op := o_iop (fun x y => x + y)) rfl rfl
theorem x_229_155  : exG TB d 229 155 (a0 :: a1 :: a2 :: a3 :: a4 :: some (.int i1) :: r9) st A = exG TB d 229 157 (a0 :: a1 :: a2 :: a3 :: a4 :: some (.int i1) :: r9) (.int i1 :: st) A := x_nx (op := o_iload 5 2) rfl rfl
theorem x_229_157  : exG TB d 229 157 (a0 :: a1 :: a2 :: a3 :: a4 :: a5 :: a6 :: some (.int i1) :: r9) st A = exG TB d 229 159 (a0 :: a1 :: a2 :: a3 :: a4 :: a5 :: a6 :: some (.int i1) :: r9) (.int i1 :: st) A := x_nx (op := o_iload 7 2) rfl rfl
theorem x_229_159  : exG TB d 229 159 L (.int i2 :: .int i1 :: st) A = exG TB d 229 160 L (.int (i1 + i2) :: st) A := x_nx (op := o_iop (fun x y => x + y)) rfl rfl
theorem x_229_160  : exG TB d 229 160 L [b4, b3, b2, b1, b0, .ref p] A = kw0 (sel (gc A p) [(16, 229), (15, 229)]) [.ref p, b0, b1, b2, b3, b4] d 229 163 L [] A := x_c0b (op := o_cv [(16, 229), (15, 229)] 5 3 true none) rfl rfl x_noh rfl
theorem x_229_163  : exG TB d 229 163 (a0 :: a1 :: a2 :: a3 :: a4 :: a5 :: a6 :: a7 :: some (.int i1) :: r9) st A = exG TB d 229 166 (a0 :: a1 :: a2 :: a3 :: a4 :: a5 :: a6 :: a7 :: some (.int (i1 + (nI 1))) :: r9) st A := x_nx (op := o_iinc 8 1) rfl rfl
theorem x_229_166  : exG TB d 229 166 L st A = exG TB d 229 75 L st A := x_nx (op := o_goto 75) rfl rfl
theorem x_229_169  : exG TB d 229 169 L [] A = some (.inl none, A) := x_out (op := o_vret) rfl rfl
theorem e_230  : evG TB (d + 1) 230 [.ref p] A = exG TB d 230 0 [some (.ref p)] [] A := evG_eq TB d 230 _ A
theorem x_230_0  : exG TB d 230 0 (some v :: r9) st A = rg v (exG TB d 230 1 (some v :: r9) (v :: st) A) := x_rg (op := o_aload 0 1) rfl rfl
theorem x_230_1  : exG TB d 230 1 L (.ref p :: st) A = kv (gf A p 81) d 230 4 L st A := x_bd (op := o_get 81) rfl rfl (fun _ => rfl)
theorem x_230_4  : exG TB d 230 4 L st A = exG TB d 230 5 L (.int nN :: st) A := x_nx (op := o_push 1 (.int (-1))) rfl rfl
theorem x_230_5  : exG TB d 230 5 L (.int i2 :: .int i1 :: st) A = if i1 = i2 then exG TB d 230 12 L st A else exG TB d 230 8 L st A := x_if (op := o_icmp (fun x y => decide (x = y)) 12) rfl rfl rfl
theorem x_230_8  : exG TB d 230 8 L st A = exG TB d 230 9 L (.int (nI 1) :: st) A := x_nx (op := o_push 1 (.int 1)) rfl rfl
theorem x_230_9  : exG TB d 230 9 L st A = exG TB d 230 13 L st A := x_nx (op := o_goto 13) rfl rfl
theorem x_230_12  : exG TB d 230 12 L st A = exG TB d 230 13 L (.int (nI 0) :: st) A := x_nx (op := o_push 1 (.int 0)) rfl rfl
theorem x_230_13  : exG TB d 230 13 L [v] A = ck (okv 5 v) (some (.inl (some v), A)) := x_outg (op := o_ret 5) rfl rfl
theorem e_231 {j3 : Int32} {j4 : Int32} {j5 : Int32} : evG TB (d + 1) 231 [.ref p, b1, b2, .int j3, .int j4, .int j5] A = rg b1 (rg b2 (exG TB d 231 0 [some (.ref p), some (b1), some (b2), some (.int j3), some (.int j4), some (.int j5)] [] A)) := by
  rw [evG_eq]
  show (bif (true && (isR b1 && (isR b2 && (true && (true && (true && true)))))) then exG TB d 231 0 [some (.ref p), some (b1), some (b2), some (.int j3), some (.int j4), some (.int j5)] [] A else none) = _
  unfold rg
  cases isR b1 <;> cases isR b2 <;> rfl
theorem x_231_0  : exG TB d 231 0 (some v :: r9) st A = rg v (exG TB d 231 1 (some v :: r9) (v :: st) A) := x_rg (op := o_aload 0 1) rfl rfl
theorem x_231_1  : exG TB d 231 1 (a0 :: some v :: r9) st A = rg v (exG TB d 231 2 (a0 :: some v :: r9) (v :: st) A) := x_rg (op := o_aload 1 1) rfl rfl
theorem x_231_2  : exG TB d 231 2 (a0 :: a1 :: a2 :: some (.int i1) :: r9) st A = exG TB d 231 3 (a0 :: a1 :: a2 :: some (.int i1) :: r9) (.int i1 :: st) A := x_nx (op := o_iload 3 1) rfl rfl
theorem x_231_3  : exG TB d 231 3 (a0 :: a1 :: a2 :: a3 :: some (.int i1) :: r9) st A = exG TB d 231 5 (a0 :: a1 :: a2 :: a3 :: some (.int i1) :: r9) (.int i1 :: st) A := x_nx (op := o_iload 4 2) rfl rfl
theorem x_231_5  : exG TB d 231 5 L [b2, b1, b0, .ref p] A = kc0 (evG TB d 227 [.ref p, b0, b1, b2] A) d 231 8 L [] := x_c0 (op := o_ci 227 3) rfl rfl x_noh rfl
theorem x_231_8  : exG TB d 231 8 (some v :: r9) st A = rg v (exG TB d 231 9 (some v :: r9) (v :: st) A) := x_rg (op := o_aload 0 1) rfl rfl
theorem x_231_9  : exG TB d 231 9 (a0 :: a1 :: a2 :: a3 :: a4 :: some (.int i1) :: r9) st A = exG TB d 231 11 (a0 :: a1 :: a2 :: a3 :: a4 :: some (.int i1) :: r9) (.int i1 :: st) A := x_nx (op := o_iload 5 2) rfl rfl
theorem x_231_11  : exG TB d 231 11 L (v :: .ref p :: st) A = ck ((gf A p 82).isSome && okv 1 v) (exG TB d 231 14 L st (setf A p 82 v)) := x_gd (op := o_put 82 1) rfl rfl
theorem x_231_14  : exG TB d 231 14 (some v :: r9) st A = rg v (exG TB d 231 15 (some v :: r9) (v :: st) A) := x_rg (op := o_aload 0 1) rfl rfl
theorem x_231_15  : exG TB d 231 15 (a0 :: a1 :: some v :: r9) st A = rg v (exG TB d 231 16 (a0 :: a1 :: some v :: r9) (v :: st) A) := x_rg (op := o_aload 2 1) rfl rfl
theorem x_231_16  : exG TB d 231 16 L st A = exG TB d 231 17 L (.int (nI 2) :: st) A := x_nx (op := o_push 1 (.int 2)) rfl rfl
theorem x_231_17  : exG TB d 231 17 L (.int i1 :: .ref p :: st) A = ki (rdI 0 (ga A p) i1) d 231 18 L st A := x_bd (op := o_rdI 0) rfl rfl (fun _ => rfl)
theorem x_231_18  : exG TB d 231 18 L (v :: .ref p :: st) A = ck ((gf A p 83).isSome && okv 1 v) (exG TB d 231 21 L st (setf A p 83 v)) := x_gd (op := o_put 83 1) rfl rfl
theorem x_231_21  : exG TB d 231 21 (some v :: r9) st A = rg v (exG TB d 231 22 (some v :: r9) (v :: st) A) := x_rg (op := o_aload 0 1) rfl rfl
theorem x_231_22  : exG TB d 231 22 (a0 :: a1 :: some v :: r9) st A = rg v (exG TB d 231 23 (a0 :: a1 :: some v :: r9) (v :: st) A) := x_rg (op := o_aload 2 1) rfl rfl
theorem x_231_23  : exG TB d 231 23 L st A = exG TB d 231 24 L (.int (nI 3) :: st) A := x_nx (op := o_push 1 (.int 3)) rfl rfl
theorem x_231_24  : exG TB d 231 24 L (.int i1 :: .ref p :: st) A = ki (rdI 0 (ga A p) i1) d 231 25 L st A := x_bd (op := o_rdI 0) rfl rfl (fun _ => rfl)
theorem x_231_25  : exG TB d 231 25 L (v :: .ref p :: st) A = ck ((gf A p 84).isSome && okv 1 v) (exG TB d 231 28 L st (setf A p 84 v)) := x_gd (op := o_put 84 1) rfl rfl
theorem x_231_28  : exG TB d 231 28 L [] A = some (.inl none, A) := x_out (op := o_vret) rfl rfl
theorem e_232 {j1 : Int32} {j2 : Int32} {j3 : Int32} {j4 : Int32} : evG TB (d + 1) 232 [.ref p, .int j1, .int j2, .int j3, .int j4] A = exG TB d 232 0 [some (.ref p), some (.int j1), some (.int j2), some (.int j3), some (.int j4), none, none] [] A := evG_eq TB d 232 _ A
theorem x_232_0  : exG TB d 232 0 (a0 :: a1 :: a2 :: a3 :: some (.int i1) :: r9) st A = exG TB d 232 2 (a0 :: a1 :: a2 :: a3 :: some (.int i1) :: r9) (.int i1 :: st) A := x_nx (op := o_iload 4 2) rfl rfl
theorem x_232_2  : exG TB d 232 2 (some v :: r9) st A = rg v (exG TB d 232 3 (some v :: r9) (v :: st) A) := x_rg (op := o_aload 0 1) rfl rfl
theorem x_232_3  : exG TB d 232 3 L (.ref p :: st) A = kv (gf A p 83) d 232 6 L st A := x_bd (op := o_get 83) rfl rfl (fun _ => rfl)
theorem x_232_6  : exG TB d 232 6 (some v :: r9) st A = rg v (exG TB d 232 7 (some v :: r9) (v :: st) A) := x_rg (op := o_aload 0 1) rfl rfl
theorem x_232_7  : exG TB d 232 7 L (.ref p :: st) A = kv (gf A p 82) d 232 10 L st A := x_bd (op := o_get 82) rfl rfl (fun _ => rfl)
theorem x_232_10  : exG TB d 232 10 (a0 :: a1 :: some (.int i1) :: r9) st A = exG TB d 232 11 (a0 :: a1 :: some (.int i1) :: r9) (.int i1 :: st) A := x_nx (op := o_iload 2 1) rfl rfl
theorem x_232_11  : exG TB d 232 11 L (.int i2 :: .int i1 :: st) A = exG TB d 232 12 L (.int (i1 - i2) :: st) A := x_nx (op := o_iop (fun x y => x - y)) rfl rfl
theorem x_232_12  : exG TB d 232 12 L [b0, w0, w1] A = kc (evG TB d 8 [b0] A) d 232 15 L [w0, w1] := x_cv (op := o_cs 8 1 false none) rfl rfl x_noh rfl
theorem x_232_15  : exG TB d 232 15 L (.int i2 :: .int i1 :: st) A = exG TB d 232 16 L (.int (i1 * i2) :: st) A := x_nx (op := o_iop (fun x y => x * y)) rfl rfl
theorem x_232_16  : exG TB d 232 16 L (.int i2 :: .int i1 :: st) A = exG TB d 232 17 L (.int (i1 + i2) :: st) A := x_nx (op := o_iop (fun x y => x + y)) rfl rfl
theorem x_232_17  : exG TB d 232 17 (a0 :: a1 :: a2 :: a3 :: a4 :: a5 :: r9) (.int i1 :: st) A = exG TB d 232 19 (a0 :: a1 :: a2 :: a3 :: a4 :: some (.int i1) :: r9) st A := x_nx (op := o_istore 5 2) rfl rfl
theorem x_232_19  : exG TB d 232 19 (a0 :: a1 :: some (.int i1) :: r9) st A = exG TB d 232 20 (a0 :: a1 :: some (.int i1) :: r9) (.int i1 :: st) A := x_nx (op := o_iload 2 1) rfl rfl
theorem x_232_20  : exG TB d 232 20 (some v :: r9) st A = rg v (exG TB d 232 21 (some v :: r9) (v :: st) A) := x_rg (op := o_aload 0 1) rfl rfl
theorem x_232_21  : exG TB d 232 21 L (.ref p :: st) A = kv (gf A p 84) d 232 24 L st A := x_bd (op := o_get 84) rfl rfl (fun _ => rfl)
theorem x_232_24  : exG TB d 232 24 L (.int i2 :: .int i1 :: st) A = exG TB d 232 25 L (.int (i1 * i2) :: st) A := x_nx (op := o_iop (fun x y => x * y)) rfl rfl
theorem x_232_25  : exG TB d 232 25 (some v :: r9) st A = rg v (exG TB d 232 26 (some v :: r9) (v :: st) A) := x_rg (op := o_aload 0 1) rfl rfl
theorem x_232_26  : exG TB d 232 26 L (.ref p :: st) A = kv (gf A p 82) d 232 29 L st A := x_bd (op := o_get 82) rfl rfl (fun _ => rfl)
theorem x_232_29  : exG TB d 232 29 L st A = exG TB d 232 31 L (.int (nI 100) :: st) A := x_nx (op := o_push 2 (.int 100)) rfl rfl
theorem x_232_31  : exG TB d 232 31 L (.int i2 :: .int i1 :: st) A = exG TB d 232 32 L (.int (i1 * i2) :: st) A := x_nx (op := o_iop (fun x y => x * y)) rfl rfl
theorem x_232_32  : exG TB d 232 32 L (.int i2 :: .int i1 :: st) A = if i2 < i1 then exG TB d 232 39 L st A else exG TB d 232 35 L st A := x_if (op := o_icmp (fun x y => decide (y < x)) 39) rfl rfl rfl
theorem x_232_35  : exG TB d 232 35 L st A = exG TB d 232 36 L (.int (nI 1) :: st) A := x_nx (op := o_push 1 (.int 1)) rfl rfl
theorem x_232_36  : exG TB d 232 36 L st A = exG TB d 232 40 L st A := x_nx (op := o_goto 40) rfl rfl
theorem x_232_39  : exG TB d 232 39 L st A = exG TB d 232 40 L (.int (nI 0) :: st) A := x_nx (op := o_push 1 (.int 0)) rfl rfl
theorem x_232_40  : exG TB d 232 40 (a0 :: a1 :: a2 :: a3 :: a4 :: a5 :: a6 :: r9) (.int i1 :: st) A = exG TB d 232 42 (a0 :: a1 :: a2 :: a3 :: a4 :: a5 :: some (.int i1) :: r9) st A := x_nx (op := o_istore 6 2) rfl rfl
theorem x_232_42  : exG TB d 232 42 (a0 :: a1 :: a2 :: a3 :: a4 :: a5 :: some (.int i1) :: r9) st A = exG TB d 232 44 (a0 :: a1 :: a2 :: a3 :: a4 :: a5 :: some (.int i1) :: r9) (.int i1 :: st) A := x_nx (op := o_iload 6 2) rfl rfl
theorem x_232_44  : exG TB d 232 44 L (.int i1 :: st) A = if i1 = nI 0 then exG TB d 232 80 L st A else exG TB d 232 47 L st A := x_if (op := o_if (fun x => decide (x = 0)) 80) rfl rfl rfl
theorem x_232_47  : exG TB d 232 47 (some v :: r9) st A = rg v (exG TB d 232 48 (some v :: r9) (v :: st) A) := x_rg (op := o_aload 0 1) rfl rfl
theorem x_232_48  : exG TB d 232 48 L [.ref p] A = kw (sel (gc A p) [(15, 230)]) [.ref p] d 232 51 L [] A := x_cvb (op := o_cv [(15, 230)] 0 3 false none) rfl rfl x_noh rfl
theorem x_232_51  : exG TB d 232 51 L (.int i1 :: st) A = if i1 = nI 0 then exG TB d 232 82 L st A else exG TB d 232 54 L st A := x_if (op := o_if (fun x => decide (x = 0)) 82) rfl rfl rfl
theorem x_232_54  : exG TB d 232 54 (a0 :: a1 :: a2 :: a3 :: a4 :: some (.int i1) :: r9) st A = exG TB d 232 56 (a0 :: a1 :: a2 :: a3 :: a4 :: some (.int i1) :: r9) (.int i1 :: st) A := x_nx (op := o_iload 5 2) rfl rfl
theorem x_232_56  : exG TB d 232 56 (some v :: r9) st A = rg v (exG TB d 232 57 (some v :: r9) (v :: st) A) := x_rg (op := o_aload 0 1) rfl rfl
theorem x_232_57  : exG TB d 232 57 L (.ref p :: st) A = kv (gf A p 85) d 232 60 L st A := x_bd (op := o_get 85) rfl rfl (fun _ => rfl)
theorem x_232_60  : exG TB d 232 60 L (.int i2 :: .int i1 :: st) A = if i2 < i1 then exG TB d 232 80 L st A else exG TB d 232 63 L st A := x_if (op := o_icmp (fun x y => decide (y < x)) 80) rfl rfl rfl
theorem x_232_63  : exG TB d 232 63 (a0 :: a1 :: a2 :: a3 :: a4 :: some (.int i1) :: r9) st A = exG TB d 232 65 (a0 :: a1 :: a2 :: a3 :: a4 :: some (.int i1) :: r9) (.int i1 :: st) A := x_nx (op := o_iload 5 2) rfl rfl
theorem x_232_65  : exG TB d 232 65 (some v :: r9) st A = rg v (exG TB d 232 66 (some v :: r9) (v :: st) A) := x_rg (op := o_aload 0 1) rfl rfl
theorem x_232_66  : exG TB d 232 66 L (.ref p :: st) A = kv (gf A p 85) d 232 69 L st A := x_bd (op := o_get 85) rfl rfl (fun _ => rfl)
theorem x_232_69  : exG TB d 232 69 L (.int i2 :: .int i1 :: st) A = if ¬ i1 = i2 then exG TB d 232 82 L st A else exG TB d 232 72 L st A := x_if (op := o_icmp (fun x y => decide (¬ x = y)) 82) rfl rfl rfl
theorem x_232_72  : exG TB d 232 72 (a0 :: some (.int i1) :: r9) st A = exG TB d 232 73 (a0 :: some (.int i1) :: r9) (.int i1 :: st) A := x_nx (op := o_iload 1 1) rfl rfl
theorem x_232_73  : exG TB d 232 73 (some v :: r9) st A = rg v (exG TB d 232 74 (some v :: r9) (v :: st) A) := x_rg (op := o_aload 0 1) rfl rfl
theorem x_232_74  : exG TB d 232 74 L (.ref p :: st) A = kv (gf A p 81) d 232 77 L st A := x_bd (op := o_get 81) rfl rfl (fun _ => rfl)
theorem x_232_77  : exG TB d 232 77 L (.int i2 :: .int i1 :: st) A = if i1 < i2 then exG TB d 232 82 L st A else exG TB d 232 80 L st A := x_if (op := o_icmp (fun x y => decide (x < y)) 82) rfl rfl rfl
theorem x_232_80  : exG TB d 232 80 L st A = exG TB d 232 81 L (.int (nI 0) :: st) A := x_nx (op := o_push 1 (.int 0)) rfl rfl
theorem x_232_81  : exG TB d 232 81 L [v] A = ck (okv 5 v) (some (.inl (some v), A)) := x_outg (op := o_ret 5) rfl rfl
theorem x_232_82  : exG TB d 232 82 (some v :: r9) st A = rg v (exG TB d 232 83 (some v :: r9) (v :: st) A) := x_rg (op := o_aload 0 1) rfl rfl
theorem x_232_83  : exG TB d 232 83 (a0 :: a1 :: a2 :: a3 :: a4 :: some (.int i1) :: r9) st A = exG TB d 232 85 (a0 :: a1 :: a2 :: a3 :: a4 :: some (.int i1) :: r9) (.int i1 :: st) A := x_nx (op := o_iload 5 2) rfl rfl
theorem x_232_85  : exG TB d 232 85 L (v :: .ref p :: st) A = ck ((gf A p 85).isSome && okv 1 v) (exG TB d 232 88 L st (setf A p 85 v)) := x_gd (op := o_put 85 1) rfl rfl
theorem x_232_88  : exG TB d 232 88 (some v :: r9) st A = rg v (exG TB d 232 89 (some v :: r9) (v :: st) A) := x_rg (op := o_aload 0 1) rfl rfl
theorem x_232_89  : exG TB d 232 89 (a0 :: a1 :: some (.int i1) :: r9) st A = exG TB d 232 90 (a0 :: a1 :: some (.int i1) :: r9) (.int i1 :: st) A := x_nx (op := o_iload 2 1) rfl rfl
theorem x_232_90  : exG TB d 232 90 L (v :: .ref p :: st) A = ck ((gf A p 86).isSome && okv 1 v) (exG TB d 232 93 L st (setf A p 86 v)) := x_gd (op := o_put 86 1) rfl rfl
theorem x_232_93  : exG TB d 232 93 (some v :: r9) st A = rg v (exG TB d 232 94 (some v :: r9) (v :: st) A) := x_rg (op := o_aload 0 1) rfl rfl
theorem x_232_94  : exG TB d 232 94 (a0 :: a1 :: a2 :: some (.int i1) :: r9) st A = exG TB d 232 95 (a0 :: a1 :: a2 :: some (.int i1) :: r9) (.int i1 :: st) A := x_nx (op := o_iload 3 1) rfl rfl
theorem x_232_95  : exG TB d 232 95 L (v :: .ref p :: st) A = ck ((gf A p 87).isSome && okv 1 v) (exG TB d 232 98 L st (setf A p 87 v)) := x_gd (op := o_put 87 1) rfl rfl
theorem x_232_98  : exG TB d 232 98 L st A = exG TB d 232 99 L (.int (nI 1) :: st) A := x_nx (op := o_push 1 (.int 1)) rfl rfl
theorem x_232_99  : exG TB d 232 99 L [v] A = ck (okv 5 v) (some (.inl (some v), A)) := x_outg (op := o_ret 5) rfl rfl
theorem e_233 {j1 : Int32} {j2 : Int32} {j3 : Int32} {j4 : Int32} : evG TB (d + 1) 233 [.ref p, .int j1, .int j2, .int j3, .int j4] A = exG TB d 233 0 [some (.ref p), some (.int j1), some (.int j2), some (.int j3), some (.int j4)] [] A := evG_eq TB d 233 _ A
theorem x_233_0  : exG TB d 233 0 (some v :: r9) st A = rg v (exG TB d 233 1 (some v :: r9) (v :: st) A) := x_rg (op := o_aload 0 1) rfl rfl
theorem x_233_1  : exG TB d 233 1 L [.ref p] A = kw (sel (gc A p) [(16, 230)]) [.ref p] d 233 4 L [] A := x_cvb (op := o_cv [(16, 230)] 0 3 false none) rfl rfl x_noh rfl
theorem x_233_4  : exG TB d 233 4 L (.int i1 :: st) A = if i1 = nI 0 then exG TB d 233 17 L st A else exG TB d 233 7 L st A := x_if (op := o_if (fun x => decide (x = 0)) 17) rfl rfl rfl
theorem x_233_7  : exG TB d 233 7 (a0 :: a1 :: a2 :: some (.int i1) :: r9) st A = exG TB d 233 8 (a0 :: a1 :: a2 :: some (.int i1) :: r9) (.int i1 :: st) A := x_nx (op := o_iload 3 1) rfl rfl
theorem x_233_8  : exG TB d 233 8 (some v :: r9) st A = rg v (exG TB d 233 9 (some v :: r9) (v :: st) A) := x_rg (op := o_aload 0 1) rfl rfl
theorem x_233_9  : exG TB d 233 9 L (.ref p :: st) A = kv (gf A p 88) d 233 12 L st A := x_bd (op := o_get 88) rfl rfl (fun _ => rfl)
theorem x_233_12  : exG TB d 233 12 L (.int i2 :: .int i1 :: st) A = if i1 < i2 then exG TB d 233 17 L st A else exG TB d 233 15 L st A := x_if (op := o_icmp (fun x y => decide (x < y)) 17) rfl rfl rfl
theorem x_233_15  : exG TB d 233 15 L st A = exG TB d 233 16 L (.int (nI 0) :: st) A := x_nx (op := o_push 1 (.int 0)) rfl rfl
theorem x_233_16  : exG TB d 233 16 L [v] A = ck (okv 5 v) (some (.inl (some v), A)) := x_outg (op := o_ret 5) rfl rfl
theorem x_233_17  : exG TB d 233 17 (some v :: r9) st A = rg v (exG TB d 233 18 (some v :: r9) (v :: st) A) := x_rg (op := o_aload 0 1) rfl rfl
theorem x_233_18  : exG TB d 233 18 (a0 :: a1 :: a2 :: some (.int i1) :: r9) st A = exG TB d 233 19 (a0 :: a1 :: a2 :: some (.int i1) :: r9) (.int i1 :: st) A := x_nx (op := o_iload 3 1) rfl rfl
theorem x_233_19  : exG TB d 233 19 L (v :: .ref p :: st) A = ck ((gf A p 88).isSome && okv 1 v) (exG TB d 233 22 L st (setf A p 88 v)) := x_gd (op := o_put 88 1) rfl rfl
theorem x_233_22  : exG TB d 233 22 L st A = exG TB d 233 23 L (.int (nI 1) :: st) A := x_nx (op := o_push 1 (.int 1)) rfl rfl
theorem x_233_23  : exG TB d 233 23 L [v] A = ck (okv 5 v) (some (.inl (some v), A)) := x_outg (op := o_ret 5) rfl rfl
theorem e_234 {j2 : Int32} {j3 : Int32} : evG TB (d + 1) 234 [.ref p, b1, .int j2, .int j3] A = rg b1 (exG TB d 234 0 [some (.ref p), some (b1), some (.int j2), some (.int j3)] [] A) := by
  rw [evG_eq]
  show (bif (true && (isR b1 && (true && (true && true)))) then exG TB d 234 0 [some (.ref p), some (b1), some (.int j2), some (.int j3)] [] A else none) = _
  unfold rg
  cases isR b1 <;> rfl
theorem x_234_0  : exG TB d 234 0 (some v :: r9) st A = rg v (exG TB d 234 1 (some v :: r9) (v :: st) A) := x_rg (op := o_aload 0 1) rfl rfl
theorem x_234_1  : exG TB d 234 1 (a0 :: some v :: r9) st A = rg v (exG TB d 234 2 (a0 :: some v :: r9) (v :: st) A) := x_rg (op := o_aload 1 1) rfl rfl
theorem x_234_2  : exG TB d 234 2 (a0 :: a1 :: some (.int i1) :: r9) st A = exG TB d 234 3 (a0 :: a1 :: some (.int i1) :: r9) (.int i1 :: st) A := x_nx (op := o_iload 2 1) rfl rfl
theorem x_234_3  : exG TB d 234 3 (a0 :: a1 :: a2 :: some (.int i1) :: r9) st A = exG TB d 234 4 (a0 :: a1 :: a2 :: some (.int i1) :: r9) (.int i1 :: st) A := x_nx (op := o_iload 3 1) rfl rfl
theorem x_234_4  : exG TB d 234 4 L [b2, b1, b0, .ref p] A = kc0 (evG TB d 227 [.ref p, b0, b1, b2] A) d 234 7 L [] := x_c0 (op := o_ci 227 3) rfl rfl x_noh rfl
theorem x_234_7  : exG TB d 234 7 (some v :: r9) st A = rg v (exG TB d 234 8 (some v :: r9) (v :: st) A) := x_rg (op := o_aload 0 1) rfl rfl
theorem x_234_8  : exG TB d 234 8 L st A = exG TB d 234 9 L (.int nN :: st) A := x_nx (op := o_push 1 (.int (-1))) rfl rfl
theorem x_234_9  : exG TB d 234 9 L (v :: .ref p :: st) A = ck ((gf A p 88).isSome && okv 1 v) (exG TB d 234 12 L st (setf A p 88 v)) := x_gd (op := o_put 88 1) rfl rfl
theorem x_234_12  : exG TB d 234 12 L [] A = some (.inl none, A) := x_out (op := o_vret) rfl rfl
theorem e_235 {j1 : Int32} {j2 : Int32} {j3 : Int32} {j4 : Int32} : evG TB (d + 1) 235 [.ref p, .int j1, .int j2, .int j3, .int j4] A = exG TB d 235 0 [some (.ref p), some (.int j1), some (.int j2), some (.int j3), some (.int j4)] [] A := evG_eq TB d 235 _ A
theorem x_235_0  : exG TB d 235 0 (some v :: r9) st A = rg v (exG TB d 235 1 (some v :: r9) (v :: st) A) := x_rg (op := o_aload 0 1) rfl rfl
theorem x_235_1  : exG TB d 235 1 L [.ref p] A = exG TB d 235 4 L [] A := x_nx (op := o_oi) rfl rfl
theorem x_235_4  : exG TB d 235 4 (some v :: r9) st A = rg v (exG TB d 235 5 (some v :: r9) (v :: st) A) := x_rg (op := o_aload 0 1) rfl rfl
theorem x_235_5  : exG TB d 235 5 L st A = exG TB d 235 6 L (.int nN :: st) A := x_nx (op := o_push 1 (.int (-1))) rfl rfl
theorem x_235_6  : exG TB d 235 6 L (v :: .ref p :: st) A = ck ((gf A p 96).isSome && okv 1 v) (exG TB d 235 9 L st (setf A p 96 v)) := x_gd (op := o_put 96 1) rfl rfl
theorem x_235_9  : exG TB d 235 9 (some v :: r9) st A = rg v (exG TB d 235 10 (some v :: r9) (v :: st) A) := x_rg (op := o_aload 0 1) rfl rfl
theorem x_235_10  : exG TB d 235 10 (a0 :: some (.int i1) :: r9) st A = exG TB d 235 11 (a0 :: some (.int i1) :: r9) (.int i1 :: st) A := x_nx (op := o_iload 1 1) rfl rfl
theorem x_235_11  : exG TB d 235 11 L (v :: .ref p :: st) A = ck ((gf A p 89).isSome && okv 1 v) (exG TB d 235 14 L st (setf A p 89 v)) := x_gd (op := o_put 89 1) rfl rfl
theorem x_235_14  : exG TB d 235 14 (some v :: r9) st A = rg v (exG TB d 235 15 (some v :: r9) (v :: st) A) := x_rg (op := o_aload 0 1) rfl rfl
theorem x_235_15  : exG TB d 235 15 (a0 :: a1 :: some (.int i1) :: r9) st A = exG TB d 235 16 (a0 :: a1 :: some (.int i1) :: r9) (.int i1 :: st) A := x_nx (op := o_iload 2 1) rfl rfl
theorem x_235_16  : exG TB d 235 16 L (v :: .ref p :: st) A = ck ((gf A p 90).isSome && okv 1 v) (exG TB d 235 19 L st (setf A p 90 v)) := x_gd (op := o_put 90 1) rfl rfl
theorem x_235_19  : exG TB d 235 19 (some v :: r9) st A = rg v (exG TB d 235 20 (some v :: r9) (v :: st) A) := x_rg (op := o_aload 0 1) rfl rfl
theorem x_235_20  : exG TB d 235 20 (a0 :: a1 :: a2 :: some (.int i1) :: r9) st A = exG TB d 235 21 (a0 :: a1 :: a2 :: some (.int i1) :: r9) (.int i1 :: st) A := x_nx (op := o_iload 3 1) rfl rfl
theorem x_235_21  : exG TB d 235 21 L (v :: .ref p :: st) A = ck ((gf A p 91).isSome && okv 1 v) (exG TB d 235 24 L st (setf A p 91 v)) := x_gd (op := o_put 91 1) rfl rfl
theorem x_235_24  : exG TB d 235 24 (some v :: r9) st A = rg v (exG TB d 235 25 (some v :: r9) (v :: st) A) := x_rg (op := o_aload 0 1) rfl rfl
theorem x_235_25  : exG TB d 235 25 (a0 :: a1 :: a2 :: a3 :: some (.int i1) :: r9) st A = exG TB d 235 27 (a0 :: a1 :: a2 :: a3 :: some (.int i1) :: r9) (.int i1 :: st) A := x_nx (op := o_iload 4 2) rfl rfl
theorem x_235_27  : exG TB d 235 27 L (v :: .ref p :: st) A = ck ((gf A p 92).isSome && okv 5 v) (exG TB d 235 30 L st (setf A p 92 v)) := x_gd (op := o_put 92 5) rfl rfl
theorem x_235_30  : exG TB d 235 30 L [] A = some (.inl none, A) := x_out (op := o_vret) rfl rfl
theorem e_236 {j1 : Int32} : evG TB (d + 1) 236 [.ref p, .int j1] A = exG TB d 236 0 [some (.ref p), some (.int j1)] [] A := evG_eq TB d 236 _ A
theorem x_236_0  : exG TB d 236 0 (a0 :: some (.int i1) :: r9) st A = exG TB d 236 1 (a0 :: some (.int i1) :: r9) (.int i1 :: st) A := x_nx (op := o_iload 1 1) rfl rfl
theorem x_236_1  : exG TB d 236 1 L (.int i1 :: st) A = exG TB d 236 (swt 0 [40, 45, 50, 55, 68, 73] 78 i1) L st A := x_nx (op := o_sw (swt 0 [40, 45, 50, 55, 68, 73] 78)) rfl rfl
theorem x_236_40  : exG TB d 236 40 (some v :: r9) st A = rg v (exG TB d 236 41 (some v :: r9) (v :: st) A) := x_rg (op := o_aload 0 1) rfl rfl
theorem x_236_41  : exG TB d 236 41 L (.ref p :: st) A = kv (gf A p 93) d 236 44 L st A := x_bd (op := o_get 93) rfl rfl (fun _ => rfl)
theorem x_236_44  : exG TB d 236 44 L [v] A = ck (okv 1 v) (some (.inl (some v), A)) := x_outg (op := o_ret 1) rfl rfl
theorem x_236_45  : exG TB d 236 45 (some v :: r9) st A = rg v (exG TB d 236 46 (some v :: r9) (v :: st) A) := x_rg (op := o_aload 0 1) rfl rfl
theorem x_236_46  : exG TB d 236 46 L (.ref p :: st) A = kv (gf A p 90) d 236 49 L st A := x_bd (op := o_get 90) rfl rfl (fun _ => rfl)
theorem x_236_49  : exG TB d 236 49 L [v] A = ck (okv 1 v) (some (.inl (some v), A)) := x_outg (op := o_ret 1) rfl rfl
theorem x_236_50  : exG TB d 236 50 (some v :: r9) st A = rg v (exG TB d 236 51 (some v :: r9) (v :: st) A) := x_rg (op := o_aload 0 1) rfl rfl
theorem x_236_51  : exG TB d 236 51 L (.ref p :: st) A = kv (gf A p 91) d 236 54 L st A := x_bd (op := o_get 91) rfl rfl (fun _ => rfl)
theorem x_236_54  : exG TB d 236 54 L [v] A = ck (okv 1 v) (some (.inl (some v), A)) := x_outg (op := o_ret 1) rfl rfl
theorem x_236_55  : exG TB d 236 55 (some v :: r9) st A = rg v (exG TB d 236 56 (some v :: r9) (v :: st) A) := x_rg (op := o_aload 0 1) rfl rfl
theorem x_236_56  : exG TB d 236 56 L (.ref p :: st) A = kv (gf A p 92) d 236 59 L st A := x_bd (op := o_get 92) rfl rfl (fun _ => rfl)
theorem x_236_59  : exG TB d 236 59 L (.int i1 :: st) A = if i1 = nI 0 then exG TB d 236 66 L st A else exG TB d 236 62 L st A := x_if (op := o_if (fun x => decide (x = 0)) 66) rfl rfl rfl
theorem x_236_62  : exG TB d 236 62 L st A = exG TB d 236 63 L (.int (nI 1) :: st) A := x_nx (op := o_push 1 (.int 1)) rfl rfl
theorem x_236_63  : exG TB d 236 63 L st A = exG TB d 236 67 L st A := x_nx (op := o_goto 67) rfl rfl
theorem x_236_66  : exG TB d 236 66 L st A = exG TB d 236 67 L (.int (nI 0) :: st) A := x_nx (op := o_push 1 (.int 0)) rfl rfl
theorem x_236_67  : exG TB d 236 67 L [v] A = ck (okv 1 v) (some (.inl (some v), A)) := x_outg (op := o_ret 1) rfl rfl
theorem x_236_68  : exG TB d 236 68 (some v :: r9) st A = rg v (exG TB d 236 69 (some v :: r9) (v :: st) A) := x_rg (op := o_aload 0 1) rfl rfl
theorem x_236_69  : exG TB d 236 69 L (.ref p :: st) A = kv (gf A p 94) d 236 72 L st A := x_bd (op := o_get 94) rfl rfl (fun _ => rfl)
theorem x_236_72  : exG TB d 236 72 L [v] A = ck (okv 1 v) (some (.inl (some v), A)) := x_outg (op := o_ret 1) rfl rfl
theorem x_236_73  : exG TB d 236 73 (some v :: r9) st A = rg v (exG TB d 236 74 (some v :: r9) (v :: st) A) := x_rg (op := o_aload 0 1) rfl rfl
theorem x_236_74  : exG TB d 236 74 L (.ref p :: st) A = kv (gf A p 95) d 236 77 L st A := x_bd (op := o_get 95) rfl rfl (fun _ => rfl)
theorem x_236_77  : exG TB d 236 77 L [v] A = ck (okv 1 v) (some (.inl (some v), A)) := x_outg (op := o_ret 1) rfl rfl
theorem x_236_78  : exG TB d 236 78 (some v :: r9) st A = rg v (exG TB d 236 79 (some v :: r9) (v :: st) A) := x_rg (op := o_aload 0 1) rfl rfl
theorem x_236_79  : exG TB d 236 79 L (.ref p :: st) A = kv (gf A p 96) d 236 82 L st A := x_bd (op := o_get 96) rfl rfl (fun _ => rfl)
theorem x_236_82  : exG TB d 236 82 L [v] A = ck (okv 1 v) (some (.inl (some v), A)) := x_outg (op := o_ret 1) rfl rfl
theorem e_237  : evG TB (d + 1) 237 [.ref p] A = exG TB d 237 0 [some (.ref p), none] [] A := evG_eq TB d 237 _ A
theorem x_237_0  : exG TB d 237 0 L st A = exG TB d 237 3 L (.ref (nx A) :: st) (newo A 17 8 dv17) := x_nx (op := o_new 17 8 dv17) rfl rfl
theorem x_237_3  : exG TB d 237 3 L (v :: st) A = ck (c1 v) (exG TB d 237 4 L (v :: v :: st) A) := x_gd (op := o_dup) rfl rfl
theorem x_237_4  : exG TB d 237 4 (some v :: r9) st A = rg v (exG TB d 237 5 (some v :: r9) (v :: st) A) := x_rg (op := o_aload 0 1) rfl rfl
theorem x_237_5  : exG TB d 237 5 L (.ref p :: st) A = kv (gf A p 89) d 237 8 L st A := x_bd (op := o_get 89) rfl rfl (fun _ => rfl)
theorem x_237_8  : exG TB d 237 8 (some v :: r9) st A = rg v (exG TB d 237 9 (some v :: r9) (v :: st) A) := x_rg (op := o_aload 0 1) rfl rfl
theorem x_237_9  : exG TB d 237 9 L (.ref p :: st) A = kv (gf A p 90) d 237 12 L st A := x_bd (op := o_get 90) rfl rfl (fun _ => rfl)
theorem x_237_12  : exG TB d 237 12 (some v :: r9) st A = rg v (exG TB d 237 13 (some v :: r9) (v :: st) A) := x_rg (op := o_aload 0 1) rfl rfl
theorem x_237_13  : exG TB d 237 13 L (.ref p :: st) A = kv (gf A p 91) d 237 16 L st A := x_bd (op := o_get 91) rfl rfl (fun _ => rfl)
theorem x_237_16  : exG TB d 237 16 (some v :: r9) st A = rg v (exG TB d 237 17 (some v :: r9) (v :: st) A) := x_rg (op := o_aload 0 1) rfl rfl
theorem x_237_17  : exG TB d 237 17 L (.ref p :: st) A = kv (gf A p 92) d 237 20 L st A := x_bd (op := o_get 92) rfl rfl (fun _ => rfl)
theorem x_237_20  : exG TB d 237 20 L [b3, b2, b1, b0, .ref p, w0] A = kc0 (evG TB d 235 [.ref p, b0, b1, b2, b3] A) d 237 23 L [w0] := x_c0 (op := o_ci 235 4) rfl rfl x_noh rfl
theorem x_237_23  : exG TB d 237 23 (a0 :: a1 :: r9) (v :: st) A = rg v (exG TB d 237 24 (a0 :: some v :: r9) st A) := x_rgt (op := o_astore 1 1) rfl rfl
theorem x_237_24  : exG TB d 237 24 (a0 :: some v :: r9) st A = rg v (exG TB d 237 25 (a0 :: some v :: r9) (v :: st) A) := x_rg (op := o_aload 1 1) rfl rfl
theorem x_237_25  : exG TB d 237 25 (some v :: r9) st A = rg v (exG TB d 237 26 (some v :: r9) (v :: st) A) := x_rg (op := o_aload 0 1) rfl rfl
theorem x_237_26  : exG TB d 237 26 L (.ref p :: st) A = kv (gf A p 93) d 237 29 L st A := x_bd (op := o_get 93) rfl rfl (fun _ => rfl)
theorem x_237_29  : exG TB d 237 29 L (v :: .ref p :: st) A = ck ((gf A p 93).isSome && okv 1 v) (exG TB d 237 32 L st (setf A p 93 v)) := x_gd (op := o_put 93 1) rfl rfl
theorem x_237_32  : exG TB d 237 32 (a0 :: some v :: r9) st A = rg v (exG TB d 237 33 (a0 :: some v :: r9) (v :: st) A) := x_rg (op := o_aload 1 1) rfl rfl
theorem x_237_33  : exG TB d 237 33 (some v :: r9) st A = rg v (exG TB d 237 34 (some v :: r9) (v :: st) A) := x_rg (op := o_aload 0 1) rfl rfl
theorem x_237_34  : exG TB d 237 34 L (.ref p :: st) A = kv (gf A p 94) d 237 37 L st A := x_bd (op := o_get 94) rfl rfl (fun _ => rfl)
theorem x_237_37  : exG TB d 237 37 L (v :: .ref p :: st) A = ck ((gf A p 94).isSome && okv 1 v) (exG TB d 237 40 L st (setf A p 94 v)) := x_gd (op := o_put 94 1) rfl rfl
theorem x_237_40  : exG TB d 237 40 (a0 :: some v :: r9) st A = rg v (exG TB d 237 41 (a0 :: some v :: r9) (v :: st) A) := x_rg (op := o_aload 1 1) rfl rfl
theorem x_237_41  : exG TB d 237 41 (some v :: r9) st A = rg v (exG TB d 237 42 (some v :: r9) (v :: st) A) := x_rg (op := o_aload 0 1) rfl rfl
theorem x_237_42  : exG TB d 237 42 L (.ref p :: st) A = kv (gf A p 95) d 237 45 L st A := x_bd (op := o_get 95) rfl rfl (fun _ => rfl)
theorem x_237_45  : exG TB d 237 45 L (v :: .ref p :: st) A = ck ((gf A p 95).isSome && okv 1 v) (exG TB d 237 48 L st (setf A p 95 v)) := x_gd (op := o_put 95 1) rfl rfl
theorem x_237_48  : exG TB d 237 48 (a0 :: some v :: r9) st A = rg v (exG TB d 237 49 (a0 :: some v :: r9) (v :: st) A) := x_rg (op := o_aload 1 1) rfl rfl
theorem x_237_49  : exG TB d 237 49 (some v :: r9) st A = rg v (exG TB d 237 50 (some v :: r9) (v :: st) A) := x_rg (op := o_aload 0 1) rfl rfl
theorem x_237_50  : exG TB d 237 50 L (.ref p :: st) A = kv (gf A p 96) d 237 53 L st A := x_bd (op := o_get 96) rfl rfl (fun _ => rfl)
theorem x_237_53  : exG TB d 237 53 L (v :: .ref p :: st) A = ck ((gf A p 96).isSome && okv 1 v) (exG TB d 237 56 L st (setf A p 96 v)) := x_gd (op := o_put 96 1) rfl rfl
theorem x_237_56  : exG TB d 237 56 (a0 :: some v :: r9) st A = rg v (exG TB d 237 57 (a0 :: some v :: r9) (v :: st) A) := x_rg (op := o_aload 1 1) rfl rfl
theorem x_237_57  : exG TB d 237 57 L [v] A = ck (okv 0 v) (some (.inl (some v), A)) := x_outg (op := o_ret 0) rfl rfl
theorem e_238  : evG TB (d + 1) 238 [.ref p, b1] A = rg b1 (exG TB d 238 0 [some (.ref p), some (b1)] [] A) := by
  rw [evG_eq]
  show (bif (true && (isR b1 && true)) then exG TB d 238 0 [some (.ref p), some (b1)] [] A else none) = _
  unfold rg
  cases isR b1 <;> rfl
theorem x_238_0  : exG TB d 238 0 (some v :: r9) st A = rg v (exG TB d 238 1 (some v :: r9) (v :: st) A) := x_rg (op := o_aload 0 1) rfl rfl
theorem x_238_1  : exG TB d 238 1 L [.ref p] A = exG TB d 238 4 L [] A := x_nx (op := o_oi) rfl rfl
theorem x_238_4  : exG TB d 238 4 (some v :: r9) st A = rg v (exG TB d 238 5 (some v :: r9) (v :: st) A) := x_rg (op := o_aload 0 1) rfl rfl
theorem x_238_5  : exG TB d 238 5 (a0 :: some v :: r9) st A = rg v (exG TB d 238 6 (a0 :: some v :: r9) (v :: st) A) := x_rg (op := o_aload 1 1) rfl rfl
theorem x_238_6  : exG TB d 238 6 L (v :: .ref p :: st) A = ck ((gf A p 101).isSome && okv 0 v) (exG TB d 238 9 L st (setf A p 101 v)) := x_gd (op := o_put 101 0) rfl rfl
theorem x_238_9  : exG TB d 238 9 L [] A = some (.inl none, A) := x_out (op := o_vret) rfl rfl
theorem e_239  : evG TB (d + 1) 239 [.ref p, b1, b2] A = rg b1 (rg b2 (exG TB d 239 0 [some (.ref p), some (b1), some (b2)] [] A)) := by
  rw [evG_eq]
  show (bif (true && (isR b1 && (isR b2 && true))) then exG TB d 239 0 [some (.ref p), some (b1), some (b2)] [] A else none) = _
  unfold rg
  cases isR b1 <;> cases isR b2 <;> rfl
theorem x_239_0  : exG TB d 239 0 (some v :: r9) st A = rg v (exG TB d 239 1 (some v :: r9) (v :: st) A) := x_rg (op := o_aload 0 1) rfl rfl
theorem x_239_1  : exG TB d 239 1 (a0 :: some v :: r9) st A = rg v (exG TB d 239 2 (a0 :: some v :: r9) (v :: st) A) := x_rg (op := o_aload 1 1) rfl rfl
theorem x_239_2n  : exG TB d 239 2 L (.null :: st) A = exG TB d 239 5 L (.null :: st) A := x_nx (op := o_cast [17]) rfl rfl
theorem x_239_2r  : exG TB d 239 2 L (.ref p :: st) A = ck (cin (gcs A p) [17]) (exG TB d 239 5 L (.ref p :: st) A) := x_gd (op := o_cast [17]) rfl rfl
theorem x_239_5  : exG TB d 239 5 (a0 :: a1 :: some v :: r9) st A = rg v (exG TB d 239 6 (a0 :: a1 :: some v :: r9) (v :: st) A) := x_rg (op := o_aload 2 1) rfl rfl
theorem x_239_6n  : exG TB d 239 6 L (.null :: st) A = exG TB d 239 9 L (.null :: st) A := x_nx (op := o_cast [17]) rfl rfl
theorem x_239_6r  : exG TB d 239 6 L (.ref p :: st) A = ck (cin (gcs A p) [17]) (exG TB d 239 9 L (.ref p :: st) A) := x_gd (op := o_cast [17]) rfl rfl
theorem x_239_9  : exG TB d 239 9 L [b1, b0, .ref p] A = kw (sel (gc A p) [(19, 240)]) [.ref p, b0, b1] d 239 12 L [] A := x_cvb (op := o_cv [(19, 240)] 2 3 false none) rfl rfl x_noh rfl
theorem x_239_12  : exG TB d 239 12 L [v] A = ck (okv 1 v) (some (.inl (some v), A)) := x_outg (op := o_ret 1) rfl rfl
theorem e_240  : evG TB (d + 1) 240 [.ref p, b1, b2] A = rg b1 (rg b2 (exG TB d 240 0 [some (.ref p), some (b1), some (b2)] [] A)) := by
  rw [evG_eq]
  show (bif (true && (isR b1 && (isR b2 && true))) then exG TB d 240 0 [some (.ref p), some (b1), some (b2)] [] A else none) = _
  unfold rg
  cases isR b1 <;> cases isR b2 <;> rfl
theorem x_240_0  : exG TB d 240 0 (some v :: r9) st A = rg v (exG TB d 240 1 (some v :: r9) (v :: st) A) := x_rg (op := o_aload 0 1) rfl rfl
theorem x_240_1  : exG TB d 240 1 (a0 :: some v :: r9) st A = rg v (exG TB d 240 2 (a0 :: some v :: r9) (v :: st) A) := x_rg (op := o_aload 1 1) rfl rfl
theorem x_240_2  : exG TB d 240 2 L [b0, .ref p] A = kw (sel (gc A p) [(19, 241)]) [.ref p, b0] d 240 5 L [] A := x_cvb (op := o_cv [(19, 241)] 1 3 false none) rfl rfl x_noh rfl
theorem x_240_5  : exG TB d 240 5 (some v :: r9) st A = rg v (exG TB d 240 6 (some v :: r9) (v :: st) A) := x_rg (op := o_aload 0 1) rfl rfl
theorem x_240_6  : exG TB d 240 6 (a0 :: a1 :: some v :: r9) st A = rg v (exG TB d 240 7 (a0 :: a1 :: some v :: r9) (v :: st) A) := x_rg (op := o_aload 2 1) rfl rfl
theorem x_240_7  : exG TB d 240 7 L [b0, .ref p, w0] A = kw (sel (gc A p) [(19, 241)]) [.ref p, b0] d 240 10 L [w0] A := x_cvb (op := o_cv [(19, 241)] 1 3 false none) rfl rfl x_noh rfl
theorem x_240_10  : exG TB d 240 10 L (.int i2 :: .int i1 :: st) A = if i1 = i2 then exG TB d 240 25 L st A else exG TB d 240 13 L st A := x_if (op := o_icmp (fun x y => decide (x = y)) 25) rfl rfl rfl
theorem x_240_13  : exG TB d 240 13 (some v :: r9) st A = rg v (exG TB d 240 14 (some v :: r9) (v :: st) A) := x_rg (op := o_aload 0 1) rfl rfl
theorem x_240_14  : exG TB d 240 14 (a0 :: a1 :: some v :: r9) st A = rg v (exG TB d 240 15 (a0 :: a1 :: some v :: r9) (v :: st) A) := x_rg (op := o_aload 2 1) rfl rfl
theorem x_240_15  : exG TB d 240 15 L [b0, .ref p] A = kw (sel (gc A p) [(19, 241)]) [.ref p, b0] d 240 18 L [] A := x_cvb (op := o_cv [(19, 241)] 1 3 false none) rfl rfl x_noh rfl
theorem x_240_18  : exG TB d 240 18 (some v :: r9) st A = rg v (exG TB d 240 19 (some v :: r9) (v :: st) A) := x_rg (op := o_aload 0 1) rfl rfl
theorem x_240_19  : exG TB d 240 19 (a0 :: some v :: r9) st A = rg v (exG TB d 240 20 (a0 :: some v :: r9) (v :: st) A) := x_rg (op := o_aload 1 1) rfl rfl
theorem x_240_20  : exG TB d 240 20 L [b0, .ref p, w0] A = kw (sel (gc A p) [(19, 241)]) [.ref p, b0] d 240 23 L [w0] A := x_cvb (op := o_cv [(19, 241)] 1 3 false none) rfl rfl x_noh rfl
theorem x_240_23  : exG TB d 240 23 L (.int i2 :: .int i1 :: st) A = exG TB d 240 24 L (.int (i1 - i2) :: st) A := x_nx (op := o_iop (fun x y => x - y)) rfl rfl
theorem x_240_24  : exG TB d 240 24 L [v] A = ck (okv 1 v) (some (.inl (some v), A)) := x_outg (op := o_ret 1) rfl rfl
theorem x_240_25  : exG TB d 240 25 (a0 :: some v :: r9) st A = rg v (exG TB d 240 26 (a0 :: some v :: r9) (v :: st) A) := x_rg (op := o_aload 1 1) rfl rfl
theorem x_240_26  : exG TB d 240 26 L (.ref p :: st) A = kv (gf A p 94) d 240 29 L st A := x_bd (op := o_get 94) rfl rfl (fun _ => rfl)
theorem x_240_29  : exG TB d 240 29 (a0 :: a1 :: some v :: r9) st A = rg v (exG TB d 240 30 (a0 :: a1 :: some v :: r9) (v :: st) A) := x_rg (op := o_aload 2 1) rfl rfl
theorem x_240_30  : exG TB d 240 30 L (.ref p :: st) A = kv (gf A p 94) d 240 33 L st A := x_bd (op := o_get 94) rfl rfl (fun _ => rfl)
theorem x_240_33  : exG TB d 240 33 L (.int i2 :: .int i1 :: st) A = if i1 = i2 then exG TB d 240 46 L st A else exG TB d 240 36 L st A := x_if (op := o_icmp (fun x y => decide (x = y)) 46) rfl rfl rfl
theorem x_240_36  : exG TB d 240 36 (a0 :: some v :: r9) st A = rg v (exG TB d 240 37 (a0 :: some v :: r9) (v :: st) A) := x_rg (op := o_aload 1 1) rfl rfl
theorem x_240_37  : exG TB d 240 37 L (.ref p :: st) A = kv (gf A p 94) d 240 40 L st A := x_bd (op := o_get 94) rfl rfl (fun _ => rfl)
theorem x_240_40  : exG TB d 240 40 (a0 :: a1 :: some v :: r9) st A = rg v (exG TB d 240 41 (a0 :: a1 :: some v :: r9) (v :: st) A) := x_rg (op := o_aload 2 1) rfl rfl
theorem x_240_41  : exG TB d 240 41 L (.ref p :: st) A = kv (gf A p 94) d 240 44 L st A := x_bd (op := o_get 94) rfl rfl (fun _ => rfl)
theorem x_240_44  : exG TB d 240 44 L (.int i2 :: .int i1 :: st) A = exG TB d 240 45 L (.int (i1 - i2) :: st) A := x_nx (op := o_iop (fun x y => x - y)) rfl rfl
theorem x_240_45  : exG TB d 240 45 L [v] A = ck (okv 1 v) (some (.inl (some v), A)) := x_outg (op := o_ret 1) rfl rfl
theorem x_240_46  : exG TB d 240 46 (a0 :: some v :: r9) st A = rg v (exG TB d 240 47 (a0 :: some v :: r9) (v :: st) A) := x_rg (op := o_aload 1 1) rfl rfl
theorem x_240_47  : exG TB d 240 47 L (.ref p :: st) A = kv (gf A p 91) d 240 50 L st A := x_bd (op := o_get 91) rfl rfl (fun _ => rfl)
theorem x_240_50  : exG TB d 240 50 (a0 :: a1 :: some v :: r9) st A = rg v (exG TB d 240 51 (a0 :: a1 :: some v :: r9) (v :: st) A) := x_rg (op := o_aload 2 1) rfl rfl
theorem x_240_51  : exG TB d 240 51 L (.ref p :: st) A = kv (gf A p 91) d 240 54 L st A := x_bd (op := o_get 91) rfl rfl (fun _ => rfl)
theorem x_240_54  : exG TB d 240 54 L (.int i2 :: .int i1 :: st) A = if i1 = i2 then exG TB d 240 69 L st A else exG TB d 240 57 L st A := x_if (op := o_icmp (fun x y => decide (x = y)) 69) rfl rfl rfl
theorem x_240_57  : exG TB d 240 57 (a0 :: some v :: r9) st A = rg v (exG TB d 240 58 (a0 :: some v :: r9) (v :: st) A) := x_rg (op := o_aload 1 1) rfl rfl
theorem x_240_58  : exG TB d 240 58 L (.ref p :: st) A = kv (gf A p 91) d 240 61 L st A := x_bd (op := o_get 91) rfl rfl (fun _ => rfl)
theorem x_240_61  : exG TB d 240 61 (a0 :: a1 :: some v :: r9) st A = rg v (exG TB d 240 62 (a0 :: a1 :: some v :: r9) (v :: st) A) := x_rg (op := o_aload 2 1) rfl rfl
theorem x_240_62  : exG TB d 240 62 L (.ref p :: st) A = kv (gf A p 91) d 240 65 L st A := x_bd (op := o_get 91) rfl rfl (fun _ => rfl)
theorem x_240_65  : exG TB d 240 65 L (.int i2 :: .int i1 :: st) A = exG TB d 240 66 L (.int (i1 - i2) :: st) A := x_nx (op := o_iop (fun x y => x - y)) rfl rfl
theorem x_240_66  : exG TB d 240 66 L st A = exG TB d 240 78 L st A := x_nx (op := o_goto 78) rfl rfl
theorem x_240_69  : exG TB d 240 69 (a0 :: some v :: r9) st A = rg v (exG TB d 240 70 (a0 :: some v :: r9) (v :: st) A) := x_rg (op := o_aload 1 1) rfl rfl
theorem x_240_70  : exG TB d 240 70 L (.ref p :: st) A = kv (gf A p 89) d 240 73 L st A := x_bd (op := o_get 89) rfl rfl (fun _ => rfl)
theorem x_240_73  : exG TB d 240 73 (a0 :: a1 :: some v :: r9) st A = rg v (exG TB d 240 74 (a0 :: a1 :: some v :: r9) (v :: st) A) := x_rg (op := o_aload 2 1) rfl rfl
theorem x_240_74  : exG TB d 240 74 L (.ref p :: st) A = kv (gf A p 89) d 240 77 L st A := x_bd (op := o_get 89) rfl rfl (fun _ => rfl)
theorem x_240_77  : exG TB d 240 77 L (.int i2 :: .int i1 :: st) A = exG TB d 240 78 L (.int (i1 - i2) :: st) A := x_nx (op := o_iop (fun x y => x - y)) rfl rfl
theorem x_240_78  : exG TB d 240 78 L [v] A = ck (okv 1 v) (some (.inl (some v), A)) := x_outg (op := o_ret 1) rfl rfl
theorem e_241  : evG TB (d + 1) 241 [.ref p, b1] A = rg b1 (exG TB d 241 0 [some (.ref p), some (b1)] [] A) := by
  rw [evG_eq]
  show (bif (true && (isR b1 && true)) then exG TB d 241 0 [some (.ref p), some (b1)] [] A else none) = _
  unfold rg
  cases isR b1 <;> rfl
theorem x_241_0  : exG TB d 241 0 (some v :: r9) st A = rg v (exG TB d 241 1 (some v :: r9) (v :: st) A) := x_rg (op := o_aload 0 1) rfl rfl
theorem x_241_1  : exG TB d 241 1 L (.ref p :: st) A = kv (gf A p 101) d 241 4 L st A := x_bd (op := o_get 101) rfl rfl (fun _ => rfl)
theorem x_241_4  : exG TB d 241 4 L (.ref p :: st) A = kv (gf A p 10) d 241 7 L st A := x_bd (op := o_get 10) rfl rfl (fun _ => rfl)
theorem x_241_7  : exG TB d 241 7 (a0 :: some v :: r9) st A = rg v (exG TB d 241 8 (a0 :: some v :: r9) (v :: st) A) := x_rg (op := o_aload 1 1) rfl rfl
theorem x_241_8  : exG TB d 241 8 L (.ref p :: st) A = kv (gf A p 93) d 241 11 L st A := x_bd (op := o_get 93) rfl rfl (fun _ => rfl)
theorem x_241_11  : exG TB d 241 11 L [b0, .ref p] A = kw (sel (gc A p) [(3, 47)]) [.ref p, b0] d 241 14 L [] A := x_cvb (op := o_cv [(3, 47)] 1 3 false none) rfl rfl x_noh rfl
theorem x_241_14n  : exG TB d 241 14 L (.null :: st) A = exG TB d 241 17 L (.null :: st) A := x_nx (op := o_cast [13]) rfl rfl
theorem x_241_14r  : exG TB d 241 14 L (.ref p :: st) A = ck (cin (gcs A p) [13]) (exG TB d 241 17 L (.ref p :: st) A) := x_gd (op := o_cast [13]) rfl rfl
theorem x_241_17  : exG TB d 241 17 L (.ref p :: st) A = kv (gf A p 69) d 241 20 L st A := x_bd (op := o_get 69) rfl rfl (fun _ => rfl)
theorem x_241_20  : exG TB d 241 20 L [v] A = ck (okv 1 v) (some (.inl (some v), A)) := x_outg (op := o_ret 1) rfl rfl
theorem e_242  : evG TB (d + 1) 242 [.ref p, b1, b2, b3] A = rg b1 (rg b2 (rg b3 (exG TB d 242 0 [some (.ref p), some (b1), some (b2), some (b3), none, none, none, none, none] [] A))) := by
  rw [evG_eq]
  show (bif (true && (isR b1 && (isR b2 && (isR b3 && true)))) then exG TB d 242 0 [some (.ref p), some (b1), some (b2), some (b3), none, none, none, none, none] [] A else none) = _
  unfold rg
  cases isR b1 <;> cases isR b2 <;> cases isR b3 <;> rfl
theorem x_242_0  : exG TB d 242 0 (a0 :: some v :: r9) st A = rg v (exG TB d 242 1 (a0 :: some v :: r9) (v :: st) A) := x_rg (op := o_aload 1 1) rfl rfl
theorem x_242_1  : exG TB d 242 1 L (.ref p :: st) A = kv (gf A p 91) d 242 4 L st A := x_bd (op := o_get 91) rfl rfl (fun _ => rfl)
theorem x_242_4  : exG TB d 242 4 (some v :: r9) st A = rg v (exG TB d 242 5 (some v :: r9) (v :: st) A) := x_rg (op := o_aload 0 1) rfl rfl
theorem x_242_5  : exG TB d 242 5 L (.ref p :: st) A = kv (gf A p 129) d 242 8 L st A := x_bd (op := o_get 129) rfl rfl (fun _ => rfl)
theorem x_242_8  : exG TB d 242 8 L (.ref p :: st) A = kv (gf A p 91) d 242 11 L st A := x_bd (op := o_get 91) rfl rfl (fun _ => rfl)
theorem x_242_11  : exG TB d 242 11 L (.int i2 :: .int i1 :: st) A = exG TB d 242 12 L (.int (i1 - i2) :: st) A := x_nx (op := o_iop (fun x y => x - y)) rfl rfl
theorem x_242_12  : exG TB d 242 12 (a0 :: a1 :: a2 :: a3 :: a4 :: r9) (.int i1 :: st) A = exG TB d 242 14 (a0 :: a1 :: a2 :: a3 :: some (.int i1) :: r9) st A := x_nx (op := o_istore 4 2) rfl rfl
theorem x_242_14  : exG TB d 242 14 (a0 :: some v :: r9) st A = rg v (exG TB d 242 15 (a0 :: some v :: r9) (v :: st) A) := x_rg (op := o_aload 1 1) rfl rfl
theorem x_242_15  : exG TB d 242 15 L (.ref p :: st) A = kv (gf A p 90) d 242 18 L st A := x_bd (op := o_get 90) rfl rfl (fun _ => rfl)
theorem x_242_18  : exG TB d 242 18 (some v :: r9) st A = rg v (exG TB d 242 19 (some v :: r9) (v :: st) A) := x_rg (op := o_aload 0 1) rfl rfl
theorem x_242_19  : exG TB d 242 19 L (.ref p :: st) A = kv (gf A p 129) d 242 22 L st A := x_bd (op := o_get 129) rfl rfl (fun _ => rfl)
theorem x_242_22  : exG TB d 242 22 L (.ref p :: st) A = kv (gf A p 90) d 242 25 L st A := x_bd (op := o_get 90) rfl rfl (fun _ => rfl)
theorem x_242_25  : exG TB d 242 25 L (.int i2 :: .int i1 :: st) A = if ¬ i1 = i2 then exG TB d 242 60 L st A else exG TB d 242 28 L st A := x_if (op := o_icmp (fun x y => decide (¬ x = y)) 60) rfl rfl rfl
theorem x_242_28  : exG TB d 242 28 (a0 :: a1 :: a2 :: a3 :: some (.int i1) :: r9) st A = exG TB d 242 30 (a0 :: a1 :: a2 :: a3 :: some (.int i1) :: r9) (.int i1 :: st) A := x_nx (op := o_iload 4 2) rfl rfl
theorem x_242_30  : exG TB d 242 30 (a0 :: a1 :: a2 :: some v :: r9) st A = rg v (exG TB d 242 31 (a0 :: a1 :: a2 :: some v :: r9) (v :: st) A) := x_rg (op := o_aload 3 1) rfl rfl
theorem x_242_31  : exG TB d 242 31 L st A = exG TB d 242 32 L (.int (nI 1) :: st) A := x_nx (op := o_push 1 (.int 1)) rfl rfl
theorem x_242_32  : exG TB d 242 32 L (.int i1 :: .ref p :: st) A = ki (rdI 0 (ga A p) i1) d 242 33 L st A := x_bd (op := o_rdI 0) rfl rfl (fun _ => rfl)
theorem x_242_33  : exG TB d 242 33 L (.int i2 :: .int i1 :: st) A = if i2 < i1 then exG TB d 242 40 L st A else exG TB d 242 36 L st A := x_if (op := o_icmp (fun x y => decide (y < x)) 40) rfl rfl rfl
theorem x_242_36  : exG TB d 242 36 L st A = exG TB d 242 37 L (.int (nI 1) :: st) A := x_nx (op := o_push 1 (.int 1)) rfl rfl
theorem x_242_37  : exG TB d 242 37 L st A = exG TB d 242 41 L st A := x_nx (op := o_goto 41) rfl rfl
theorem x_242_40  : exG TB d 242 40 L st A = exG TB d 242 41 L (.int (nI 0) :: st) A := x_nx (op := o_push 1 (.int 0)) rfl rfl
theorem x_242_41  : exG TB d 242 41 (a0 :: a1 :: a2 :: a3 :: a4 :: a5 :: r9) (.int i1 :: st) A = exG TB d 242 43 (a0 :: a1 :: a2 :: a3 :: a4 :: some (.int i1) :: r9) st A := x_nx (op := o_istore 5 2) rfl rfl
theorem x_242_43  : exG TB d 242 43 (a0 :: a1 :: a2 :: a3 :: a4 :: some (.int i1) :: r9) st A = exG TB d 242 45 (a0 :: a1 :: a2 :: a3 :: a4 :: some (.int i1) :: r9) (.int i1 :: st) A := x_nx (op := o_iload 5 2) rfl rfl
theorem x_242_45  : exG TB d 242 45 L (.int i1 :: st) A = if i1 = nI 0 then exG TB d 242 57 L st A else exG TB d 242 48 L st A := x_if (op := o_if (fun x => decide (x = 0)) 57) rfl rfl rfl
theorem x_242_48  : exG TB d 242 48 (some v :: r9) st A = rg v (exG TB d 242 49 (some v :: r9) (v :: st) A) := x_rg (op := o_aload 0 1) rfl rfl
theorem x_242_49  : exG TB d 242 49 L (.ref p :: st) A = kv (gf A p 127) d 242 52 L st A := x_bd (op := o_get 127) rfl rfl (fun _ => rfl)
theorem x_242_52  : exG TB d 242 52 (a0 :: some v :: r9) st A = rg v (exG TB d 242 53 (a0 :: some v :: r9) (v :: st) A) := x_rg (op := o_aload 1 1) rfl rfl
theorem x_242_53  : exG TB d 242 53 L [b0, .ref p] A = kw (sel (gc A p) [(3, 43)]) [.ref p, b0] d 242 56 L [] A := x_cvb (op := o_cv [(3, 43)] 1 3 false none) rfl rfl x_noh rfl
theorem x_242_56  : exG TB d 242 56 L (v :: st) A = ck (c1 v) (exG TB d 242 57 L st A) := x_gd (op := o_pop) rfl rfl
theorem x_242_57  : exG TB d 242 57 (a0 :: a1 :: a2 :: a3 :: a4 :: some (.int i1) :: r9) st A = exG TB d 242 59 (a0 :: a1 :: a2 :: a3 :: a4 :: some (.int i1) :: r9) (.int i1 :: st) A := x_nx (op := o_iload 5 2) rfl rfl
theorem x_242_59  : exG TB d 242 59 L [v] A = ck (okv 5 v) (some (.inl (some v), A)) := x_outg (op := o_ret 5) rfl rfl
theorem x_242_60  : exG TB d 242 60 (a0 :: a1 :: a2 :: a3 :: some (.int i1) :: r9) st A = exG TB d 242 62 (a0 :: a1 :: a2 :: a3 :: some (.int i1) :: r9) (.int i1 :: st) A := x_nx (op := o_iload 4 2) rfl rfl
theorem x_242_62  : exG TB d 242 62 (a0 :: a1 :: a2 :: some v :: r9) st A = rg v (exG TB d 242 63 (a0 :: a1 :: a2 :: some v :: r9) (v :: st) A) := x_rg (op := o_aload 3 1) rfl rfl
theorem x_242_63  : exG TB d 242 63 L st A = exG TB d 242 64 L (.int (nI 0) :: st) A := x_nx (op := o_push 1 (.int 0)) rfl rfl
theorem x_242_64  : exG TB d 242 64 L (.int i1 :: .ref p :: st) A = ki (rdI 0 (ga A p) i1) d 242 65 L st A := x_bd (op := o_rdI 0) rfl rfl (fun _ => rfl)
theorem x_242_65  : exG TB d 242 65 L (.int i2 :: .int i1 :: st) A = if i1 ≤ i2 then exG TB d 242 70 L st A else exG TB d 242 68 L st A := x_if (op := o_icmp (fun x y => decide (x ≤ y)) 70) rfl rfl rfl
theorem x_242_68  : exG TB d 242 68 L st A = exG TB d 242 69 L (.int (nI 0) :: st) A := x_nx (op := o_push 1 (.int 0)) rfl rfl
theorem x_242_69  : exG TB d 242 69 L [v] A = ck (okv 5 v) (some (.inl (some v), A)) := x_outg (op := o_ret 5) rfl rfl
theorem x_242_70  : exG TB d 242 70 L st A = exG TB d 242 73 L (.ref (nx A) :: st) (newo A 15 11 dv15) := x_nx (op := o_new 15 11 dv15) rfl rfl
theorem x_242_73  : exG TB d 242 73 L (v :: st) A = ck (c1 v) (exG TB d 242 74 L (v :: v :: st) A) := x_gd (op := o_dup) rfl rfl
theorem x_242_74  : exG TB d 242 74 (a0 :: a1 :: some v :: r9) st A = rg v (exG TB d 242 75 (a0 :: a1 :: some v :: r9) (v :: st) A) := x_rg (op := o_aload 2 1) rfl rfl
theorem x_242_75  : exG TB d 242 75 (a0 :: a1 :: a2 :: some v :: r9) st A = rg v (exG TB d 242 76 (a0 :: a1 :: a2 :: some v :: r9) (v :: st) A) := x_rg (op := o_aload 3 1) rfl rfl
theorem x_242_76  : exG TB d 242 76 (some v :: r9) st A = rg v (exG TB d 242 77 (some v :: r9) (v :: st) A) := x_rg (op := o_aload 0 1) rfl rfl
theorem x_242_77  : exG TB d 242 77 L (.ref p :: st) A = kv (gf A p 129) d 242 80 L st A := x_bd (op := o_get 129) rfl rfl (fun _ => rfl)
theorem x_242_80  : exG TB d 242 80 L (.ref p :: st) A = kv (gf A p 90) d 242 83 L st A := x_bd (op := o_get 90) rfl rfl (fun _ => rfl)
theorem x_242_83  : exG TB d 242 83 (a0 :: some v :: r9) st A = rg v (exG TB d 242 84 (a0 :: some v :: r9) (v :: st) A) := x_rg (op := o_aload 1 1) rfl rfl
theorem x_242_84  : exG TB d 242 84 L (.ref p :: st) A = kv (gf A p 90) d 242 87 L st A := x_bd (op := o_get 90) rfl rfl (fun _ => rfl)
theorem x_242_87  : exG TB d 242 87 (a0 :: a1 :: a2 :: a3 :: some (.int i1) :: r9) st A = exG TB d 242 89 (a0 :: a1 :: a2 :: a3 :: some (.int i1) :: r9) (.int i1 :: st) A := x_nx (op := o_iload 4 2) rfl rfl
theorem x_242_89  : exG TB d 242 89 L [b4, b3, b2, b1, b0, .ref p, w0] A = kc0 (evG TB d 231 [.ref p, b0, b1, b2, b3, b4] A) d 242 92 L [w0] := x_c0 (op := o_ci 231 5) rfl rfl x_noh rfl
theorem x_242_92  : exG TB d 242 92 (a0 :: a1 :: a2 :: a3 :: a4 :: a5 :: r9) (v :: st) A = rg v (exG TB d 242 94 (a0 :: a1 :: a2 :: a3 :: a4 :: some v :: r9) st A) := x_rgt (op := o_astore 5 2) rfl rfl
theorem x_242_94  : exG TB d 242 94 (a0 :: a1 :: a2 :: a3 :: a4 :: some v :: r9) st A = rg v (exG TB d 242 96 (a0 :: a1 :: a2 :: a3 :: a4 :: some v :: r9) (v :: st) A) := x_rg (op := o_aload 5 2) rfl rfl
theorem x_242_96  : exG TB d 242 96 L [.ref p] A = kw (sel (gc A p) [(15, 228)]) [.ref p] d 242 99 L [] A := x_cvb (op := o_cv [(15, 228)] 0 3 false none) rfl rfl x_noh rfl
theorem x_242_99  : exG TB d 242 99 L [.ref p] A = kw (sel (gc A p) [(16, 230), (15, 230)]) [.ref p] d 242 102 L [] A := x_cvb (op := o_cv [(16, 230), (15, 230)] 0 3 false none) rfl rfl x_noh rfl
theorem x_242_102  : exG TB d 242 102 L (.int i1 :: st) A = if ¬ i1 = nI 0 then exG TB d 242 107 L st A else exG TB d 242 105 L st A := x_if (op := o_if (fun x => decide (¬ x = 0)) 107) rfl rfl rfl
theorem x_242_105  : exG TB d 242 105 L st A = exG TB d 242 106 L (.int (nI 0) :: st) A := x_nx (op := o_push 1 (.int 0)) rfl rfl
theorem x_242_106  : exG TB d 242 106 L [v] A = ck (okv 5 v) (some (.inl (some v), A)) := x_outg (op := o_ret 5) rfl rfl
theorem x_242_107  : exG TB d 242 107 (a0 :: a1 :: a2 :: a3 :: a4 :: some v :: r9) st A = rg v (exG TB d 242 109 (a0 :: a1 :: a2 :: a3 :: a4 :: some v :: r9) (v :: st) A) := x_rg (op := o_aload 5 2) rfl rfl
theorem x_242_109  : exG TB d 242 109 L (.ref p :: st) A = kv (gf A p 80) d 242 112 L st A := x_bd (op := o_get 80) rfl rfl (fun _ => rfl)
theorem x_242_112  : exG TB d 242 112 (a0 :: a1 :: a2 :: a3 :: a4 :: a5 :: a6 :: r9) (v :: st) A = rg v (exG TB d 242 114 (a0 :: a1 :: a2 :: a3 :: a4 :: a5 :: some v :: r9) st A) := x_rgt (op := o_astore 6 2) rfl rfl
theorem x_242_114  : exG TB d 242 114 (a0 :: a1 :: a2 :: a3 :: a4 :: some v :: r9) st A = rg v (exG TB d 242 116 (a0 :: a1 :: a2 :: a3 :: a4 :: some v :: r9) (v :: st) A) := x_rg (op := o_aload 5 2) rfl rfl
theorem x_242_116  : exG TB d 242 116 L (.ref p :: st) A = kv (gf A p 81) d 242 119 L st A := x_bd (op := o_get 81) rfl rfl (fun _ => rfl)
theorem x_242_119  : exG TB d 242 119 (a0 :: a1 :: a2 :: a3 :: a4 :: a5 :: a6 :: a7 :: r9) (.int i1 :: st) A = exG TB d 242 121 (a0 :: a1 :: a2 :: a3 :: a4 :: a5 :: a6 :: some (.int i1) :: r9) st A := x_nx (op := o_istore 7 2) rfl rfl
theorem x_242_121  : exG TB d 242 121 L st A = exG TB d 242 122 L (.int (nI 1) :: st) A := x_nx (op := o_push 1 (.int 1)) rfl rfl
theorem x_242_122  : exG TB d 242 122 (a0 :: a1 :: a2 :: a3 :: a4 :: a5 :: a6 :: a7 :: a8 :: r9) (.int i1 :: st) A = exG TB d 242 124 (a0 :: a1 :: a2 :: a3 :: a4 :: a5 :: a6 :: a7 :: some (.int i1) :: r9) st A := x_nx (op := o_istore 8 2) rfl rfl
theorem x_242_124  : exG TB d 242 124 (a0 :: a1 :: a2 :: a3 :: a4 :: a5 :: a6 :: a7 :: some (.int i1) :: r9) st A = exG TB d 242 126 (a0 :: a1 :: a2 :: a3 :: a4 :: a5 :: a6 :: a7 :: some (.int i1) :: r9) (.int i1 :: st) A := x_nx (op := o_iload 8 2) rfl rfl
theorem x_242_126  : exG TB d 242 126 (a0 :: a1 :: a2 :: a3 :: a4 :: a5 :: a6 :: some (.int i1) :: r9) st A = exG TB d 242 128 (a0 :: a1 :: a2 :: a3 :: a4 :: a5 :: a6 :: some (.int i1) :: r9) (.int i1 :: st) A := x_nx (op := o_iload 7 2) rfl rfl
theorem x_242_128  : exG TB d 242 128 L (.int i2 :: .int i1 :: st) A = if i2 < i1 then exG TB d 242 153 L st A else exG TB d 242 131 L st A := x_if (op := o_icmp (fun x y => decide (y < x)) 153) rfl rfl rfl
theorem x_242_131  : exG TB d 242 131 (some v :: r9) st A = rg v (exG TB d 242 132 (some v :: r9) (v :: st) A) := x_rg (op := o_aload 0 1) rfl rfl
theorem x_242_132  : exG TB d 242 132 L (.ref p :: st) A = kv (gf A p 128) d 242 135 L st A := x_bd (op := o_get 128) rfl rfl (fun _ => rfl)
theorem x_242_135  : exG TB d 242 135 (a0 :: a1 :: a2 :: a3 :: a4 :: a5 :: some v :: r9) st A = rg v (exG TB d 242 137 (a0 :: a1 :: a2 :: a3 :: a4 :: a5 :: some v :: r9) (v :: st) A) := x_rg (op := o_aload 6 2) rfl rfl
theorem x_242_137  : exG TB d 242 137 (a0 :: a1 :: a2 :: a3 :: a4 :: a5 :: a6 :: a7 :: some (.int i1) :: r9) st A = exG TB d 242 139 (a0 :: a1 :: a2 :: a3 :: a4 :: a5 :: a6 :: a7 :: some (.int i1) :: r9) (.int i1 :: st) A := x_nx (op := o_iload 8 2) rfl rfl
theorem x_242_139  : exG TB d 242 139 L (.int i1 :: .ref p :: st) A = ki (rdI 0 (ga A p) i1) d 242 140 L st A := x_bd (op := o_rdI 0) rfl rfl (fun _ => rfl)
theorem x_242_140  : exG TB d 242 140 L [b0, w0] A = kc (evG TB d 25 [b0] A) d 242 143 L [w0] := x_cv (op := o_cs 25 1 false none) rfl rfl x_noh rfl
theorem x_242_143  : exG TB d 242 143 L [b0, .ref p] A = kw (sel (gc A p) [(3, 43)]) [.ref p, b0] d 242 146 L [] A := x_cvb (op := o_cv [(3, 43)] 1 3 false none) rfl rfl x_noh rfl
theorem x_242_146  : exG TB d 242 146 L (v :: st) A = ck (c1 v) (exG TB d 242 147 L st A) := x_gd (op := o_pop) rfl rfl
theorem x_242_147  : exG TB d 242 147 (a0 :: a1 :: a2 :: a3 :: a4 :: a5 :: a6 :: a7 :: some (.int i1) :: r9) st A = exG TB d 242 150 (a0 :: a1 :: a2 :: a3 :: a4 :: a5 :: a6 :: a7 :: some (.int (i1 + (nI 1))) :: r9) st A := x_nx (op := o_iinc 8 1) rfl rfl
theorem x_242_150  : exG TB d 242 150 L st A = exG TB d 242 124 L st A := x_nx (op := o_goto 124) rfl rfl
theorem x_242_153  : exG TB d 242 153 (some v :: r9) st A = rg v (exG TB d 242 154 (some v :: r9) (v :: st) A) := x_rg (op := o_aload 0 1) rfl rfl
theorem x_242_154  : exG TB d 242 154 L (v :: st) A = ck (c1 v) (exG TB d 242 155 L (v :: v :: st) A) := x_gd (op := o_dup) rfl rfl
theorem x_242_155  : exG TB d 242 155 L (.ref p :: st) A = kv (gf A p 130) d 242 158 L st A := x_bd (op := o_get 130) rfl rfl (fun _ => rfl)
theorem x_242_158  : exG TB d 242 158 (a0 :: a1 :: a2 :: a3 :: a4 :: a5 :: a6 :: some (.int i1) :: r9) st A = exG TB d 242 160 (a0 :: a1 :: a2 :: a3 :: a4 :: a5 :: a6 :: some (.int i1) :: r9) (.int i1 :: st) A := x_nx (op := o_iload 7 2) rfl rfl
theorem x_242_160  : exG TB d 242 160 L st A = exG TB d 242 161 L (.int (nI 1) :: st) A := x_nx (op := o_push 1 (.int 1)) rfl rfl
theorem x_242_161  : exG TB d 242 161 L (.int i2 :: .int i1 :: st) A = exG TB d 242 162 L (.int (i1 - i2) :: st) A := x_nx (op := o_iop (fun x y => x - y)) rfl rfl
theorem x_242_162  : exG TB d 242 162 L (.int i2 :: .int i1 :: st) A = exG TB d 242 163 L (.int (i1 + i2) :: st) A := x_nx (op := o_iop (fun x y => x + y)) rfl rfl
theorem x_242_163  : exG TB d 242 163 L (v :: .ref p :: st) A = ck ((gf A p 130).isSome && okv 1 v) (exG TB d 242 166 L st (setf A p 130 v)) := x_gd (op := o_put 130 1) rfl rfl
theorem x_242_166  : exG TB d 242 166 (some v :: r9) st A = rg v (exG TB d 242 167 (some v :: r9) (v :: st) A) := x_rg (op := o_aload 0 1) rfl rfl
theorem x_242_167  : exG TB d 242 167 L (v :: st) A = ck (c1 v) (exG TB d 242 168 L (v :: v :: st) A) := x_gd (op := o_dup) rfl rfl
theorem x_242_168  : exG TB d 242 168 L (.ref p :: st) A = kv (gf A p 131) d 242 171 L st A := x_bd (op := o_get 131) rfl rfl (fun _ => rfl)
theorem x_242_171  : exG TB d 242 171 (a0 :: a1 :: a2 :: a3 :: a4 :: some v :: r9) st A = rg v (exG TB d 242 173 (a0 :: a1 :: a2 :: a3 :: a4 :: some v :: r9) (v :: st) A) := x_rg (op := o_aload 5 2) rfl rfl
theorem x_242_173  : exG TB d 242 173 L (.ref p :: st) A = kv (gf A p 87) d 242 176 L st A := x_bd (op := o_get 87) rfl rfl (fun _ => rfl)
theorem x_242_176  : exG TB d 242 176 L (.int i2 :: .int i1 :: st) A = exG TB d 242 177 L (.int (i1 + i2) :: st) A := x_nx (op := o_iop (fun x y => x + y)) rfl rfl
theorem x_242_177  : exG TB d 242 177 L (v :: .ref p :: st) A = ck ((gf A p 131).isSome && okv 1 v) (exG TB d 242 180 L st (setf A p 131 v)) := x_gd (op := o_put 131 1) rfl rfl
theorem x_242_180  : exG TB d 242 180 (some v :: r9) st A = rg v (exG TB d 242 181 (some v :: r9) (v :: st) A) := x_rg (op := o_aload 0 1) rfl rfl
theorem x_242_181  : exG TB d 242 181 L (v :: st) A = ck (c1 v) (exG TB d 242 182 L (v :: v :: st) A) := x_gd (op := o_dup) rfl rfl
theorem x_242_182  : exG TB d 242 182 L (.ref p :: st) A = kv (gf A p 132) d 242 185 L st A := x_bd (op := o_get 132) rfl rfl (fun _ => rfl)
theorem x_242_185  : exG TB d 242 185 (a0 :: a1 :: a2 :: a3 :: a4 :: some v :: r9) st A = rg v (exG TB d 242 187 (a0 :: a1 :: a2 :: a3 :: a4 :: some v :: r9) (v :: st) A) := x_rg (op := o_aload 5 2) rfl rfl
theorem x_242_187  : exG TB d 242 187 L (.ref p :: st) A = kv (gf A p 85) d 242 190 L st A := x_bd (op := o_get 85) rfl rfl (fun _ => rfl)
theorem x_242_190  : exG TB d 242 190 L (.int i2 :: .int i1 :: st) A = exG TB d 242 191 L (.int (i1 + i2) :: st) A := x_nx (op := o_iop (fun x y => x + y)) rfl rfl
theorem x_242_191  : exG TB d 242 191 L (v :: .ref p :: st) A = ck ((gf A p 132).isSome && okv 1 v) (exG TB d 242 194 L st (setf A p 132 v)) := x_gd (op := o_put 132 1) rfl rfl
theorem x_242_194  : exG TB d 242 194 (some v :: r9) st A = rg v (exG TB d 242 195 (some v :: r9) (v :: st) A) := x_rg (op := o_aload 0 1) rfl rfl
theorem x_242_195  : exG TB d 242 195 L (.ref p :: st) A = kv (gf A p 127) d 242 198 L st A := x_bd (op := o_get 127) rfl rfl (fun _ => rfl)
theorem x_242_198  : exG TB d 242 198 (a0 :: some v :: r9) st A = rg v (exG TB d 242 199 (a0 :: some v :: r9) (v :: st) A) := x_rg (op := o_aload 1 1) rfl rfl
theorem x_242_199  : exG TB d 242 199 L [b0, .ref p] A = kw (sel (gc A p) [(3, 43)]) [.ref p, b0] d 242 202 L [] A := x_cvb (op := o_cv [(3, 43)] 1 3 false none) rfl rfl x_noh rfl
theorem x_242_202  : exG TB d 242 202 L (v :: st) A = ck (c1 v) (exG TB d 242 203 L st A) := x_gd (op := o_pop) rfl rfl
theorem x_242_203  : exG TB d 242 203 (some v :: r9) st A = rg v (exG TB d 242 204 (some v :: r9) (v :: st) A) := x_rg (op := o_aload 0 1) rfl rfl
theorem x_242_204  : exG TB d 242 204 (a0 :: some v :: r9) st A = rg v (exG TB d 242 205 (a0 :: some v :: r9) (v :: st) A) := x_rg (op := o_aload 1 1) rfl rfl
theorem x_242_205  : exG TB d 242 205 L (v :: .ref p :: st) A = ck ((gf A p 129).isSome && okv 0 v) (exG TB d 242 208 L st (setf A p 129 v)) := x_gd (op := o_put 129 0) rfl rfl
theorem x_242_208  : exG TB d 242 208 L st A = exG TB d 242 209 L (.int (nI 1) :: st) A := x_nx (op := o_push 1 (.int 1)) rfl rfl
theorem x_242_209  : exG TB d 242 209 L [v] A = ck (okv 5 v) (some (.inl (some v), A)) := x_outg (op := o_ret 5) rfl rfl
theorem e_243 {j2 : Int32} : evG TB (d + 1) 243 [.ref p, b1, .int j2] A = rg b1 (exG TB d 243 0 [some (.ref p), some (b1), some (.int j2)] [] A) := by
  rw [evG_eq]
  show (bif (true && (isR b1 && (true && true))) then exG TB d 243 0 [some (.ref p), some (b1), some (.int j2)] [] A else none) = _
  unfold rg
  cases isR b1 <;> rfl
theorem x_243_0  : exG TB d 243 0 (some v :: r9) st A = rg v (exG TB d 243 1 (some v :: r9) (v :: st) A) := x_rg (op := o_aload 0 1) rfl rfl
theorem x_243_1  : exG TB d 243 1 L [.ref p] A = exG TB d 243 4 L [] A := x_nx (op := o_oi) rfl rfl
theorem x_243_4  : exG TB d 243 4 (some v :: r9) st A = rg v (exG TB d 243 5 (some v :: r9) (v :: st) A) := x_rg (op := o_aload 0 1) rfl rfl
theorem x_243_5  : exG TB d 243 5 L st A = exG TB d 243 8 L (.ref (nx A) :: st) (newo A 3 3 dv3) := x_nx (op := o_new 3 3 dv3) rfl rfl
theorem x_243_8  : exG TB d 243 8 L (v :: st) A = ck (c1 v) (exG TB d 243 9 L (v :: v :: st) A) := x_gd (op := o_dup) rfl rfl
theorem x_243_9  : exG TB d 243 9 L st A = exG TB d 243 10 L (.int (nI 4) :: st) A := x_nx (op := o_push 1 (.int 4)) rfl rfl
theorem x_243_10  : exG TB d 243 10 L [b0, .ref p, w0, w1] A = kc0 (evG TB d 39 [.ref p, b0] A) d 243 13 L [w0, w1] := x_c0 (op := o_ci 39 1) rfl rfl x_noh rfl
theorem x_243_13  : exG TB d 243 13 L (v :: .ref p :: st) A = ck ((gf A p 127).isSome && okv 0 v) (exG TB d 243 16 L st (setf A p 127 v)) := x_gd (op := o_put 127 0) rfl rfl
theorem x_243_16  : exG TB d 243 16 (some v :: r9) st A = rg v (exG TB d 243 17 (some v :: r9) (v :: st) A) := x_rg (op := o_aload 0 1) rfl rfl
theorem x_243_17  : exG TB d 243 17 L st A = exG TB d 243 20 L (.ref (nx A) :: st) (newo A 3 3 dv3) := x_nx (op := o_new 3 3 dv3) rfl rfl
theorem x_243_20  : exG TB d 243 20 L (v :: st) A = ck (c1 v) (exG TB d 243 21 L (v :: v :: st) A) := x_gd (op := o_dup) rfl rfl
theorem x_243_21  : exG TB d 243 21 L st A = exG TB d 243 22 L (.int (nI 4) :: st) A := x_nx (op := o_push 1 (.int 4)) rfl rfl
theorem x_243_22  : exG TB d 243 22 L [b0, .ref p, w0, w1] A = kc0 (evG TB d 39 [.ref p, b0] A) d 243 25 L [w0, w1] := x_c0 (op := o_ci 39 1) rfl rfl x_noh rfl
theorem x_243_25  : exG TB d 243 25 L (v :: .ref p :: st) A = ck ((gf A p 128).isSome && okv 0 v) (exG TB d 243 28 L st (setf A p 128 v)) := x_gd (op := o_put 128 0) rfl rfl
theorem x_243_28  : exG TB d 243 28 (some v :: r9) st A = rg v (exG TB d 243 29 (some v :: r9) (v :: st) A) := x_rg (op := o_aload 0 1) rfl rfl
theorem x_243_29  : exG TB d 243 29 (a0 :: a1 :: some (.int i1) :: r9) st A = exG TB d 243 30 (a0 :: a1 :: some (.int i1) :: r9) (.int i1 :: st) A := x_nx (op := o_iload 2 1) rfl rfl
theorem x_243_30  : exG TB d 243 30 L (v :: .ref p :: st) A = ck ((gf A p 126).isSome && okv 1 v) (exG TB d 243 33 L st (setf A p 126 v)) := x_gd (op := o_put 126 1) rfl rfl
theorem x_243_33  : exG TB d 243 33 (some v :: r9) st A = rg v (exG TB d 243 34 (some v :: r9) (v :: st) A) := x_rg (op := o_aload 0 1) rfl rfl
theorem x_243_34  : exG TB d 243 34 L (.ref p :: st) A = kv (gf A p 127) d 243 37 L st A := x_bd (op := o_get 127) rfl rfl (fun _ => rfl)
theorem x_243_37  : exG TB d 243 37 (a0 :: some v :: r9) st A = rg v (exG TB d 243 38 (a0 :: some v :: r9) (v :: st) A) := x_rg (op := o_aload 1 1) rfl rfl
theorem x_243_38  : exG TB d 243 38 L [b0, .ref p] A = kw (sel (gc A p) [(3, 43)]) [.ref p, b0] d 243 41 L [] A := x_cvb (op := o_cv [(3, 43)] 1 3 false none) rfl rfl x_noh rfl
theorem x_243_41  : exG TB d 243 41 L (v :: st) A = ck (c1 v) (exG TB d 243 42 L st A) := x_gd (op := o_pop) rfl rfl
theorem x_243_42  : exG TB d 243 42 (some v :: r9) st A = rg v (exG TB d 243 43 (some v :: r9) (v :: st) A) := x_rg (op := o_aload 0 1) rfl rfl
theorem x_243_43  : exG TB d 243 43 L (.ref p :: st) A = kv (gf A p 128) d 243 46 L st A := x_bd (op := o_get 128) rfl rfl (fun _ => rfl)
theorem x_243_46  : exG TB d 243 46 (a0 :: some v :: r9) st A = rg v (exG TB d 243 47 (a0 :: some v :: r9) (v :: st) A) := x_rg (op := o_aload 1 1) rfl rfl
theorem x_243_47  : exG TB d 243 47 L (.ref p :: st) A = kv (gf A p 90) d 243 50 L st A := x_bd (op := o_get 90) rfl rfl (fun _ => rfl)
theorem x_243_50  : exG TB d 243 50 L [b0, w0] A = kc (evG TB d 25 [b0] A) d 243 53 L [w0] := x_cv (op := o_cs 25 1 false none) rfl rfl x_noh rfl
theorem x_243_53  : exG TB d 243 53 L [b0, .ref p] A = kw (sel (gc A p) [(3, 43)]) [.ref p, b0] d 243 56 L [] A := x_cvb (op := o_cv [(3, 43)] 1 3 false none) rfl rfl x_noh rfl
theorem x_243_56  : exG TB d 243 56 L (v :: st) A = ck (c1 v) (exG TB d 243 57 L st A) := x_gd (op := o_pop) rfl rfl
theorem x_243_57  : exG TB d 243 57 (some v :: r9) st A = rg v (exG TB d 243 58 (some v :: r9) (v :: st) A) := x_rg (op := o_aload 0 1) rfl rfl
theorem x_243_58  : exG TB d 243 58 (a0 :: some v :: r9) st A = rg v (exG TB d 243 59 (a0 :: some v :: r9) (v :: st) A) := x_rg (op := o_aload 1 1) rfl rfl
theorem x_243_59  : exG TB d 243 59 L (v :: .ref p :: st) A = ck ((gf A p 129).isSome && okv 0 v) (exG TB d 243 62 L st (setf A p 129 v)) := x_gd (op := o_put 129 0) rfl rfl
theorem x_243_62  : exG TB d 243 62 L [] A = some (.inl none, A) := x_out (op := o_vret) rfl rfl
theorem e_244  : evG TB (d + 1) 244 [.ref p] A = exG TB d 244 0 [some (.ref p)] [] A := evG_eq TB d 244 _ A
theorem x_244_0  : exG TB d 244 0 (some v :: r9) st A = rg v (exG TB d 244 1 (some v :: r9) (v :: st) A) := x_rg (op := o_aload 0 1) rfl rfl
theorem x_244_1  : exG TB d 244 1 L (.ref p :: st) A = kv (gf A p 127) d 244 4 L st A := x_bd (op := o_get 127) rfl rfl (fun _ => rfl)
theorem x_244_4  : exG TB d 244 4 L st A = exG TB d 244 5 L (.int (nI 0) :: st) A := x_nx (op := o_push 1 (.int 0)) rfl rfl
theorem x_244_5  : exG TB d 244 5 L [b0, .ref p] A = kw (sel (gc A p) [(3, 47)]) [.ref p, b0] d 244 8 L [] A := x_cvb (op := o_cv [(3, 47)] 1 3 false none) rfl rfl x_noh rfl
theorem x_244_8n  : exG TB d 244 8 L (.null :: st) A = exG TB d 244 11 L (.null :: st) A := x_nx (op := o_cast [17]) rfl rfl
theorem x_244_8r  : exG TB d 244 8 L (.ref p :: st) A = ck (cin (gcs A p) [17]) (exG TB d 244 11 L (.ref p :: st) A) := x_gd (op := o_cast [17]) rfl rfl
theorem x_244_11  : exG TB d 244 11 L (.ref p :: st) A = kv (gf A p 91) d 244 14 L st A := x_bd (op := o_get 91) rfl rfl (fun _ => rfl)
theorem x_244_14  : exG TB d 244 14 L [v] A = ck (okv 1 v) (some (.inl (some v), A)) := x_outg (op := o_ret 1) rfl rfl
theorem e_245  : evG TB (d + 1) 245 [.ref p] A = exG TB d 245 0 [some (.ref p)] [] A := evG_eq TB d 245 _ A
theorem x_245_0  : exG TB d 245 0 (some v :: r9) st A = rg v (exG TB d 245 1 (some v :: r9) (v :: st) A) := x_rg (op := o_aload 0 1) rfl rfl
theorem x_245_1  : exG TB d 245 1 L (.ref p :: st) A = kv (gf A p 127) d 245 4 L st A := x_bd (op := o_get 127) rfl rfl (fun _ => rfl)
theorem x_245_4  : exG TB d 245 4 (some v :: r9) st A = rg v (exG TB d 245 5 (some v :: r9) (v :: st) A) := x_rg (op := o_aload 0 1) rfl rfl
theorem x_245_5  : exG TB d 245 5 L (.ref p :: st) A = kv (gf A p 127) d 245 8 L st A := x_bd (op := o_get 127) rfl rfl (fun _ => rfl)
theorem x_245_8  : exG TB d 245 8 L [.ref p, w0] A = kw (sel (gc A p) [(3, 42)]) [.ref p] d 245 11 L [w0] A := x_cvb (op := o_cv [(3, 42)] 0 3 false none) rfl rfl x_noh rfl
theorem x_245_11  : exG TB d 245 11 L st A = exG TB d 245 12 L (.int (nI 1) :: st) A := x_nx (op := o_push 1 (.int 1)) rfl rfl
theorem x_245_12  : exG TB d 245 12 L (.int i2 :: .int i1 :: st) A = exG TB d 245 13 L (.int (i1 - i2) :: st) A := x_nx (op := o_iop (fun x y => x - y)) rfl rfl
theorem x_245_13  : exG TB d 245 13 L [b0, .ref p] A = kw (sel (gc A p) [(3, 47)]) [.ref p, b0] d 245 16 L [] A := x_cvb (op := o_cv [(3, 47)] 1 3 false none) rfl rfl x_noh rfl
theorem x_245_16n  : exG TB d 245 16 L (.null :: st) A = exG TB d 245 19 L (.null :: st) A := x_nx (op := o_cast [17]) rfl rfl
theorem x_245_16r  : exG TB d 245 16 L (.ref p :: st) A = ck (cin (gcs A p) [17]) (exG TB d 245 19 L (.ref p :: st) A) := x_gd (op := o_cast [17]) rfl rfl
theorem x_245_19  : exG TB d 245 19 L (.ref p :: st) A = kv (gf A p 91) d 245 22 L st A := x_bd (op := o_get 91) rfl rfl (fun _ => rfl)
theorem x_245_22  : exG TB d 245 22 L [v] A = ck (okv 1 v) (some (.inl (some v), A)) := x_outg (op := o_ret 1) rfl rfl
theorem e_246  : evG TB (d + 1) 246 [.ref p] A = exG TB d 246 0 [some (.ref p)] [] A := evG_eq TB d 246 _ A
theorem x_246_0  : exG TB d 246 0 (some v :: r9) st A = rg v (exG TB d 246 1 (some v :: r9) (v :: st) A) := x_rg (op := o_aload 0 1) rfl rfl
theorem x_246_1  : exG TB d 246 1 L (.ref p :: st) A = kv (gf A p 131) d 246 4 L st A := x_bd (op := o_get 131) rfl rfl (fun _ => rfl)
theorem x_246_4  : exG TB d 246 4 (some v :: r9) st A = rg v (exG TB d 246 5 (some v :: r9) (v :: st) A) := x_rg (op := o_aload 0 1) rfl rfl
theorem x_246_5  : exG TB d 246 5 L (.ref p :: st) A = kv (gf A p 126) d 246 8 L st A := x_bd (op := o_get 126) rfl rfl (fun _ => rfl)
theorem x_246_8  : exG TB d 246 8 L (.int i2 :: .int i1 :: st) A = exG TB d 246 9 L (.int (i1 * i2) :: st) A := x_nx (op := o_iop (fun x y => x * y)) rfl rfl
theorem x_246_9  : exG TB d 246 9 L [v] A = ck (okv 1 v) (some (.inl (some v), A)) := x_outg (op := o_ret 1) rfl rfl
theorem e_247  : evG TB (d + 1) 247 [.ref p] A = exG TB d 247 0 [some (.ref p), none, none] [] A := evG_eq TB d 247 _ A
theorem x_247_0  : exG TB d 247 0 L st A = exG TB d 247 1 L (.int (nI 0) :: st) A := x_nx (op := o_push 1 (.int 0)) rfl rfl
theorem x_247_1  : exG TB d 247 1 (a0 :: a1 :: r9) (.int i1 :: st) A = exG TB d 247 2 (a0 :: some (.int i1) :: r9) st A := x_nx (op := o_istore 1 1) rfl rfl
theorem x_247_2  : exG TB d 247 2 L st A = exG TB d 247 3 L (.int (nI 0) :: st) A := x_nx (op := o_push 1 (.int 0)) rfl rfl
theorem x_247_3  : exG TB d 247 3 (a0 :: a1 :: a2 :: r9) (.int i1 :: st) A = exG TB d 247 4 (a0 :: a1 :: some (.int i1) :: r9) st A := x_nx (op := o_istore 2 1) rfl rfl
theorem x_247_4  : exG TB d 247 4 (a0 :: a1 :: some (.int i1) :: r9) st A = exG TB d 247 5 (a0 :: a1 :: some (.int i1) :: r9) (.int i1 :: st) A := x_nx (op := o_iload 2 1) rfl rfl
theorem x_247_5  : exG TB d 247 5 (some v :: r9) st A = rg v (exG TB d 247 6 (some v :: r9) (v :: st) A) := x_rg (op := o_aload 0 1) rfl rfl
theorem x_247_6  : exG TB d 247 6 L (.ref p :: st) A = kv (gf A p 127) d 247 9 L st A := x_bd (op := o_get 127) rfl rfl (fun _ => rfl)
theorem x_247_9  : exG TB d 247 9 L [.ref p, w0] A = kw (sel (gc A p) [(3, 42)]) [.ref p] d 247 12 L [w0] A := x_cvb (op := o_cv [(3, 42)] 0 3 false none) rfl rfl x_noh rfl
theorem x_247_12  : exG TB d 247 12 L (.int i2 :: .int i1 :: st) A = if i2 ≤ i1 then exG TB d 247 46 L st A else exG TB d 247 15 L st A := x_if (op := o_icmp (fun x y => decide (y ≤ x)) 46) rfl rfl rfl
theorem x_247_15  : exG TB d 247 15 (a0 :: some (.int i1) :: r9) st A = exG TB d 247 16 (a0 :: some (.int i1) :: r9) (.int i1 :: st) A := x_nx (op := o_iload 1 1) rfl rfl
theorem x_247_16  : exG TB d 247 16 (some v :: r9) st A = rg v (exG TB d 247 17 (some v :: r9) (v :: st) A) := x_rg (op := o_aload 0 1) rfl rfl
theorem x_247_17  : exG TB d 247 17 L (.ref p :: st) A = kv (gf A p 127) d 247 20 L st A := x_bd (op := o_get 127) rfl rfl (fun _ => rfl)
theorem x_247_20  : exG TB d 247 20 (a0 :: a1 :: some (.int i1) :: r9) st A = exG TB d 247 21 (a0 :: a1 :: some (.int i1) :: r9) (.int i1 :: st) A := x_nx (op := o_iload 2 1) rfl rfl
theorem x_247_21  : exG TB d 247 21 L [b0, .ref p, w0] A = kw (sel (gc A p) [(3, 47)]) [.ref p, b0] d 247 24 L [w0] A := x_cvb (op := o_cv [(3, 47)] 1 3 false none) rfl rfl x_noh rfl
theorem x_247_24n  : exG TB d 247 24 L (.null :: st) A = exG TB d 247 27 L (.null :: st) A := x_nx (op := o_cast [17]) rfl rfl
theorem x_247_24r  : exG TB d 247 24 L (.ref p :: st) A = ck (cin (gcs A p) [17]) (exG TB d 247 27 L (.ref p :: st) A) := x_gd (op := o_cast [17]) rfl rfl
theorem x_247_27  : exG TB d 247 27 L (.ref p :: st) A = kv (gf A p 92) d 247 30 L st A := x_bd (op := o_get 92) rfl rfl (fun _ => rfl)
theorem x_247_30  : exG TB d 247 30 L (.int i1 :: st) A = if i1 = nI 0 then exG TB d 247 37 L st A else exG TB d 247 33 L st A := x_if (op := o_if (fun x => decide (x = 0)) 37) rfl rfl rfl
theorem x_247_33  : exG TB d 247 33 L st A = exG TB d 247 34 L (.int (nI 1) :: st) A := x_nx (op := o_push 1 (.int 1)) rfl rfl
theorem x_247_34  : exG TB d 247 34 L st A = exG TB d 247 38 L st A := x_nx (op := o_goto 38) rfl rfl
theorem x_247_37  : exG TB d 247 37 L st A = exG TB d 247 38 L (.int (nI 0) :: st) A := x_nx (op := o_push 1 (.int 0)) rfl rfl
theorem x_247_38  : exG TB d 247 38 L (.int i2 :: .int i1 :: st) A = exG TB d 247 39 L (.int (i1 + i2) :: st) A := x_nx (op := o_iop (fun x y => x + y)) rfl rfl
theorem x_247_39  : exG TB d 247 39 (a0 :: a1 :: r9) (.int i1 :: st) A = exG TB d 247 40 (a0 :: some (.int i1) :: r9) st A := x_nx (op := o_istore 1 1) rfl rfl
theorem x_247_40  : exG TB d 247 40 (a0 :: a1 :: some (.int i1) :: r9) st A = exG TB d 247 43 (a0 :: a1 :: some (.int (i1 + (nI 1))) :: r9) st A := x_nx (op := o_iinc 2 1) rfl rfl
theorem x_247_43  : exG TB d 247 43 L st A = exG TB d 247 4 L st A := x_nx (op := o_goto 4) rfl rfl
theorem x_247_46  : exG TB d 247 46 (a0 :: some (.int i1) :: r9) st A = exG TB d 247 47 (a0 :: some (.int i1) :: r9) (.int i1 :: st) A := x_nx (op := o_iload 1 1) rfl rfl
theorem x_247_47  : exG TB d 247 47 L [v] A = ck (okv 1 v) (some (.inl (some v), A)) := x_outg (op := o_ret 1) rfl rfl
theorem e_248  : evG TB (d + 1) 248 [.ref p] A = exG TB d 248 0 [some (.ref p), none, none, none, none, none] [] A := evG_eq TB d 248 _ A
theorem x_248_0  : exG TB d 248 0 (some v :: r9) st A = rg v (exG TB d 248 1 (some v :: r9) (v :: st) A) := x_rg (op := o_aload 0 1) rfl rfl
theorem x_248_1  : exG TB d 248 1 L (.ref p :: st) A = kv (gf A p 128) d 248 4 L st A := x_bd (op := o_get 128) rfl rfl (fun _ => rfl)
theorem x_248_4  : exG TB d 248 4 L [.ref p] A = kw (sel (gc A p) [(3, 42)]) [.ref p] d 248 7 L [] A := x_cvb (op := o_cv [(3, 42)] 0 3 false none) rfl rfl x_noh rfl
theorem x_248_7  : exG TB d 248 7 L (.int i1 :: st) A = ck (okn i1) (exG TB d 248 9 L (.ref (nx A) :: st) (newa A (zar 2 i1.toNatClampNeg))) := x_gd (op := o_newa 2 2) rfl rfl
theorem x_248_9  : exG TB d 248 9 (a0 :: a1 :: r9) (v :: st) A = rg v (exG TB d 248 10 (a0 :: some v :: r9) st A) := x_rgt (op := o_astore 1 1) rfl rfl
theorem x_248_10  : exG TB d 248 10 (a0 :: some v :: r9) st A = rg v (exG TB d 248 11 (a0 :: some v :: r9) (v :: st) A) := x_rg (op := o_aload 1 1) rfl rfl
theorem x_248_11  : exG TB d 248 11 L st A = exG TB d 248 12 L (.int (nI 0) :: st) A := x_nx (op := o_push 1 (.int 0)) rfl rfl
theorem x_248_12  : exG TB d 248 12 L st A = exG TB d 248 13 L (.int (nI 1) :: st) A := x_nx (op := o_push 1 (.int 1)) rfl rfl
theorem x_248_13  : exG TB d 248 13 L (.int i2 :: .int i1 :: .ref p :: st) A = ka (wrI 2 (ga A p) i1 i2) p d 248 14 L st A := x_bd (op := o_wrI 2) rfl rfl (fun _ => rfl)
theorem x_248_14  : exG TB d 248 14 L st A = exG TB d 248 15 L (.int (nI 0) :: st) A := x_nx (op := o_push 1 (.int 0)) rfl rfl
theorem x_248_15  : exG TB d 248 15 (a0 :: a1 :: a2 :: r9) (.int i1 :: st) A = exG TB d 248 16 (a0 :: a1 :: some (.int i1) :: r9) st A := x_nx (op := o_istore 2 1) rfl rfl
theorem x_248_16  : exG TB d 248 16 (some v :: r9) st A = rg v (exG TB d 248 17 (some v :: r9) (v :: st) A) := x_rg (op := o_aload 0 1) rfl rfl
theorem x_248_17  : exG TB d 248 17 L (.ref p :: st) A = kv (gf A p 127) d 248 20 L st A := x_bd (op := o_get 127) rfl rfl (fun _ => rfl)
theorem x_248_20  : exG TB d 248 20 L st A = exG TB d 248 21 L (.int (nI 0) :: st) A := x_nx (op := o_push 1 (.int 0)) rfl rfl
theorem x_248_21  : exG TB d 248 21 L [b0, .ref p] A = kw (sel (gc A p) [(3, 47)]) [.ref p, b0] d 248 24 L [] A := x_cvb (op := o_cv [(3, 47)] 1 3 false none) rfl rfl x_noh rfl
theorem x_248_24n  : exG TB d 248 24 L (.null :: st) A = exG TB d 248 27 L (.null :: st) A := x_nx (op := o_cast [17]) rfl rfl
theorem x_248_24r  : exG TB d 248 24 L (.ref p :: st) A = ck (cin (gcs A p) [17]) (exG TB d 248 27 L (.ref p :: st) A) := x_gd (op := o_cast [17]) rfl rfl
theorem x_248_27  : exG TB d 248 27 (a0 :: a1 :: a2 :: a3 :: r9) (v :: st) A = rg v (exG TB d 248 28 (a0 :: a1 :: a2 :: some v :: r9) st A) := x_rgt (op := o_astore 3 1) rfl rfl
theorem x_248_28  : exG TB d 248 28 L st A = exG TB d 248 29 L (.int (nI 1) :: st) A := x_nx (op := o_push 1 (.int 1)) rfl rfl
theorem x_248_29  : exG TB d 248 29 (a0 :: a1 :: a2 :: a3 :: a4 :: r9) (.int i1 :: st) A = exG TB d 248 31 (a0 :: a1 :: a2 :: a3 :: some (.int i1) :: r9) st A := x_nx (op := o_istore 4 2) rfl rfl
theorem x_248_31  : exG TB d 248 31 (a0 :: a1 :: a2 :: a3 :: some (.int i1) :: r9) st A = exG TB d 248 33 (a0 :: a1 :: a2 :: a3 :: some (.int i1) :: r9) (.int i1 :: st) A := x_nx (op := o_iload 4 2) rfl rfl
theorem x_248_33  : exG TB d 248 33 (some v :: r9) st A = rg v (exG TB d 248 34 (some v :: r9) (v :: st) A) := x_rg (op := o_aload 0 1) rfl rfl
theorem x_248_34  : exG TB d 248 34 L (.ref p :: st) A = kv (gf A p 127) d 248 37 L st A := x_bd (op := o_get 127) rfl rfl (fun _ => rfl)
theorem x_248_37  : exG TB d 248 37 L [.ref p, w0] A = kw (sel (gc A p) [(3, 42)]) [.ref p] d 248 40 L [w0] A := x_cvb (op := o_cv [(3, 42)] 0 3 false none) rfl rfl x_noh rfl
theorem x_248_40  : exG TB d 248 40 L (.int i2 :: .int i1 :: st) A = if i2 ≤ i1 then exG TB d 248 116 L st A else exG TB d 248 43 L st A := x_if (op := o_icmp (fun x y => decide (y ≤ x)) 116) rfl rfl rfl
theorem x_248_43  : exG TB d 248 43 (some v :: r9) st A = rg v (exG TB d 248 44 (some v :: r9) (v :: st) A) := x_rg (op := o_aload 0 1) rfl rfl
theorem x_248_44  : exG TB d 248 44 L (.ref p :: st) A = kv (gf A p 127) d 248 47 L st A := x_bd (op := o_get 127) rfl rfl (fun _ => rfl)
theorem x_248_47  : exG TB d 248 47 (a0 :: a1 :: a2 :: a3 :: some (.int i1) :: r9) st A = exG TB d 248 49 (a0 :: a1 :: a2 :: a3 :: some (.int i1) :: r9) (.int i1 :: st) A := x_nx (op := o_iload 4 2) rfl rfl
theorem x_248_49  : exG TB d 248 49 L [b0, .ref p] A = kw (sel (gc A p) [(3, 47)]) [.ref p, b0] d 248 52 L [] A := x_cvb (op := o_cv [(3, 47)] 1 3 false none) rfl rfl x_noh rfl
theorem x_248_52n  : exG TB d 248 52 L (.null :: st) A = exG TB d 248 55 L (.null :: st) A := x_nx (op := o_cast [17]) rfl rfl
theorem x_248_52r  : exG TB d 248 52 L (.ref p :: st) A = ck (cin (gcs A p) [17]) (exG TB d 248 55 L (.ref p :: st) A) := x_gd (op := o_cast [17]) rfl rfl
theorem x_248_55  : exG TB d 248 55 (a0 :: a1 :: a2 :: a3 :: a4 :: a5 :: r9) (v :: st) A = rg v (exG TB d 248 57 (a0 :: a1 :: a2 :: a3 :: a4 :: some v :: r9) st A) := x_rgt (op := o_astore 5 2) rfl rfl
theorem x_248_57  : exG TB d 248 57 (a0 :: a1 :: a2 :: a3 :: a4 :: some v :: r9) st A = rg v (exG TB d 248 59 (a0 :: a1 :: a2 :: a3 :: a4 :: some v :: r9) (v :: st) A) := x_rg (op := o_aload 5 2) rfl rfl
theorem x_248_59  : exG TB d 248 59 L (.ref p :: st) A = kv (gf A p 90) d 248 62 L st A := x_bd (op := o_get 90) rfl rfl (fun _ => rfl)
theorem x_248_62  : exG TB d 248 62 (a0 :: a1 :: a2 :: some v :: r9) st A = rg v (exG TB d 248 63 (a0 :: a1 :: a2 :: some v :: r9) (v :: st) A) := x_rg (op := o_aload 3 1) rfl rfl
theorem x_248_63  : exG TB d 248 63 L (.ref p :: st) A = kv (gf A p 90) d 248 66 L st A := x_bd (op := o_get 90) rfl rfl (fun _ => rfl)
theorem x_248_66  : exG TB d 248 66 L (.int i2 :: .int i1 :: st) A = if ¬ i1 = i2 then exG TB d 248 72 L st A else exG TB d 248 69 L st A := x_if (op := o_icmp (fun x y => decide (¬ x = y)) 72) rfl rfl rfl
theorem x_248_69  : exG TB d 248 69 L st A = exG TB d 248 110 L st A := x_nx (op := o_goto 110) rfl rfl
theorem x_248_72  : exG TB d 248 72 (a0 :: a1 :: some (.int i1) :: r9) st A = exG TB d 248 75 (a0 :: a1 :: some (.int (i1 + (nI 1))) :: r9) st A := x_nx (op := o_iinc 2 1) rfl rfl
theorem x_248_75  : exG TB d 248 75 (some v :: r9) st A = rg v (exG TB d 248 76 (some v :: r9) (v :: st) A) := x_rg (op := o_aload 0 1) rfl rfl
theorem x_248_76  : exG TB d 248 76 L (.ref p :: st) A = kv (gf A p 128) d 248 79 L st A := x_bd (op := o_get 128) rfl rfl (fun _ => rfl)
theorem x_248_79  : exG TB d 248 79 (a0 :: a1 :: some (.int i1) :: r9) st A = exG TB d 248 80 (a0 :: a1 :: some (.int i1) :: r9) (.int i1 :: st) A := x_nx (op := o_iload 2 1) rfl rfl
theorem x_248_80  : exG TB d 248 80 L [b0, .ref p] A = kw (sel (gc A p) [(3, 47)]) [.ref p, b0] d 248 83 L [] A := x_cvb (op := o_cv [(3, 47)] 1 3 false none) rfl rfl x_noh rfl
theorem x_248_83n  : exG TB d 248 83 L (.null :: st) A = exG TB d 248 86 L (.null :: st) A := x_nx (op := o_cast [21]) rfl rfl
theorem x_248_83r  : exG TB d 248 83 L (.ref p :: st) A = ck (cin (gcs A p) [21]) (exG TB d 248 86 L (.ref p :: st) A) := x_gd (op := o_cast [21]) rfl rfl
theorem x_248_86  : exG TB d 248 86 L [.ref p] A = kw (sel (gcs A p) [(21, 21)]) [.ref p] d 248 89 L [] A := x_cvb (op := o_cvs [(21, 21)] 0 3 false) rfl rfl x_noh rfl
theorem x_248_89  : exG TB d 248 89 (a0 :: a1 :: a2 :: a3 :: a4 :: some v :: r9) st A = rg v (exG TB d 248 91 (a0 :: a1 :: a2 :: a3 :: a4 :: some v :: r9) (v :: st) A) := x_rg (op := o_aload 5 2) rfl rfl
theorem x_248_91  : exG TB d 248 91 L (.ref p :: st) A = kv (gf A p 90) d 248 94 L st A := x_bd (op := o_get 90) rfl rfl (fun _ => rfl)
theorem x_248_94  : exG TB d 248 94 L (.int i2 :: .int i1 :: st) A = if i1 = i2 then exG TB d 248 103 L st A else exG TB d 248 97 L st A := x_if (op := o_icmp (fun x y => decide (x = y)) 103) rfl rfl rfl
theorem x_248_97  : exG TB d 248 97 (a0 :: a1 :: some (.int i1) :: r9) st A = exG TB d 248 100 (a0 :: a1 :: some (.int (i1 + (nI 1))) :: r9) st A := x_nx (op := o_iinc 2 1) rfl rfl
theorem x_248_100  : exG TB d 248 100 L st A = exG TB d 248 75 L st A := x_nx (op := o_goto 75) rfl rfl
theorem x_248_103  : exG TB d 248 103 (a0 :: some v :: r9) st A = rg v (exG TB d 248 104 (a0 :: some v :: r9) (v :: st) A) := x_rg (op := o_aload 1 1) rfl rfl
theorem x_248_104  : exG TB d 248 104 (a0 :: a1 :: some (.int i1) :: r9) st A = exG TB d 248 105 (a0 :: a1 :: some (.int i1) :: r9) (.int i1 :: st) A := x_nx (op := o_iload 2 1) rfl rfl
theorem x_248_105  : exG TB d 248 105 L st A = exG TB d 248 106 L (.int (nI 1) :: st) A := x_nx (op := o_push 1 (.int 1)) rfl rfl
theorem x_248_106  : exG TB d 248 106 L (.int i2 :: .int i1 :: .ref p :: st) A = ka (wrI 2 (ga A p) i1 i2) p d 248 107 L st A := x_bd (op := o_wrI 2) rfl rfl (fun _ => rfl)
theorem x_248_107  : exG TB d 248 107 (a0 :: a1 :: a2 :: a3 :: a4 :: some v :: r9) st A = rg v (exG TB d 248 109 (a0 :: a1 :: a2 :: a3 :: a4 :: some v :: r9) (v :: st) A) := x_rg (op := o_aload 5 2) rfl rfl
theorem x_248_109  : exG TB d 248 109 (a0 :: a1 :: a2 :: a3 :: r9) (v :: st) A = rg v (exG TB d 248 110 (a0 :: a1 :: a2 :: some v :: r9) st A) := x_rgt (op := o_astore 3 1) rfl rfl
theorem x_248_110  : exG TB d 248 110 (a0 :: a1 :: a2 :: a3 :: some (.int i1) :: r9) st A = exG TB d 248 113 (a0 :: a1 :: a2 :: a3 :: some (.int (i1 + (nI 1))) :: r9) st A := x_nx (op := o_iinc 4 1) rfl rfl
theorem x_248_113  : exG TB d 248 113 L st A = exG TB d 248 31 L st A := x_nx (op := o_goto 31) rfl rfl
theorem x_248_116  : exG TB d 248 116 (a0 :: some v :: r9) st A = rg v (exG TB d 248 117 (a0 :: some v :: r9) (v :: st) A) := x_rg (op := o_aload 1 1) rfl rfl
theorem x_248_117  : exG TB d 248 117 L [v] A = ck (okv 0 v) (some (.inl (some v), A)) := x_outg (op := o_ret 0) rfl rfl
theorem e_249 {j1 : Int32} {j2 : Int32} {j4 : Int32} {j5 : Int32} {j6 : Int32} : evG TB (d + 1) 249 [.ref p, .int j1, .int j2, b3, .int j4, .int j5, .int j6] A = rg b3 (exG TB d 249 0 [some (.ref p), some (.int j1), some (.int j2), some (b3), some (.int j4), some (.int j5), some (.int j6)] [] A) := by
  rw [evG_eq]
  show (bif (true && (true && (true && (isR b3 && (true && (true && (true && true))))))) then exG TB d 249 0 [some (.ref p), some (.int j1), some (.int j2), some (b3), some (.int j4), some (.int j5), some (.int j6)] [] A else none) = _
  unfold rg
  cases isR b3 <;> rfl
theorem x_249_0  : exG TB d 249 0 (some v :: r9) st A = rg v (exG TB d 249 1 (some v :: r9) (v :: st) A) := x_rg (op := o_aload 0 1) rfl rfl
theorem x_249_1  : exG TB d 249 1 L [.ref p] A = exG TB d 249 4 L [] A := x_nx (op := o_oi) rfl rfl
theorem x_249_4  : exG TB d 249 4 (some v :: r9) st A = rg v (exG TB d 249 5 (some v :: r9) (v :: st) A) := x_rg (op := o_aload 0 1) rfl rfl
theorem x_249_5  : exG TB d 249 5 (a0 :: some (.int i1) :: r9) st A = exG TB d 249 6 (a0 :: some (.int i1) :: r9) (.int i1 :: st) A := x_nx (op := o_iload 1 1) rfl rfl
theorem x_249_6  : exG TB d 249 6 L (v :: .ref p :: st) A = ck ((gf A p 133).isSome && okv 1 v) (exG TB d 249 9 L st (setf A p 133 v)) := x_gd (op := o_put 133 1) rfl rfl
theorem x_249_9  : exG TB d 249 9 (some v :: r9) st A = rg v (exG TB d 249 10 (some v :: r9) (v :: st) A) := x_rg (op := o_aload 0 1) rfl rfl
theorem x_249_10  : exG TB d 249 10 (a0 :: a1 :: some (.int i1) :: r9) st A = exG TB d 249 11 (a0 :: a1 :: some (.int i1) :: r9) (.int i1 :: st) A := x_nx (op := o_iload 2 1) rfl rfl
theorem x_249_11  : exG TB d 249 11 L (v :: .ref p :: st) A = ck ((gf A p 134).isSome && okv 1 v) (exG TB d 249 14 L st (setf A p 134 v)) := x_gd (op := o_put 134 1) rfl rfl
theorem x_249_14  : exG TB d 249 14 (some v :: r9) st A = rg v (exG TB d 249 15 (some v :: r9) (v :: st) A) := x_rg (op := o_aload 0 1) rfl rfl
theorem x_249_15  : exG TB d 249 15 (a0 :: a1 :: a2 :: some v :: r9) st A = rg v (exG TB d 249 16 (a0 :: a1 :: a2 :: some v :: r9) (v :: st) A) := x_rg (op := o_aload 3 1) rfl rfl
theorem x_249_16  : exG TB d 249 16 L (v :: .ref p :: st) A = ck ((gf A p 140).isSome && okv 0 v) (exG TB d 249 19 L st (setf A p 140 v)) := x_gd (op := o_put 140 0) rfl rfl
theorem x_249_19  : exG TB d 249 19 (some v :: r9) st A = rg v (exG TB d 249 20 (some v :: r9) (v :: st) A) := x_rg (op := o_aload 0 1) rfl rfl
theorem x_249_20  : exG TB d 249 20 (a0 :: a1 :: a2 :: a3 :: some (.int i1) :: r9) st A = exG TB d 249 22 (a0 :: a1 :: a2 :: a3 :: some (.int i1) :: r9) (.int i1 :: st) A := x_nx (op := o_iload 4 2) rfl rfl
theorem x_249_22  : exG TB d 249 22 L (v :: .ref p :: st) A = ck ((gf A p 137).isSome && okv 1 v) (exG TB d 249 25 L st (setf A p 137 v)) := x_gd (op := o_put 137 1) rfl rfl
theorem x_249_25  : exG TB d 249 25 (some v :: r9) st A = rg v (exG TB d 249 26 (some v :: r9) (v :: st) A) := x_rg (op := o_aload 0 1) rfl rfl
theorem x_249_26  : exG TB d 249 26 (a0 :: a1 :: a2 :: a3 :: a4 :: some (.int i1) :: r9) st A = exG TB d 249 28 (a0 :: a1 :: a2 :: a3 :: a4 :: some (.int i1) :: r9) (.int i1 :: st) A := x_nx (op := o_iload 5 2) rfl rfl
theorem x_249_28  : exG TB d 249 28 L (v :: .ref p :: st) A = ck ((gf A p 138).isSome && okv 1 v) (exG TB d 249 31 L st (setf A p 138 v)) := x_gd (op := o_put 138 1) rfl rfl
theorem x_249_31  : exG TB d 249 31 (some v :: r9) st A = rg v (exG TB d 249 32 (some v :: r9) (v :: st) A) := x_rg (op := o_aload 0 1) rfl rfl
theorem x_249_32  : exG TB d 249 32 (a0 :: a1 :: a2 :: a3 :: a4 :: a5 :: some (.int i1) :: r9) st A = exG TB d 249 34 (a0 :: a1 :: a2 :: a3 :: a4 :: a5 :: some (.int i1) :: r9) (.int i1 :: st) A := x_nx (op := o_iload 6 2) rfl rfl
theorem x_249_34  : exG TB d 249 34 L (v :: .ref p :: st) A = ck ((gf A p 139).isSome && okv 1 v) (exG TB d 249 37 L st (setf A p 139 v)) := x_gd (op := o_put 139 1) rfl rfl
theorem x_249_37  : exG TB d 249 37 (some v :: r9) st A = rg v (exG TB d 249 38 (some v :: r9) (v :: st) A) := x_rg (op := o_aload 0 1) rfl rfl
theorem x_249_38  : exG TB d 249 38 (a0 :: a1 :: a2 :: some v :: r9) st A = rg v (exG TB d 249 39 (a0 :: a1 :: a2 :: some v :: r9) (v :: st) A) := x_rg (op := o_aload 3 1) rfl rfl
theorem x_249_39  : exG TB d 249 39 L [.ref p, w0] A = kw (sel (gc A p) [(26, 246)]) [.ref p] d 249 42 L [w0] A := x_cvb (op := o_cv [(26, 246)] 0 3 false none) rfl rfl x_noh rfl
theorem x_249_42  : exG TB d 249 42 L (v :: .ref p :: st) A = ck ((gf A p 136).isSome && okv 1 v) (exG TB d 249 45 L st (setf A p 136 v)) := x_gd (op := o_put 136 1) rfl rfl
theorem x_249_45  : exG TB d 249 45 (some v :: r9) st A = rg v (exG TB d 249 46 (some v :: r9) (v :: st) A) := x_rg (op := o_aload 0 1) rfl rfl
theorem x_249_46  : exG TB d 249 46 (a0 :: a1 :: a2 :: some v :: r9) st A = rg v (exG TB d 249 47 (a0 :: a1 :: a2 :: some v :: r9) (v :: st) A) := x_rg (op := o_aload 3 1) rfl rfl
theorem x_249_47  : exG TB d 249 47 (a0 :: a1 :: a2 :: a3 :: some (.int i1) :: r9) st A = exG TB d 249 49 (a0 :: a1 :: a2 :: a3 :: some (.int i1) :: r9) (.int i1 :: st) A := x_nx (op := o_iload 4 2) rfl rfl
theorem x_249_49  : exG TB d 249 49 (a0 :: a1 :: a2 :: a3 :: a4 :: some (.int i1) :: r9) st A = exG TB d 249 51 (a0 :: a1 :: a2 :: a3 :: a4 :: some (.int i1) :: r9) (.int i1 :: st) A := x_nx (op := o_iload 5 2) rfl rfl
theorem x_249_51  : exG TB d 249 51 (a0 :: a1 :: a2 :: a3 :: a4 :: a5 :: some (.int i1) :: r9) st A = exG TB d 249 53 (a0 :: a1 :: a2 :: a3 :: a4 :: a5 :: some (.int i1) :: r9) (.int i1 :: st) A := x_nx (op := o_iload 6 2) rfl rfl
theorem x_249_53  : exG TB d 249 53 L [b3, b2, b1, b0, w0] A = kc (evG TB d 254 [b0, b1, b2, b3] A) d 249 56 L [w0] := x_cv (op := o_cs 254 4 false none) rfl rfl x_noh rfl
theorem x_249_56  : exG TB d 249 56 L (v :: .ref p :: st) A = ck ((gf A p 135).isSome && okv 1 v) (exG TB d 249 59 L st (setf A p 135 v)) := x_gd (op := o_put 135 1) rfl rfl
theorem x_249_59  : exG TB d 249 59 L [] A = some (.inl none, A) := x_out (op := o_vret) rfl rfl
theorem e_250  : evG TB (d + 1) 250 [.ref p] A = exG TB d 250 0 [some (.ref p), none] [] A := evG_eq TB d 250 _ A
theorem x_250_0  : exG TB d 250 0 (some v :: r9) st A = rg v (exG TB d 250 1 (some v :: r9) (v :: st) A) := x_rg (op := o_aload 0 1) rfl rfl
theorem x_250_1  : exG TB d 250 1 L (.ref p :: st) A = kv (gf A p 140) d 250 4 L st A := x_bd (op := o_get 140) rfl rfl (fun _ => rfl)
theorem x_250_4  : exG TB d 250 4 (a0 :: a1 :: r9) (v :: st) A = rg v (exG TB d 250 5 (a0 :: some v :: r9) st A) := x_rgt (op := o_astore 1 1) rfl rfl
theorem x_250_5  : exG TB d 250 5 (a0 :: some v :: r9) st A = rg v (exG TB d 250 6 (a0 :: some v :: r9) (v :: st) A) := x_rg (op := o_aload 1 1) rfl rfl
theorem x_250_6  : exG TB d 250 6 (some v :: r9) st A = rg v (exG TB d 250 7 (some v :: r9) (v :: st) A) := x_rg (op := o_aload 0 1) rfl rfl
theorem x_250_7  : exG TB d 250 7 L (.ref p :: st) A = kv (gf A p 137) d 250 10 L st A := x_bd (op := o_get 137) rfl rfl (fun _ => rfl)
theorem x_250_10  : exG TB d 250 10 L [b0, .ref p] A = kw (sel (gc A p) [(26, 255)]) [.ref p, b0] d 250 15 L [] A := x_cvb (op := o_cv [(26, 255)] 1 5 false none) rfl rfl x_noh rfl
theorem x_250_15  : exG TB d 250 15 L [v] A = ck (okv 1 v) (some (.inl (some v), A)) := x_outg (op := o_ret 1) rfl rfl
theorem e_251  : evG TB (d + 1) 251 [.ref p] A = exG TB d 251 0 [some (.ref p)] [] A := evG_eq TB d 251 _ A
theorem x_251_0  : exG TB d 251 0 (some v :: r9) st A = rg v (exG TB d 251 1 (some v :: r9) (v :: st) A) := x_rg (op := o_aload 0 1) rfl rfl
theorem x_251_1  : exG TB d 251 1 L (.ref p :: st) A = kv (gf A p 140) d 251 4 L st A := x_bd (op := o_get 140) rfl rfl (fun _ => rfl)
theorem x_251_4  : exG TB d 251 4 L [.ref p] A = kw (sel (gc A p) [(26, 247)]) [.ref p] d 251 7 L [] A := x_cvb (op := o_cv [(26, 247)] 0 3 false none) rfl rfl x_noh rfl
theorem x_251_7  : exG TB d 251 7 L [v] A = ck (okv 1 v) (some (.inl (some v), A)) := x_outg (op := o_ret 1) rfl rfl
theorem e_252 {j1 : Int32} : evG TB (d + 1) 252 [.ref p, .int j1] A = exG TB d 252 0 [some (.ref p), some (.int j1)] [] A := evG_eq TB d 252 _ A
theorem x_252_0  : exG TB d 252 0 (a0 :: some (.int i1) :: r9) st A = exG TB d 252 1 (a0 :: some (.int i1) :: r9) (.int i1 :: st) A := x_nx (op := o_iload 1 1) rfl rfl
theorem x_252_1  : exG TB d 252 1 (a0 :: some (.int i1) :: r9) st A = exG TB d 252 2 (a0 :: some (.int i1) :: r9) (.int i1 :: st) A := x_nx (op := o_iload 1 1) rfl rfl
theorem x_252_2  : exG TB d 252 2 (some v :: r9) st A = rg v (exG TB d 252 3 (some v :: r9) (v :: st) A) := x_rg (op := o_aload 0 1) rfl rfl
theorem x_252_3  : exG TB d 252 3 L (.ref p :: st) A = kv (gf A p 137) d 252 6 L st A := x_bd (op := o_get 137) rfl rfl (fun _ => rfl)
theorem x_252_6  : exG TB d 252 6 L (.int i2 :: .int i1 :: st) A = exG TB d 252 7 L (.int (i1 * i2) :: st) A := x_nx (op := o_iop (fun x y => x * y)) rfl rfl
theorem x_252_7  : exG TB d 252 7 L st A = exG TB d 252 9 L (.int (nI 100) :: st) A := x_nx (op := o_push 2 (.int 100)) rfl rfl
theorem x_252_9  : exG TB d 252 9 L (.int i2 :: .int i1 :: st) A = ck (decide (¬ i2 = nI 0)) (exG TB d 252 10 L (.int (i1 / i2) :: st) A) := x_gd (op := o_iopz (fun x y => x / y)) rfl rfl
theorem x_252_10  : exG TB d 252 10 L (.int i2 :: .int i1 :: st) A = exG TB d 252 11 L (.int (i1 - i2) :: st) A := x_nx (op := o_iop (fun x y => x - y)) rfl rfl
theorem x_252_11  : exG TB d 252 11 (some v :: r9) st A = rg v (exG TB d 252 12 (some v :: r9) (v :: st) A) := x_rg (op := o_aload 0 1) rfl rfl
theorem x_252_12  : exG TB d 252 12 L (.ref p :: st) A = kv (gf A p 138) d 252 15 L st A := x_bd (op := o_get 138) rfl rfl (fun _ => rfl)
theorem x_252_15  : exG TB d 252 15 L (.int i2 :: .int i1 :: st) A = exG TB d 252 16 L (.int (i1 + i2) :: st) A := x_nx (op := o_iop (fun x y => x + y)) rfl rfl
theorem x_252_16  : exG TB d 252 16 (some v :: r9) st A = rg v (exG TB d 252 17 (some v :: r9) (v :: st) A) := x_rg (op := o_aload 0 1) rfl rfl
theorem x_252_17  : exG TB d 252 17 L (.ref p :: st) A = kv (gf A p 139) d 252 20 L st A := x_bd (op := o_get 139) rfl rfl (fun _ => rfl)
theorem x_252_20  : exG TB d 252 20 L (.int i2 :: .int i1 :: st) A = exG TB d 252 21 L (.int (i1 + i2) :: st) A := x_nx (op := o_iop (fun x y => x + y)) rfl rfl
theorem x_252_21  : exG TB d 252 21 L [v] A = ck (okv 1 v) (some (.inl (some v), A)) := x_outg (op := o_ret 1) rfl rfl
theorem e_253  : evG TB (d + 1) 253 [.ref p] A = exG TB d 253 0 [some (.ref p), none] [] A := evG_eq TB d 253 _ A
theorem x_253_0  : exG TB d 253 0 L st A = exG TB d 253 3 L (.ref (nx A) :: st) (newo A 27 10 dv27) := x_nx (op := o_new 27 10 dv27) rfl rfl
theorem x_253_3  : exG TB d 253 3 L (v :: st) A = ck (c1 v) (exG TB d 253 4 L (v :: v :: st) A) := x_gd (op := o_dup) rfl rfl
theorem x_253_4  : exG TB d 253 4 (some v :: r9) st A = rg v (exG TB d 253 5 (some v :: r9) (v :: st) A) := x_rg (op := o_aload 0 1) rfl rfl
theorem x_253_5  : exG TB d 253 5 L (.ref p :: st) A = kv (gf A p 133) d 253 8 L st A := x_bd (op := o_get 133) rfl rfl (fun _ => rfl)
theorem x_253_8  : exG TB d 253 8 (some v :: r9) st A = rg v (exG TB d 253 9 (some v :: r9) (v :: st) A) := x_rg (op := o_aload 0 1) rfl rfl
theorem x_253_9  : exG TB d 253 9 L (.ref p :: st) A = kv (gf A p 134) d 253 12 L st A := x_bd (op := o_get 134) rfl rfl (fun _ => rfl)
theorem x_253_12  : exG TB d 253 12 (some v :: r9) st A = rg v (exG TB d 253 13 (some v :: r9) (v :: st) A) := x_rg (op := o_aload 0 1) rfl rfl
theorem x_253_13  : exG TB d 253 13 L (.ref p :: st) A = kv (gf A p 140) d 253 16 L st A := x_bd (op := o_get 140) rfl rfl (fun _ => rfl)
theorem x_253_16  : exG TB d 253 16 (some v :: r9) st A = rg v (exG TB d 253 17 (some v :: r9) (v :: st) A) := x_rg (op := o_aload 0 1) rfl rfl
theorem x_253_17  : exG TB d 253 17 L (.ref p :: st) A = kv (gf A p 137) d 253 20 L st A := x_bd (op := o_get 137) rfl rfl (fun _ => rfl)
theorem x_253_20  : exG TB d 253 20 (some v :: r9) st A = rg v (exG TB d 253 21 (some v :: r9) (v :: st) A) := x_rg (op := o_aload 0 1) rfl rfl
theorem x_253_21  : exG TB d 253 21 L (.ref p :: st) A = kv (gf A p 138) d 253 24 L st A := x_bd (op := o_get 138) rfl rfl (fun _ => rfl)
theorem x_253_24  : exG TB d 253 24 (some v :: r9) st A = rg v (exG TB d 253 25 (some v :: r9) (v :: st) A) := x_rg (op := o_aload 0 1) rfl rfl
theorem x_253_25  : exG TB d 253 25 L (.ref p :: st) A = kv (gf A p 139) d 253 28 L st A := x_bd (op := o_get 139) rfl rfl (fun _ => rfl)
theorem x_253_28  : exG TB d 253 28 L [b5, b4, b3, b2, b1, b0, .ref p, w0] A = kc0 (evG TB d 249 [.ref p, b0, b1, b2, b3, b4, b5] A) d 253 31 L [w0] := x_c0 (op := o_ci 249 6) rfl rfl x_noh rfl
theorem x_253_31  : exG TB d 253 31 (a0 :: a1 :: r9) (v :: st) A = rg v (exG TB d 253 32 (a0 :: some v :: r9) st A) := x_rgt (op := o_astore 1 1) rfl rfl
theorem x_253_32  : exG TB d 253 32 (a0 :: some v :: r9) st A = rg v (exG TB d 253 33 (a0 :: some v :: r9) (v :: st) A) := x_rg (op := o_aload 1 1) rfl rfl
theorem x_253_33  : exG TB d 253 33 (some v :: r9) st A = rg v (exG TB d 253 34 (some v :: r9) (v :: st) A) := x_rg (op := o_aload 0 1) rfl rfl
theorem x_253_34  : exG TB d 253 34 L (.ref p :: st) A = kv (gf A p 141) d 253 37 L st A := x_bd (op := o_get 141) rfl rfl (fun _ => rfl)
theorem x_253_37  : exG TB d 253 37 L (v :: .ref p :: st) A = ck ((gf A p 141).isSome && okv 1 v) (exG TB d 253 40 L st (setf A p 141 v)) := x_gd (op := o_put 141 1) rfl rfl
theorem x_253_40  : exG TB d 253 40 (a0 :: some v :: r9) st A = rg v (exG TB d 253 41 (a0 :: some v :: r9) (v :: st) A) := x_rg (op := o_aload 1 1) rfl rfl
theorem x_253_41  : exG TB d 253 41 (some v :: r9) st A = rg v (exG TB d 253 42 (some v :: r9) (v :: st) A) := x_rg (op := o_aload 0 1) rfl rfl
theorem x_253_42  : exG TB d 253 42 L (.ref p :: st) A = kv (gf A p 142) d 253 45 L st A := x_bd (op := o_get 142) rfl rfl (fun _ => rfl)
theorem x_253_45  : exG TB d 253 45 L (v :: .ref p :: st) A = ck ((gf A p 142).isSome && okv 1 v) (exG TB d 253 48 L st (setf A p 142 v)) := x_gd (op := o_put 142 1) rfl rfl
theorem x_253_48  : exG TB d 253 48 (a0 :: some v :: r9) st A = rg v (exG TB d 253 49 (a0 :: some v :: r9) (v :: st) A) := x_rg (op := o_aload 1 1) rfl rfl
theorem x_253_49  : exG TB d 253 49 L [v] A = ck (okv 0 v) (some (.inl (some v), A)) := x_outg (op := o_ret 0) rfl rfl
theorem e_254 {j1 : Int32} {j2 : Int32} {j3 : Int32} : evG TB (d + 1) 254 [b0, .int j1, .int j2, .int j3] A = rg b0 (exG TB d 254 0 [some (b0), some (.int j1), some (.int j2), some (.int j3)] [] A) := by
  rw [evG_eq]
  show (bif (isR b0 && (true && (true && (true && true)))) then exG TB d 254 0 [some (b0), some (.int j1), some (.int j2), some (.int j3)] [] A else none) = _
  unfold rg
  cases isR b0 <;> rfl
theorem x_254_0  : exG TB d 254 0 (some v :: r9) st A = rg v (exG TB d 254 1 (some v :: r9) (v :: st) A) := x_rg (op := o_aload 0 1) rfl rfl
theorem x_254_1  : exG TB d 254 1 L [.ref p] A = kw (sel (gc A p) [(26, 246)]) [.ref p] d 254 6 L [] A := x_cvb (op := o_cv [(26, 246)] 0 5 false none) rfl rfl x_noh rfl
theorem x_254_6  : exG TB d 254 6 (some v :: r9) st A = rg v (exG TB d 254 7 (some v :: r9) (v :: st) A) := x_rg (op := o_aload 0 1) rfl rfl
theorem x_254_7  : exG TB d 254 7 (a0 :: some (.int i1) :: r9) st A = exG TB d 254 8 (a0 :: some (.int i1) :: r9) (.int i1 :: st) A := x_nx (op := o_iload 1 1) rfl rfl
theorem x_254_8  : exG TB d 254 8 L [b0, .ref p, w0] A = kw (sel (gc A p) [(26, 255)]) [.ref p, b0] d 254 13 L [w0] A := x_cvb (op := o_cv [(26, 255)] 1 5 false none) rfl rfl x_noh rfl
theorem x_254_13  : exG TB d 254 13 L (.int i2 :: .int i1 :: st) A = exG TB d 254 14 L (.int (i1 - i2) :: st) A := x_nx (op := o_iop (fun x y => x - y)) rfl rfl
theorem x_254_14  : exG TB d 254 14 (a0 :: a1 :: some (.int i1) :: r9) st A = exG TB d 254 15 (a0 :: a1 :: some (.int i1) :: r9) (.int i1 :: st) A := x_nx (op := o_iload 2 1) rfl rfl
theorem x_254_15  : exG TB d 254 15 L (.int i2 :: .int i1 :: st) A = exG TB d 254 16 L (.int (i1 + i2) :: st) A := x_nx (op := o_iop (fun x y => x + y)) rfl rfl
theorem x_254_16  : exG TB d 254 16 (a0 :: a1 :: a2 :: some (.int i1) :: r9) st A = exG TB d 254 17 (a0 :: a1 :: a2 :: some (.int i1) :: r9) (.int i1 :: st) A := x_nx (op := o_iload 3 1) rfl rfl
theorem x_254_17  : exG TB d 254 17 L (.int i2 :: .int i1 :: st) A = exG TB d 254 18 L (.int (i1 + i2) :: st) A := x_nx (op := o_iop (fun x y => x + y)) rfl rfl
theorem x_254_18  : exG TB d 254 18 L [v] A = ck (okv 1 v) (some (.inl (some v), A)) := x_outg (op := o_ret 1) rfl rfl
theorem e_255 {j1 : Int32} : evG TB (d + 1) 255 [.ref p, .int j1] A = exG TB d 255 0 [some (.ref p), some (.int j1)] [] A := evG_eq TB d 255 _ A
theorem x_255_0  : exG TB d 255 0 (some v :: r9) st A = rg v (exG TB d 255 1 (some v :: r9) (v :: st) A) := x_rg (op := o_aload 0 1) rfl rfl
theorem x_255_1  : exG TB d 255 1 L [.ref p] A = kw (sel (gc A p) [(26, 246)]) [.ref p] d 255 6 L [] A := x_cvb (op := o_cv [(26, 246)] 0 5 false none) rfl rfl x_noh rfl
theorem x_255_6  : exG TB d 255 6 (a0 :: some (.int i1) :: r9) st A = exG TB d 255 7 (a0 :: some (.int i1) :: r9) (.int i1 :: st) A := x_nx (op := o_iload 1 1) rfl rfl
theorem x_255_7  : exG TB d 255 7 L (.int i2 :: .int i1 :: st) A = exG TB d 255 8 L (.int (i1 * i2) :: st) A := x_nx (op := o_iop (fun x y => x * y)) rfl rfl
theorem x_255_8  : exG TB d 255 8 L st A = exG TB d 255 10 L (.int (nI 100) :: st) A := x_nx (op := o_push 2 (.int 100)) rfl rfl
theorem x_255_10  : exG TB d 255 10 L (.int i2 :: .int i1 :: st) A = ck (decide (¬ i2 = nI 0)) (exG TB d 255 11 L (.int (i1 / i2) :: st) A) := x_gd (op := o_iopz (fun x y => x / y)) rfl rfl
theorem x_255_11  : exG TB d 255 11 L [v] A = ck (okv 1 v) (some (.inl (some v), A)) := x_outg (op := o_ret 1) rfl rfl
theorem e_256  : evG TB (d + 1) 256 [.ref p] A = exG TB d 256 0 [some (.ref p)] [] A := evG_eq TB d 256 _ A
theorem x_256_0  : exG TB d 256 0 (some v :: r9) st A = rg v (exG TB d 256 1 (some v :: r9) (v :: st) A) := x_rg (op := o_aload 0 1) rfl rfl
theorem x_256_1  : exG TB d 256 1 L [.ref p] A = exG TB d 256 4 L [] A := x_nx (op := o_oi) rfl rfl
theorem x_256_4  : exG TB d 256 4 (some v :: r9) st A = rg v (exG TB d 256 5 (some v :: r9) (v :: st) A) := x_rg (op := o_aload 0 1) rfl rfl
theorem x_256_5  : exG TB d 256 5 L st A = exG TB d 256 8 L (.ref (nx A) :: st) (newo A 2 4 dv2) := x_nx (op := o_new 2 4 dv2) rfl rfl
theorem x_256_8  : exG TB d 256 8 L (v :: st) A = ck (c1 v) (exG TB d 256 9 L (v :: v :: st) A) := x_gd (op := o_dup) rfl rfl
theorem x_256_9  : exG TB d 256 9 L [.ref p, w0, w1] A = kc0 (evG TB d 282 [.ref p] A) d 256 12 L [w0, w1] := x_c0 (op := o_ci 282 0) rfl rfl x_noh rfl
theorem x_256_12  : exG TB d 256 12 L (v :: .ref p :: st) A = ck ((gf A p 6).isSome && okv 0 v) (exG TB d 256 15 L st (setf A p 6 v)) := x_gd (op := o_put 6 0) rfl rfl
theorem x_256_15  : exG TB d 256 15 (some v :: r9) st A = rg v (exG TB d 256 16 (some v :: r9) (v :: st) A) := x_rg (op := o_aload 0 1) rfl rfl
theorem x_256_16  : exG TB d 256 16 L st A = exG TB d 256 18 L (.int (nI 8) :: st) A := x_nx (op := o_push 2 (.int 8)) rfl rfl
theorem x_256_18  : exG TB d 256 18 L (.int i1 :: st) A = ck (okn i1) (exG TB d 256 20 L (.ref (nx A) :: st) (newa A (zar 0 i1.toNatClampNeg))) := x_gd (op := o_newa 0 2) rfl rfl
theorem x_256_20  : exG TB d 256 20 L (v :: st) A = ck (c1 v) (exG TB d 256 21 L (v :: v :: st) A) := x_gd (op := o_dup) rfl rfl
theorem x_256_21  : exG TB d 256 21 L st A = exG TB d 256 22 L (.int (nI 0) :: st) A := x_nx (op := o_push 1 (.int 0)) rfl rfl
theorem x_256_22  : exG TB d 256 22 L st A = exG TB d 256 24 L (.int (nI 120) :: st) A := x_nx (op := o_push 2 (.int 120)) rfl rfl
theorem x_256_24  : exG TB d 256 24 L (.int i2 :: .int i1 :: .ref p :: st) A = ka (wrI 0 (ga A p) i1 i2) p d 256 25 L st A := x_bd (op := o_wrI 0) rfl rfl (fun _ => rfl)
theorem x_256_25  : exG TB d 256 25 L (v :: st) A = ck (c1 v) (exG TB d 256 26 L (v :: v :: st) A) := x_gd (op := o_dup) rfl rfl
theorem x_256_26  : exG TB d 256 26 L st A = exG TB d 256 27 L (.int (nI 1) :: st) A := x_nx (op := o_push 1 (.int 1)) rfl rfl
theorem x_256_27  : exG TB d 256 27 L st A = exG TB d 256 28 L (.int (nI 5) :: st) A := x_nx (op := o_push 1 (.int 5)) rfl rfl
theorem x_256_28  : exG TB d 256 28 L (.int i2 :: .int i1 :: .ref p :: st) A = ka (wrI 0 (ga A p) i1 i2) p d 256 29 L st A := x_bd (op := o_wrI 0) rfl rfl (fun _ => rfl)
theorem x_256_29  : exG TB d 256 29 L (v :: st) A = ck (c1 v) (exG TB d 256 30 L (v :: v :: st) A) := x_gd (op := o_dup) rfl rfl
theorem x_256_30  : exG TB d 256 30 L st A = exG TB d 256 31 L (.int (nI 2) :: st) A := x_nx (op := o_push 1 (.int 2)) rfl rfl
theorem x_256_31  : exG TB d 256 31 L st A = exG TB d 256 32 L (.int (nI 2) :: st) A := x_nx (op := o_push 1 (.int 2)) rfl rfl
theorem x_256_32  : exG TB d 256 32 L (.int i2 :: .int i1 :: .ref p :: st) A = ka (wrI 0 (ga A p) i1 i2) p d 256 33 L st A := x_bd (op := o_wrI 0) rfl rfl (fun _ => rfl)
theorem x_256_33  : exG TB d 256 33 L (v :: st) A = ck (c1 v) (exG TB d 256 34 L (v :: v :: st) A) := x_gd (op := o_dup) rfl rfl
theorem x_256_34  : exG TB d 256 34 L st A = exG TB d 256 35 L (.int (nI 3) :: st) A := x_nx (op := o_push 1 (.int 3)) rfl rfl
theorem x_256_35  : exG TB d 256 35 L st A = exG TB d 256 37 L (.int (nI 80) :: st) A := x_nx (op := o_push 2 (.int 80)) rfl rfl
theorem x_256_37  : exG TB d 256 37 L (.int i2 :: .int i1 :: .ref p :: st) A = ka (wrI 0 (ga A p) i1 i2) p d 256 38 L st A := x_bd (op := o_wrI 0) rfl rfl (fun _ => rfl)
theorem x_256_38  : exG TB d 256 38 L (v :: st) A = ck (c1 v) (exG TB d 256 39 L (v :: v :: st) A) := x_gd (op := o_dup) rfl rfl
theorem x_256_39  : exG TB d 256 39 L st A = exG TB d 256 40 L (.int (nI 4) :: st) A := x_nx (op := o_push 1 (.int 4)) rfl rfl
theorem x_256_40  : exG TB d 256 40 L st A = exG TB d 256 42 L (.int (nI 70) :: st) A := x_nx (op := o_push 2 (.int 70)) rfl rfl
theorem x_256_42  : exG TB d 256 42 L (.int i2 :: .int i1 :: .ref p :: st) A = ka (wrI 0 (ga A p) i1 i2) p d 256 43 L st A := x_bd (op := o_wrI 0) rfl rfl (fun _ => rfl)
theorem x_256_43  : exG TB d 256 43 L (v :: st) A = ck (c1 v) (exG TB d 256 44 L (v :: v :: st) A) := x_gd (op := o_dup) rfl rfl
theorem x_256_44  : exG TB d 256 44 L st A = exG TB d 256 45 L (.int (nI 5) :: st) A := x_nx (op := o_push 1 (.int 5)) rfl rfl
theorem x_256_45  : exG TB d 256 45 L st A = exG TB d 256 47 L (.int (nI 90) :: st) A := x_nx (op := o_push 2 (.int 90)) rfl rfl
theorem x_256_47  : exG TB d 256 47 L (.int i2 :: .int i1 :: .ref p :: st) A = ka (wrI 0 (ga A p) i1 i2) p d 256 48 L st A := x_bd (op := o_wrI 0) rfl rfl (fun _ => rfl)
theorem x_256_48  : exG TB d 256 48 L (v :: st) A = ck (c1 v) (exG TB d 256 49 L (v :: v :: st) A) := x_gd (op := o_dup) rfl rfl
theorem x_256_49  : exG TB d 256 49 L st A = exG TB d 256 51 L (.int (nI 6) :: st) A := x_nx (op := o_push 2 (.int 6)) rfl rfl
theorem x_256_51  : exG TB d 256 51 L st A = exG TB d 256 53 L (.int (nI 25) :: st) A := x_nx (op := o_push 2 (.int 25)) rfl rfl
theorem x_256_53  : exG TB d 256 53 L (.int i2 :: .int i1 :: .ref p :: st) A = ka (wrI 0 (ga A p) i1 i2) p d 256 54 L st A := x_bd (op := o_wrI 0) rfl rfl (fun _ => rfl)
theorem x_256_54  : exG TB d 256 54 L (v :: st) A = ck (c1 v) (exG TB d 256 55 L (v :: v :: st) A) := x_gd (op := o_dup) rfl rfl
theorem x_256_55  : exG TB d 256 55 L st A = exG TB d 256 57 L (.int (nI 7) :: st) A := x_nx (op := o_push 2 (.int 7)) rfl rfl
theorem x_256_57  : exG TB d 256 57 L st A = exG TB d 256 60 L (.int (nI 150) :: st) A := x_nx (op := o_push 3 (.int 150)) rfl rfl
theorem x_256_60  : exG TB d 256 60 L (.int i2 :: .int i1 :: .ref p :: st) A = ka (wrI 0 (ga A p) i1 i2) p d 256 61 L st A := x_bd (op := o_wrI 0) rfl rfl (fun _ => rfl)
theorem x_256_61  : exG TB d 256 61 L (v :: .ref p :: st) A = ck ((gf A p 7).isSome && okv 0 v) (exG TB d 256 64 L st (setf A p 7 v)) := x_gd (op := o_put 7 0) rfl rfl
theorem x_256_64  : exG TB d 256 64 (some v :: r9) st A = rg v (exG TB d 256 65 (some v :: r9) (v :: st) A) := x_rg (op := o_aload 0 1) rfl rfl
theorem x_256_65  : exG TB d 256 65 L st A = exG TB d 256 67 L (.int (nI 8) :: st) A := x_nx (op := o_push 2 (.int 8)) rfl rfl
theorem x_256_67  : exG TB d 256 67 L (.int i1 :: st) A = ck (okn i1) (exG TB d 256 70 L (.ref (nx A) :: st) (newa A (zar 7 i1.toNatClampNeg))) := x_gd (op := o_newa 7 3) rfl rfl
theorem x_256_70  : exG TB d 256 70 L (v :: .ref p :: st) A = ck ((gf A p 8).isSome && okv 0 v) (exG TB d 256 73 L st (setf A p 8 v)) := x_gd (op := o_put 8 0) rfl rfl
theorem x_256_73  : exG TB d 256 73 (some v :: r9) st A = rg v (exG TB d 256 74 (some v :: r9) (v :: st) A) := x_rg (op := o_aload 0 1) rfl rfl
theorem x_256_74  : exG TB d 256 74 L st A = exG TB d 256 77 L (.ref (nx A) :: st) (newo A 3 3 dv3) := x_nx (op := o_new 3 3 dv3) rfl rfl
theorem x_256_77  : exG TB d 256 77 L (v :: st) A = ck (c1 v) (exG TB d 256 78 L (v :: v :: st) A) := x_gd (op := o_dup) rfl rfl
theorem x_256_78  : exG TB d 256 78 L st A = exG TB d 256 79 L (.int (nI 4) :: st) A := x_nx (op := o_push 1 (.int 4)) rfl rfl
theorem x_256_79  : exG TB d 256 79 L [b0, .ref p, w0, w1] A = kc0 (evG TB d 39 [.ref p, b0] A) d 256 82 L [w0, w1] := x_c0 (op := o_ci 39 1) rfl rfl x_noh rfl
theorem x_256_82  : exG TB d 256 82 L (v :: .ref p :: st) A = ck ((gf A p 10).isSome && okv 0 v) (exG TB d 256 85 L st (setf A p 10 v)) := x_gd (op := o_put 10 0) rfl rfl
theorem x_256_85  : exG TB d 256 85 (some v :: r9) st A = rg v (exG TB d 256 86 (some v :: r9) (v :: st) A) := x_rg (op := o_aload 0 1) rfl rfl
theorem x_256_86  : exG TB d 256 86 L st A = exG TB d 256 89 L (.ref (nx A) :: st) (newo A 3 3 dv3) := x_nx (op := o_new 3 3 dv3) rfl rfl
theorem x_256_89  : exG TB d 256 89 L (v :: st) A = ck (c1 v) (exG TB d 256 90 L (v :: v :: st) A) := x_gd (op := o_dup) rfl rfl
theorem x_256_90  : exG TB d 256 90 L st A = exG TB d 256 91 L (.int (nI 4) :: st) A := x_nx (op := o_push 1 (.int 4)) rfl rfl
theorem x_256_91  : exG TB d 256 91 L [b0, .ref p, w0, w1] A = kc0 (evG TB d 39 [.ref p, b0] A) d 256 94 L [w0, w1] := x_c0 (op := o_ci 39 1) rfl rfl x_noh rfl
theorem x_256_94  : exG TB d 256 94 L (v :: .ref p :: st) A = ck ((gf A p 11).isSome && okv 0 v) (exG TB d 256 97 L st (setf A p 11 v)) := x_gd (op := o_put 11 0) rfl rfl
theorem x_256_97  : exG TB d 256 97 (some v :: r9) st A = rg v (exG TB d 256 98 (some v :: r9) (v :: st) A) := x_rg (op := o_aload 0 1) rfl rfl
theorem x_256_98  : exG TB d 256 98 L st A = exG TB d 256 101 L (.ref (nx A) :: st) (newo A 3 3 dv3) := x_nx (op := o_new 3 3 dv3) rfl rfl
theorem x_256_101  : exG TB d 256 101 L (v :: st) A = ck (c1 v) (exG TB d 256 102 L (v :: v :: st) A) := x_gd (op := o_dup) rfl rfl
theorem x_256_102  : exG TB d 256 102 L st A = exG TB d 256 103 L (.int (nI 4) :: st) A := x_nx (op := o_push 1 (.int 4)) rfl rfl
theorem x_256_103  : exG TB d 256 103 L [b0, .ref p, w0, w1] A = kc0 (evG TB d 39 [.ref p, b0] A) d 256 106 L [w0, w1] := x_c0 (op := o_ci 39 1) rfl rfl x_noh rfl
theorem x_256_106  : exG TB d 256 106 L (v :: .ref p :: st) A = ck ((gf A p 12).isSome && okv 0 v) (exG TB d 256 109 L st (setf A p 12 v)) := x_gd (op := o_put 12 0) rfl rfl
theorem x_256_109  : exG TB d 256 109 (some v :: r9) st A = rg v (exG TB d 256 110 (some v :: r9) (v :: st) A) := x_rg (op := o_aload 0 1) rfl rfl
theorem x_256_110  : exG TB d 256 110 L st A = exG TB d 256 113 L (.ref (nx A) :: st) (newo A 6 8 dv6) := x_nx (op := o_new 6 8 dv6) rfl rfl
theorem x_256_113  : exG TB d 256 113 L (v :: st) A = ck (c1 v) (exG TB d 256 114 L (v :: v :: st) A) := x_gd (op := o_dup) rfl rfl
theorem x_256_114  : exG TB d 256 114 L [.ref p, w0, w1] A = kc0 (evG TB d 28 [.ref p] A) d 256 117 L [w0, w1] := x_c0 (op := o_ci 28 0) rfl rfl x_noh rfl
theorem x_256_117  : exG TB d 256 117 L (v :: .ref p :: st) A = ck ((gf A p 13).isSome && okv 0 v) (exG TB d 256 120 L st (setf A p 13 v)) := x_gd (op := o_put 13 0) rfl rfl
theorem x_256_120  : exG TB d 256 120 L [] A = some (.inl none, A) := x_out (op := o_vret) rfl rfl
end
