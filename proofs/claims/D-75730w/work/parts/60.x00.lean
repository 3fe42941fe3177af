set_option maxRecDepth 100000
def nN : Int32 := -1
/-! what each instruction does, as an equation -/
section
variable {d p q n9 : Nat} {L r9 : Lc} {st : List Value} {A : Hp} {g9 : Nat → Int32} {v v2 v3 w0 w1 w2 w3 w4 w5 w6 w7 w8 w9 w10 w11 b0 b1 b2 b3 b4 b5 b6 b7 b8 b9 b10 b11 : Value} {i1 i2 i3 i4 : Int32} {l1 l2 : Int64} {f1 f2 : UInt32} {d1 d2 : UInt64} {a0 a1 a2 a3 a4 a5 a6 a7 a8 a9 a10 a11 a12 a13 a14 a15 a16 a17 a18 a19 a20 a21 a22 a23 a24 a25 a26 a27 a28 a29 a30 a31 a32 a33 a34 a35 a36 a37 a38 a39 a40 a41 a42 a43 : Option Value}
theorem e_0  : evG TB (d + 1) 0 [.ref p] A = exG TB d 0 0 [some (.ref p)] [] A := evG_eq TB d 0 _ A
theorem x_0_0  : exG TB d 0 0 (some v :: r9) st A = rg v (exG TB d 0 1 (some v :: r9) (v :: st) A) := x_rg (op := o_aload 0 1) rfl rfl
theorem x_0_1  : exG TB d 0 1 L [.ref p] A = exG TB d 0 4 L [] A := x_nx (op := o_oi) rfl rfl
theorem x_0_4  : exG TB d 0 4 L [] A = some (.inl none, A) := x_out (op := o_vret) rfl rfl
theorem e_1  : evG TB (d + 1) 1 [.ref p] A = exG TB d 1 0 [some (.ref p)] [] A := evG_eq TB d 1 _ A
theorem x_1_0  : exG TB d 1 0 (some v :: r9) st A = rg v (exG TB d 1 1 (some v :: r9) (v :: st) A) := x_rg (op := o_aload 0 1) rfl rfl
theorem x_1_1  : exG TB d 1 1 L [.ref p] A = kc0 (evG TB d 0 [.ref p] A) d 1 4 L [] := x_c0 (op := o_ci 0 0) rfl rfl x_noh rfl
theorem x_1_4  : exG TB d 1 4 (some v :: r9) st A = rg v (exG TB d 1 5 (some v :: r9) (v :: st) A) := x_rg (op := o_aload 0 1) rfl rfl
theorem x_1_5  : exG TB d 1 5 L st A = exG TB d 1 6 L (.int (nI 0) :: st) A := x_nx (op := o_push 1 (.int 0)) rfl rfl
theorem x_1_6  : exG TB d 1 6 L (v :: .ref p :: st) A = ck ((gf A p 18).isSome && okv 1 v) (exG TB d 1 9 L st (setf A p 18 v)) := x_gd (op := o_put 18 1) rfl rfl
theorem x_1_9  : exG TB d 1 9 L [] A = some (.inl none, A) := x_out (op := o_vret) rfl rfl
theorem e_2 {j0 : Int32} {j1 : Int32} {j2 : Int32} : evG TB (d + 1) 2 [.int j0, .int j1, .int j2] A = exG TB d 2 0 [some (.int j0), some (.int j1), some (.int j2), none] [] A := evG_eq TB d 2 _ A
theorem x_2_0  : exG TB d 2 0 (some (.int i1) :: r9) st A = exG TB d 2 1 (some (.int i1) :: r9) (.int i1 :: st) A := x_nx (op := o_iload 0 1) rfl rfl
theorem x_2_1  : exG TB d 2 1 (a0 :: some (.int i1) :: r9) st A = exG TB d 2 2 (a0 :: some (.int i1) :: r9) (.int i1 :: st) A := x_nx (op := o_iload 1 1) rfl rfl
theorem x_2_2  : exG TB d 2 2 (a0 :: a1 :: some (.int i1) :: r9) st A = exG TB d 2 3 (a0 :: a1 :: some (.int i1) :: r9) (.int i1 :: st) A := x_nx (op := o_iload 2 1) rfl rfl
theorem x_2_3  : exG TB d 2 3 L [b1, b0, w0] A = kc (evG TB d 6 [b0, b1] A) d 2 6 L [w0] := x_cv (op := o_cs 6 2 false none) rfl rfl x_noh rfl
theorem x_2_6  : exG TB d 2 6 L (.int i2 :: .int i1 :: st) A = exG TB d 2 7 L (.int (i1 + i2) :: st) A := x_nx (op := o_iop (fun x y => x + y)) rfl rfl
theorem x_2_7  : exG TB d 2 7 (a0 :: a1 :: a2 :: a3 :: r9) (.int i1 :: st) A = exG TB d 2 8 (a0 :: a1 :: a2 :: some (.int i1) :: r9) st A := x_nx (op := o_istore 3 1) rfl rfl
theorem x_2_8  : exG TB d 2 8 L st A = exG TB d 2 9 L (.int (nI 0) :: st) A := x_nx (op := o_push 1 (.int 0)) rfl rfl
theorem x_2_9  : exG TB d 2 9 (a0 :: a1 :: a2 :: some (.int i1) :: r9) st A = exG TB d 2 10 (a0 :: a1 :: a2 :: some (.int i1) :: r9) (.int i1 :: st) A := x_nx (op := o_iload 3 1) rfl rfl
theorem x_2_10  : exG TB d 2 10 L (.int i2 :: .int i1 :: st) A = if i2 ≤ i1 then exG TB d 2 21 L st A else exG TB d 2 13 L st A := x_if (op := o_icmp (fun x y => decide (y ≤ x)) 21) rfl rfl rfl
theorem x_2_13  : exG TB d 2 13 (a0 :: a1 :: a2 :: some (.int i1) :: r9) st A = exG TB d 2 14 (a0 :: a1 :: a2 :: some (.int i1) :: r9) (.int i1 :: st) A := x_nx (op := o_iload 3 1) rfl rfl
theorem x_2_14  : exG TB d 2 14 L st A = exG TB d 2 16 L (.int (nI 2147483639) :: st) A := x_nx (op := o_push 2 (.int 2147483639)) rfl rfl
theorem x_2_16  : exG TB d 2 16 L (.int i2 :: .int i1 :: st) A = if i2 < i1 then exG TB d 2 21 L st A else exG TB d 2 19 L st A := x_if (op := o_icmp (fun x y => decide (y < x)) 21) rfl rfl rfl
theorem x_2_19  : exG TB d 2 19 (a0 :: a1 :: a2 :: some (.int i1) :: r9) st A = exG TB d 2 20 (a0 :: a1 :: a2 :: some (.int i1) :: r9) (.int i1 :: st) A := x_nx (op := o_iload 3 1) rfl rfl
theorem x_2_20  : exG TB d 2 20 L [v] A = ck (okv 1 v) (some (.inl (some v), A)) := x_outg (op := o_ret 1) rfl rfl
theorem x_2_21  : exG TB d 2 21 (some (.int i1) :: r9) st A = exG TB d 2 22 (some (.int i1) :: r9) (.int i1 :: st) A := x_nx (op := o_iload 0 1) rfl rfl
theorem x_2_22  : exG TB d 2 22 (a0 :: some (.int i1) :: r9) st A = exG TB d 2 23 (a0 :: some (.int i1) :: r9) (.int i1 :: st) A := x_nx (op := o_iload 1 1) rfl rfl
theorem x_2_26  : exG TB d 2 26 L [v] A = ck (okv 1 v) (some (.inl (some v), A)) := x_outg (op := o_ret 1) rfl rfl
theorem e_3 {j1 : Int32} {j2 : Int32} {j3 : Int32} {j4 : Int32} : evG TB (d + 1) 3 [b0, .int j1, .int j2, .int j3, .int j4] A = rg b0 (exG TB d 3 0 [some (b0), some (.int j1), some (.int j2), some (.int j3), some (.int j4)] [] A) := by
  rw [evG_eq]
  show (bif (isR b0 && (true && (true && (true && (true && true))))) then exG TB d 3 0 [some (b0), some (.int j1), some (.int j2), some (.int j3), some (.int j4)] [] A else none) = _
  unfold rg
  cases isR b0 <;> rfl
theorem x_3_0  : exG TB d 3 0 (a0 :: a1 :: a2 :: a3 :: some (.int i1) :: r9) st A = exG TB d 3 2 (a0 :: a1 :: a2 :: a3 :: some (.int i1) :: r9) (.int i1 :: st) A := x_nx (op := o_iload 4 2) rfl rfl
theorem x_3_2  : exG TB d 3 2 L (.int i1 :: st) A = exG TB d 3 (swt 4 [44, 57, 129, 129, 90, 103, 116] 129 i1) L st A := x_nx (op := o_sw (swt 4 [44, 57, 129, 129, 90, 103, 116] 129)) rfl rfl
theorem x_3_44  : exG TB d 3 44 (a0 :: a1 :: a2 :: some (.int i1) :: r9) st A = exG TB d 3 45 (a0 :: a1 :: a2 :: some (.int i1) :: r9) (.int i1 :: st) A := x_nx (op := o_iload 3 1) rfl rfl
theorem x_3_45  : exG TB d 3 45 (some v :: r9) st A = rg v (exG TB d 3 46 (some v :: r9) (v :: st) A) := x_rg (op := o_aload 0 1) rfl rfl
theorem x_3_46  : exG TB d 3 46 L (.ref p :: st) A = ck (atag (ga A p) 1) (exG TB d 3 49 L (.ref p :: st) A) := x_gd (op := o_casta 1) rfl rfl
theorem x_3_49  : exG TB d 3 49 (a0 :: some (.int i1) :: r9) st A = exG TB d 3 50 (a0 :: some (.int i1) :: r9) (.int i1 :: st) A := x_nx (op := o_iload 1 1) rfl rfl
theorem x_3_50  : exG TB d 3 50 (a0 :: a1 :: some (.int i1) :: r9) st A = exG TB d 3 51 (a0 :: a1 :: some (.int i1) :: r9) (.int i1 :: st) A := x_nx (op := o_iload 2 1) rfl rfl
theorem x_3_51  : exG TB d 3 51 L [b3, b2, b1, b0] A = kc (evG TB d 4 [b0, b1, b2, b3] A) d 3 54 L [] := x_cv (op := o_cs 4 4 false none) rfl rfl x_noh rfl
theorem x_3_54  : exG TB d 3 54 L st A = exG TB d 3 157 L st A := x_nx (op := o_goto 157) rfl rfl
theorem x_3_57  : exG TB d 3 57 (some v :: r9) st A = rg v (exG TB d 3 58 (some v :: r9) (v :: st) A) := x_rg (op := o_aload 0 1) rfl rfl
theorem x_3_61  : exG TB d 3 61 L (.int i1 :: st) A = if i1 = nI 0 then exG TB d 3 77 L st A else exG TB d 3 64 L st A := x_if (op := o_if (fun x => decide (x = 0)) 77) rfl rfl rfl
theorem x_3_64  : exG TB d 3 64 (a0 :: a1 :: a2 :: some (.int i1) :: r9) st A = exG TB d 3 65 (a0 :: a1 :: a2 :: some (.int i1) :: r9) (.int i1 :: st) A := x_nx (op := o_iload 3 1) rfl rfl
theorem x_3_65  : exG TB d 3 65 (some v :: r9) st A = rg v (exG TB d 3 66 (some v :: r9) (v :: st) A) := x_rg (op := o_aload 0 1) rfl rfl
theorem x_3_66  : exG TB d 3 66 L (.ref p :: st) A = ck (atag (ga A p) 1) (exG TB d 3 69 L (.ref p :: st) A) := x_gd (op := o_casta 1) rfl rfl
theorem x_3_69  : exG TB d 3 69 (a0 :: some (.int i1) :: r9) st A = exG TB d 3 70 (a0 :: some (.int i1) :: r9) (.int i1 :: st) A := x_nx (op := o_iload 1 1) rfl rfl
theorem x_3_70  : exG TB d 3 70 (a0 :: a1 :: some (.int i1) :: r9) st A = exG TB d 3 71 (a0 :: a1 :: some (.int i1) :: r9) (.int i1 :: st) A := x_nx (op := o_iload 2 1) rfl rfl
theorem x_3_74  : exG TB d 3 74 L st A = exG TB d 3 157 L st A := x_nx (op := o_goto 157) rfl rfl
theorem x_3_77  : exG TB d 3 77 (a0 :: a1 :: a2 :: some (.int i1) :: r9) st A = exG TB d 3 78 (a0 :: a1 :: a2 :: some (.int i1) :: r9) (.int i1 :: st) A := x_nx (op := o_iload 3 1) rfl rfl
theorem x_3_78  : exG TB d 3 78 (some v :: r9) st A = rg v (exG TB d 3 79 (some v :: r9) (v :: st) A) := x_rg (op := o_aload 0 1) rfl rfl
theorem x_3_82  : exG TB d 3 82 (a0 :: some (.int i1) :: r9) st A = exG TB d 3 83 (a0 :: some (.int i1) :: r9) (.int i1 :: st) A := x_nx (op := o_iload 1 1) rfl rfl
theorem x_3_83  : exG TB d 3 83 (a0 :: a1 :: some (.int i1) :: r9) st A = exG TB d 3 84 (a0 :: a1 :: some (.int i1) :: r9) (.int i1 :: st) A := x_nx (op := o_iload 2 1) rfl rfl
theorem x_3_87  : exG TB d 3 87 L st A = exG TB d 3 157 L st A := x_nx (op := o_goto 157) rfl rfl
theorem x_3_90  : exG TB d 3 90 (a0 :: a1 :: a2 :: some (.int i1) :: r9) st A = exG TB d 3 91 (a0 :: a1 :: a2 :: some (.int i1) :: r9) (.int i1 :: st) A := x_nx (op := o_iload 3 1) rfl rfl
theorem x_3_91  : exG TB d 3 91 (some v :: r9) st A = rg v (exG TB d 3 92 (some v :: r9) (v :: st) A) := x_rg (op := o_aload 0 1) rfl rfl
theorem x_3_92  : exG TB d 3 92 L (.ref p :: st) A = ck (atag (ga A p) 1) (exG TB d 3 95 L (.ref p :: st) A) := x_gd (op := o_casta 1) rfl rfl
theorem x_3_95  : exG TB d 3 95 (a0 :: some (.int i1) :: r9) st A = exG TB d 3 96 (a0 :: some (.int i1) :: r9) (.int i1 :: st) A := x_nx (op := o_iload 1 1) rfl rfl
theorem x_3_96  : exG TB d 3 96 (a0 :: a1 :: some (.int i1) :: r9) st A = exG TB d 3 97 (a0 :: a1 :: some (.int i1) :: r9) (.int i1 :: st) A := x_nx (op := o_iload 2 1) rfl rfl
theorem x_3_97  : exG TB d 3 97 L [b3, b2, b1, b0] A = kc (evG TB d 5 [b0, b1, b2, b3] A) d 3 100 L [] := x_cv (op := o_cs 5 4 false none) rfl rfl x_noh rfl
theorem x_3_100  : exG TB d 3 100 L st A = exG TB d 3 157 L st A := x_nx (op := o_goto 157) rfl rfl
theorem x_3_103  : exG TB d 3 103 (a0 :: a1 :: a2 :: some (.int i1) :: r9) st A = exG TB d 3 104 (a0 :: a1 :: a2 :: some (.int i1) :: r9) (.int i1 :: st) A := x_nx (op := o_iload 3 1) rfl rfl
theorem x_3_104  : exG TB d 3 104 (some v :: r9) st A = rg v (exG TB d 3 105 (some v :: r9) (v :: st) A) := x_rg (op := o_aload 0 1) rfl rfl
theorem x_3_108  : exG TB d 3 108 (a0 :: some (.int i1) :: r9) st A = exG TB d 3 109 (a0 :: some (.int i1) :: r9) (.int i1 :: st) A := x_nx (op := o_iload 1 1) rfl rfl
theorem x_3_109  : exG TB d 3 109 (a0 :: a1 :: some (.int i1) :: r9) st A = exG TB d 3 110 (a0 :: a1 :: some (.int i1) :: r9) (.int i1 :: st) A := x_nx (op := o_iload 2 1) rfl rfl
theorem x_3_113  : exG TB d 3 113 L st A = exG TB d 3 157 L st A := x_nx (op := o_goto 157) rfl rfl
theorem x_3_116  : exG TB d 3 116 (a0 :: a1 :: a2 :: some (.int i1) :: r9) st A = exG TB d 3 117 (a0 :: a1 :: a2 :: some (.int i1) :: r9) (.int i1 :: st) A := x_nx (op := o_iload 3 1) rfl rfl
theorem x_3_117  : exG TB d 3 117 (some v :: r9) st A = rg v (exG TB d 3 118 (some v :: r9) (v :: st) A) := x_rg (op := o_aload 0 1) rfl rfl
theorem x_3_118  : exG TB d 3 118 L (.ref p :: st) A = ck (atag (ga A p) 0) (exG TB d 3 121 L (.ref p :: st) A) := x_gd (op := o_casta 0) rfl rfl
theorem x_3_121  : exG TB d 3 121 (a0 :: some (.int i1) :: r9) st A = exG TB d 3 122 (a0 :: some (.int i1) :: r9) (.int i1 :: st) A := x_nx (op := o_iload 1 1) rfl rfl
theorem x_3_122  : exG TB d 3 122 (a0 :: a1 :: some (.int i1) :: r9) st A = exG TB d 3 123 (a0 :: a1 :: some (.int i1) :: r9) (.int i1 :: st) A := x_nx (op := o_iload 2 1) rfl rfl
theorem x_3_126  : exG TB d 3 126 L st A = exG TB d 3 157 L st A := x_nx (op := o_goto 157) rfl rfl
theorem x_3_132  : exG TB d 3 132 L (v :: st) A = ck (c1 v) (exG TB d 3 133 L (v :: v :: st) A) := x_gd (op := o_dup) rfl rfl
theorem x_3_133  : exG TB d 3 133 L st A = exG TB d 3 136 L (.ref (nx A) :: st) (newo A 4 4 dv4) := x_nx (op := o_new 4 4 dv4) rfl rfl
theorem x_3_136  : exG TB d 3 136 L (v :: st) A = ck (c1 v) (exG TB d 3 137 L (v :: v :: st) A) := x_gd (op := o_dup) rfl rfl
theorem x_3_137  : exG TB d 3 137 L [.ref p, w0, w1, w2] A = kc0 (evG TB d 111 [.ref p] A) d 3 140 L [w0, w1, w2] := x_c0 (op := o_ci 111 0) rfl rfl x_noh rfl
theorem x_3_145  : exG TB d 3 145 (a0 :: a1 :: a2 :: a3 :: some (.int i1) :: r9) st A = exG TB d 3 147 (a0 :: a1 :: a2 :: a3 :: some (.int i1) :: r9) (.int i1 :: st) A := x_nx (op := o_iload 4 2) rfl rfl
theorem x_3_150  : exG TB d 3 150 L [.ref p, w0, w1] A = kw (sel (gc A p) [(4, 112)]) [.ref p] d 3 153 L [w0, w1] A := x_cvb (op := o_cv [(4, 112)] 0 3 false none) rfl rfl x_noh rfl
theorem x_3_157  : exG TB d 3 157 L [v] A = ck (okv 1 v) (some (.inl (some v), A)) := x_outg (op := o_ret 1) rfl rfl
theorem e_4 {j0 : Int32} {j2 : Int32} {j3 : Int32} : evG TB (d + 1) 4 [.int j0, b1, .int j2, .int j3] A = rg b1 (exG TB d 4 0 [some (.int j0), some (b1), some (.int j2), some (.int j3), none, none] [] A) := by
  rw [evG_eq]
  show (bif (true && (isR b1 && (true && (true && true)))) then exG TB d 4 0 [some (.int j0), some (b1), some (.int j2), some (.int j3), none, none] [] A else none) = _
  unfold rg
  cases isR b1 <;> rfl
theorem x_4_0  : exG TB d 4 0 (a0 :: a1 :: some (.int i1) :: r9) st A = exG TB d 4 1 (a0 :: a1 :: some (.int i1) :: r9) (.int i1 :: st) A := x_nx (op := o_iload 2 1) rfl rfl
theorem x_4_1  : exG TB d 4 1 (a0 :: a1 :: a2 :: some (.int i1) :: r9) st A = exG TB d 4 2 (a0 :: a1 :: a2 :: some (.int i1) :: r9) (.int i1 :: st) A := x_nx (op := o_iload 3 1) rfl rfl
theorem x_4_2  : exG TB d 4 2 L (.int i2 :: .int i1 :: st) A = exG TB d 4 3 L (.int (i1 + i2) :: st) A := x_nx (op := o_iop (fun x y => x + y)) rfl rfl
theorem x_4_3  : exG TB d 4 3 (a0 :: a1 :: a2 :: a3 :: a4 :: r9) (.int i1 :: st) A = exG TB d 4 5 (a0 :: a1 :: a2 :: a3 :: some (.int i1) :: r9) st A := x_nx (op := o_istore 4 2) rfl rfl
theorem x_4_5  : exG TB d 4 5 (a0 :: a1 :: some (.int i1) :: r9) st A = exG TB d 4 6 (a0 :: a1 :: some (.int i1) :: r9) (.int i1 :: st) A := x_nx (op := o_iload 2 1) rfl rfl
theorem x_4_6  : exG TB d 4 6 (a0 :: a1 :: a2 :: a3 :: a4 :: a5 :: r9) (.int i1 :: st) A = exG TB d 4 8 (a0 :: a1 :: a2 :: a3 :: a4 :: some (.int i1) :: r9) st A := x_nx (op := o_istore 5 2) rfl rfl
theorem x_4_8  : exG TB d 4 8 (a0 :: a1 :: a2 :: a3 :: a4 :: some (.int i1) :: r9) st A = exG TB d 4 10 (a0 :: a1 :: a2 :: a3 :: a4 :: some (.int i1) :: r9) (.int i1 :: st) A := x_nx (op := o_iload 5 2) rfl rfl
theorem x_4_10  : exG TB d 4 10 (a0 :: a1 :: a2 :: a3 :: some (.int i1) :: r9) st A = exG TB d 4 12 (a0 :: a1 :: a2 :: a3 :: some (.int i1) :: r9) (.int i1 :: st) A := x_nx (op := o_iload 4 2) rfl rfl
theorem x_4_12  : exG TB d 4 12 L (.int i2 :: .int i1 :: st) A = if i2 ≤ i1 then exG TB d 4 35 L st A else exG TB d 4 15 L st A := x_if (op := o_icmp (fun x y => decide (y ≤ x)) 35) rfl rfl rfl
theorem x_4_15  : exG TB d 4 15 L st A = exG TB d 4 17 L (.int (nI 31) :: st) A := x_nx (op := o_push 2 (.int 31)) rfl rfl
theorem x_4_17  : exG TB d 4 17 (some (.int i1) :: r9) st A = exG TB d 4 18 (some (.int i1) :: r9) (.int i1 :: st) A := x_nx (op := o_iload 0 1) rfl rfl
theorem x_4_18  : exG TB d 4 18 L (.int i2 :: .int i1 :: st) A = exG TB d 4 19 L (.int (i1 * i2) :: st) A := x_nx (op := o_iop (fun x y => x * y)) rfl rfl
theorem x_4_19  : exG TB d 4 19 (a0 :: some v :: r9) st A = rg v (exG TB d 4 20 (a0 :: some v :: r9) (v :: st) A) := x_rg (op := o_aload 1 1) rfl rfl
theorem x_4_20  : exG TB d 4 20 (a0 :: a1 :: a2 :: a3 :: a4 :: some (.int i1) :: r9) st A = exG TB d 4 22 (a0 :: a1 :: a2 :: a3 :: a4 :: some (.int i1) :: r9) (.int i1 :: st) A := x_nx (op := o_iload 5 2) rfl rfl
theorem x_4_22  : exG TB d 4 22 L (.int i1 :: .ref p :: st) A = ki (rdI 1 (gas A p) i1) d 4 23 L st A := x_bd (op := o_rdIs 1) rfl rfl (fun _ => rfl)
theorem x_4_23  : exG TB d 4 23 L st A = exG TB d 4 26 L (.int (nI 255) :: st) A := x_nx (op := o_push 3 (.int 255)) rfl rfl
theorem x_4_26  : exG TB d 4 26 L (.int i2 :: .int i1 :: st) A = exG TB d 4 27 L (.int (i1 &&& i2) :: st) A := x_nx (op := o_iop (fun x y => x &&& y)) rfl rfl
theorem x_4_27  : exG TB d 4 27 L (.int i2 :: .int i1 :: st) A = exG TB d 4 28 L (.int (i1 + i2) :: st) A := x_nx (op := o_iop (fun x y => x + y)) rfl rfl
theorem x_4_28  : exG TB d 4 28 (a0 :: r9) (.int i1 :: st) A = exG TB d 4 29 (some (.int i1) :: r9) st A := x_nx (op := o_istore 0 1) rfl rfl
theorem x_4_29  : exG TB d 4 29 (a0 :: a1 :: a2 :: a3 :: a4 :: some (.int i1) :: r9) st A = exG TB d 4 32 (a0 :: a1 :: a2 :: a3 :: a4 :: some (.int (i1 + (nI 1))) :: r9) st A := x_nx (op := o_iinc 5 1) rfl rfl
theorem x_4_32  : exG TB d 4 32 L st A = exG TB d 4 8 L st A := x_nx (op := o_goto 8) rfl rfl
theorem x_4_35  : exG TB d 4 35 (some (.int i1) :: r9) st A = exG TB d 4 36 (some (.int i1) :: r9) (.int i1 :: st) A := x_nx (op := o_iload 0 1) rfl rfl
theorem x_4_36  : exG TB d 4 36 L [v] A = ck (okv 1 v) (some (.inl (some v), A)) := x_outg (op := o_ret 1) rfl rfl
theorem e_5 {j0 : Int32} {j2 : Int32} {j3 : Int32} : evG TB (d + 1) 5 [.int j0, b1, .int j2, .int j3] A = rg b1 (exG TB d 5 0 [some (.int j0), some (b1), some (.int j2), some (.int j3), none, none] [] A) := by
  rw [evG_eq]
  show (bif (true && (isR b1 && (true && (true && true)))) then exG TB d 5 0 [some (.int j0), some (b1), some (.int j2), some (.int j3), none, none] [] A else none) = _
  unfold rg
  cases isR b1 <;> rfl
theorem x_5_0  : exG TB d 5 0 (a0 :: a1 :: some (.int i1) :: r9) st A = exG TB d 5 1 (a0 :: a1 :: some (.int i1) :: r9) (.int i1 :: st) A := x_nx (op := o_iload 2 1) rfl rfl
theorem x_5_1  : exG TB d 5 1 (a0 :: a1 :: a2 :: some (.int i1) :: r9) st A = exG TB d 5 2 (a0 :: a1 :: a2 :: some (.int i1) :: r9) (.int i1 :: st) A := x_nx (op := o_iload 3 1) rfl rfl
theorem x_5_2  : exG TB d 5 2 L (.int i2 :: .int i1 :: st) A = exG TB d 5 3 L (.int (i1 + i2) :: st) A := x_nx (op := o_iop (fun x y => x + y)) rfl rfl
theorem x_5_3  : exG TB d 5 3 (a0 :: a1 :: a2 :: a3 :: a4 :: r9) (.int i1 :: st) A = exG TB d 5 5 (a0 :: a1 :: a2 :: a3 :: some (.int i1) :: r9) st A := x_nx (op := o_istore 4 2) rfl rfl
theorem x_5_5  : exG TB d 5 5 (a0 :: a1 :: some (.int i1) :: r9) st A = exG TB d 5 6 (a0 :: a1 :: some (.int i1) :: r9) (.int i1 :: st) A := x_nx (op := o_iload 2 1) rfl rfl
theorem x_5_6  : exG TB d 5 6 (a0 :: a1 :: a2 :: a3 :: a4 :: a5 :: r9) (.int i1 :: st) A = exG TB d 5 8 (a0 :: a1 :: a2 :: a3 :: a4 :: some (.int i1) :: r9) st A := x_nx (op := o_istore 5 2) rfl rfl
theorem x_5_8  : exG TB d 5 8 (a0 :: a1 :: a2 :: a3 :: a4 :: some (.int i1) :: r9) st A = exG TB d 5 10 (a0 :: a1 :: a2 :: a3 :: a4 :: some (.int i1) :: r9) (.int i1 :: st) A := x_nx (op := o_iload 5 2) rfl rfl
theorem x_5_10  : exG TB d 5 10 (a0 :: a1 :: a2 :: a3 :: some (.int i1) :: r9) st A = exG TB d 5 12 (a0 :: a1 :: a2 :: a3 :: some (.int i1) :: r9) (.int i1 :: st) A := x_nx (op := o_iload 4 2) rfl rfl
theorem x_5_12  : exG TB d 5 12 L (.int i2 :: .int i1 :: st) A = if i2 ≤ i1 then exG TB d 5 31 L st A else exG TB d 5 15 L st A := x_if (op := o_icmp (fun x y => decide (y ≤ x)) 31) rfl rfl rfl
theorem x_5_15  : exG TB d 5 15 L st A = exG TB d 5 17 L (.int (nI 31) :: st) A := x_nx (op := o_push 2 (.int 31)) rfl rfl
theorem x_5_17  : exG TB d 5 17 (some (.int i1) :: r9) st A = exG TB d 5 18 (some (.int i1) :: r9) (.int i1 :: st) A := x_nx (op := o_iload 0 1) rfl rfl
theorem x_5_18  : exG TB d 5 18 L (.int i2 :: .int i1 :: st) A = exG TB d 5 19 L (.int (i1 * i2) :: st) A := x_nx (op := o_iop (fun x y => x * y)) rfl rfl
theorem x_5_19  : exG TB d 5 19 (a0 :: some v :: r9) st A = rg v (exG TB d 5 20 (a0 :: some v :: r9) (v :: st) A) := x_rg (op := o_aload 1 1) rfl rfl
theorem x_5_20  : exG TB d 5 20 (a0 :: a1 :: a2 :: a3 :: a4 :: some (.int i1) :: r9) st A = exG TB d 5 22 (a0 :: a1 :: a2 :: a3 :: a4 :: some (.int i1) :: r9) (.int i1 :: st) A := x_nx (op := o_iload 5 2) rfl rfl
theorem x_5_22  : exG TB d 5 22 L (.int i1 :: .ref p :: st) A = ki (rdI 1 (gas A p) i1) d 5 23 L st A := x_bd (op := o_rdIs 1) rfl rfl (fun _ => rfl)
theorem x_5_23  : exG TB d 5 23 L (.int i2 :: .int i1 :: st) A = exG TB d 5 24 L (.int (i1 + i2) :: st) A := x_nx (op := o_iop (fun x y => x + y)) rfl rfl
theorem x_5_24  : exG TB d 5 24 (a0 :: r9) (.int i1 :: st) A = exG TB d 5 25 (some (.int i1) :: r9) st A := x_nx (op := o_istore 0 1) rfl rfl
theorem x_5_25  : exG TB d 5 25 (a0 :: a1 :: a2 :: a3 :: a4 :: some (.int i1) :: r9) st A = exG TB d 5 28 (a0 :: a1 :: a2 :: a3 :: a4 :: some (.int (i1 + (nI 1))) :: r9) st A := x_nx (op := o_iinc 5 1) rfl rfl
theorem x_5_28  : exG TB d 5 28 L st A = exG TB d 5 8 L st A := x_nx (op := o_goto 8) rfl rfl
theorem x_5_31  : exG TB d 5 31 (some (.int i1) :: r9) st A = exG TB d 5 32 (some (.int i1) :: r9) (.int i1 :: st) A := x_nx (op := o_iload 0 1) rfl rfl
theorem x_5_32  : exG TB d 5 32 L [v] A = ck (okv 1 v) (some (.inl (some v), A)) := x_outg (op := o_ret 1) rfl rfl
theorem e_6 {j0 : Int32} {j1 : Int32} : evG TB (d + 1) 6 [.int j0, .int j1] A = exG TB d 6 0 [some (.int j0), some (.int j1)] [] A := evG_eq TB d 6 _ A
theorem x_6_0  : exG TB d 6 0 (some (.int i1) :: r9) st A = exG TB d 6 1 (some (.int i1) :: r9) (.int i1 :: st) A := x_nx (op := o_iload 0 1) rfl rfl
theorem x_6_1  : exG TB d 6 1 (a0 :: some (.int i1) :: r9) st A = exG TB d 6 2 (a0 :: some (.int i1) :: r9) (.int i1 :: st) A := x_nx (op := o_iload 1 1) rfl rfl
theorem x_6_2  : exG TB d 6 2 L (.int i2 :: .int i1 :: st) A = if i1 < i2 then exG TB d 6 9 L st A else exG TB d 6 5 L st A := x_if (op := o_icmp (fun x y => decide (x < y)) 9) rfl rfl rfl
theorem x_6_5  : exG TB d 6 5 (some (.int i1) :: r9) st A = exG TB d 6 6 (some (.int i1) :: r9) (.int i1 :: st) A := x_nx (op := o_iload 0 1) rfl rfl
theorem x_6_6  : exG TB d 6 6 L st A = exG TB d 6 10 L st A := x_nx (op := o_goto 10) rfl rfl
theorem x_6_9  : exG TB d 6 9 (a0 :: some (.int i1) :: r9) st A = exG TB d 6 10 (a0 :: some (.int i1) :: r9) (.int i1 :: st) A := x_nx (op := o_iload 1 1) rfl rfl
theorem x_6_10  : exG TB d 6 10 L [v] A = ck (okv 1 v) (some (.inl (some v), A)) := x_outg (op := o_ret 1) rfl rfl
theorem e_7 {j0 : Int32} {j1 : Int32} : evG TB (d + 1) 7 [.int j0, .int j1] A = exG TB d 7 0 [some (.int j0), some (.int j1)] [] A := evG_eq TB d 7 _ A
theorem x_7_0  : exG TB d 7 0 (some (.int i1) :: r9) st A = exG TB d 7 1 (some (.int i1) :: r9) (.int i1 :: st) A := x_nx (op := o_iload 0 1) rfl rfl
theorem x_7_1  : exG TB d 7 1 (a0 :: some (.int i1) :: r9) st A = exG TB d 7 2 (a0 :: some (.int i1) :: r9) (.int i1 :: st) A := x_nx (op := o_iload 1 1) rfl rfl
theorem x_7_2  : exG TB d 7 2 L (.int i2 :: .int i1 :: st) A = if i2 < i1 then exG TB d 7 9 L st A else exG TB d 7 5 L st A := x_if (op := o_icmp (fun x y => decide (y < x)) 9) rfl rfl rfl
theorem x_7_5  : exG TB d 7 5 (some (.int i1) :: r9) st A = exG TB d 7 6 (some (.int i1) :: r9) (.int i1 :: st) A := x_nx (op := o_iload 0 1) rfl rfl
theorem x_7_6  : exG TB d 7 6 L st A = exG TB d 7 10 L st A := x_nx (op := o_goto 10) rfl rfl
theorem x_7_9  : exG TB d 7 9 (a0 :: some (.int i1) :: r9) st A = exG TB d 7 10 (a0 :: some (.int i1) :: r9) (.int i1 :: st) A := x_nx (op := o_iload 1 1) rfl rfl
theorem x_7_10  : exG TB d 7 10 L [v] A = ck (okv 1 v) (some (.inl (some v), A)) := x_outg (op := o_ret 1) rfl rfl
theorem e_8 {j0 : Int32} : evG TB (d + 1) 8 [.int j0] A = exG TB d 8 0 [some (.int j0)] [] A := evG_eq TB d 8 _ A
theorem x_8_0  : exG TB d 8 0 (some (.int i1) :: r9) st A = exG TB d 8 1 (some (.int i1) :: r9) (.int i1 :: st) A := x_nx (op := o_iload 0 1) rfl rfl
theorem x_8_1  : exG TB d 8 1 L (.int i1 :: st) A = if nI 0 ≤ i1 then exG TB d 8 9 L st A else exG TB d 8 4 L st A := x_if (op := o_if (fun x => decide (0 ≤ x)) 9) rfl rfl rfl
theorem x_8_4  : exG TB d 8 4 (some (.int i1) :: r9) st A = exG TB d 8 5 (some (.int i1) :: r9) (.int i1 :: st) A := x_nx (op := o_iload 0 1) rfl rfl
theorem x_8_5  : exG TB d 8 5 L (.int i1 :: st) A = exG TB d 8 6 L (.int (-i1) :: st) A := x_nx (op := o_ii (fun x => -x)) rfl rfl
theorem x_8_6  : exG TB d 8 6 L st A = exG TB d 8 10 L st A := x_nx (op := o_goto 10) rfl rfl
theorem x_8_9  : exG TB d 8 9 (some (.int i1) :: r9) st A = exG TB d 8 10 (some (.int i1) :: r9) (.int i1 :: st) A := x_nx (op := o_iload 0 1) rfl rfl
theorem x_8_10  : exG TB d 8 10 L [v] A = ck (okv 1 v) (some (.inl (some v), A)) := x_outg (op := o_ret 1) rfl rfl
theorem e_9 {j1 : Int32} : evG TB (d + 1) 9 [b0, .int j1] A = rg b0 (exG TB d 9 0 [some (b0), some (.int j1), none] [] A) := by
  rw [evG_eq]
  show (bif (isR b0 && (true && true)) then exG TB d 9 0 [some (b0), some (.int j1), none] [] A else none) = _
  unfold rg
  cases isR b0 <;> rfl
theorem x_9_0  : exG TB d 9 0 (a0 :: some (.int i1) :: r9) st A = exG TB d 9 1 (a0 :: some (.int i1) :: r9) (.int i1 :: st) A := x_nx (op := o_iload 1 1) rfl rfl
theorem x_9_1  : exG TB d 9 1 (some v :: r9) st A = rg v (exG TB d 9 2 (some v :: r9) (v :: st) A) := x_rg (op := o_aload 0 1) rfl rfl
theorem x_9_2  : exG TB d 9 2 L (.ref p :: st) A = ki (aln (ga A p)) d 9 3 L st A := x_bd (op := o_alen) rfl rfl (fun _ => rfl)
theorem x_9_3  : exG TB d 9 3 L (.int i2 :: .int i1 :: st) A = if ¬ i1 = i2 then exG TB d 9 14 L st A else exG TB d 9 6 L st A := x_if (op := o_icmp (fun x y => decide (¬ x = y)) 14) rfl rfl rfl
theorem x_9_6  : exG TB d 9 6 (some v :: r9) st A = rg v (exG TB d 9 7 (some v :: r9) (v :: st) A) := x_rg (op := o_aload 0 1) rfl rfl
theorem x_9_7 (h9 : ga A p = some (1, (n9, .inl g9))) : exG TB d 9 7 L [.ref p] A = exG TB d 9 10 L [.ref (nx A)] (newa A (1, (n9, .inl g9))) := x_nx (op := o_clnb) rfl (by unfold o_clnb; dsimp only; rw [h9]; rfl)
theorem x_9_10  : exG TB d 9 10 L (.ref p :: st) A = ck (atag (ga A p) 1) (exG TB d 9 13 L (.ref p :: st) A) := x_gd (op := o_casta 1) rfl rfl
theorem x_9_13  : exG TB d 9 13 L [v] A = ck (okv 0 v) (some (.inl (some v), A)) := x_outg (op := o_ret 0) rfl rfl
theorem x_9_14  : exG TB d 9 14 (a0 :: some (.int i1) :: r9) st A = exG TB d 9 15 (a0 :: some (.int i1) :: r9) (.int i1 :: st) A := x_nx (op := o_iload 1 1) rfl rfl
theorem x_9_15  : exG TB d 9 15 L (.int i1 :: st) A = ck (okn i1) (exG TB d 9 17 L (.ref (nx A) :: st) (newa A (zar 1 i1.toNatClampNeg))) := x_gd (op := o_newa 1 2) rfl rfl
theorem x_9_17  : exG TB d 9 17 (a0 :: a1 :: a2 :: r9) (v :: st) A = rg v (exG TB d 9 18 (a0 :: a1 :: some v :: r9) st A) := x_rgt (op := o_astore 2 1) rfl rfl
theorem x_9_18  : exG TB d 9 18 (some v :: r9) st A = rg v (exG TB d 9 19 (some v :: r9) (v :: st) A) := x_rg (op := o_aload 0 1) rfl rfl
theorem x_9_19  : exG TB d 9 19 L st A = exG TB d 9 20 L (.int (nI 0) :: st) A := x_nx (op := o_push 1 (.int 0)) rfl rfl
theorem x_9_20  : exG TB d 9 20 (a0 :: a1 :: some v :: r9) st A = rg v (exG TB d 9 21 (a0 :: a1 :: some v :: r9) (v :: st) A) := x_rg (op := o_aload 2 1) rfl rfl
theorem x_9_21  : exG TB d 9 21 L st A = exG TB d 9 22 L (.int (nI 0) :: st) A := x_nx (op := o_push 1 (.int 0)) rfl rfl
theorem x_9_22  : exG TB d 9 22 (some v :: r9) st A = rg v (exG TB d 9 23 (some v :: r9) (v :: st) A) := x_rg (op := o_aload 0 1) rfl rfl
theorem x_9_23  : exG TB d 9 23 L (.ref p :: st) A = ki (aln (ga A p)) d 9 24 L st A := x_bd (op := o_alen) rfl rfl (fun _ => rfl)
theorem x_9_24  : exG TB d 9 24 (a0 :: some (.int i1) :: r9) st A = exG TB d 9 25 (a0 :: some (.int i1) :: r9) (.int i1 :: st) A := x_nx (op := o_iload 1 1) rfl rfl
theorem x_9_25  : exG TB d 9 25 L [b1, b0, w0, w1, w2, w3] A = kc (evG TB d 7 [b0, b1] A) d 9 28 L [w0, w1, w2, w3] := x_cv (op := o_cs 7 2 false none) rfl rfl x_noh rfl
theorem x_9_28  : exG TB d 9 28 L [.int i3, .int i2, .ref q, .int i1, .ref p] A = ka (cpI 1 (ga A p) (ga A q) i1 i2 i3) q d 9 31 L [] A := x_bd (op := o_cpI 1) rfl rfl (fun _ => rfl)
theorem x_9_31  : exG TB d 9 31 (a0 :: a1 :: some v :: r9) st A = rg v (exG TB d 9 32 (a0 :: a1 :: some v :: r9) (v :: st) A) := x_rg (op := o_aload 2 1) rfl rfl
theorem x_9_32  : exG TB d 9 32 L [v] A = ck (okv 0 v) (some (.inl (some v), A)) := x_outg (op := o_ret 0) rfl rfl
theorem e_10 {j1 : Int32} {j2 : Int32} : evG TB (d + 1) 10 [b0, .int j1, .int j2] A = rg b0 (exG TB d 10 0 [some (b0), some (.int j1), some (.int j2)] [] A) := by
  rw [evG_eq]
  show (bif (isR b0 && (true && (true && true))) then exG TB d 10 0 [some (b0), some (.int j1), some (.int j2)] [] A else none) = _
  unfold rg
  cases isR b0 <;> rfl
theorem x_10_0  : exG TB d 10 0 (a0 :: some (.int i1) :: r9) st A = exG TB d 10 1 (a0 :: some (.int i1) :: r9) (.int i1 :: st) A := x_nx (op := o_iload 1 1) rfl rfl
theorem x_10_1  : exG TB d 10 1 L (.int i1 :: st) A = if ¬ i1 = nI 0 then exG TB d 10 10 L st A else exG TB d 10 4 L st A := x_if (op := o_if (fun x => decide (¬ x = 0)) 10) rfl rfl rfl
theorem x_10_4  : exG TB d 10 4 (a0 :: a1 :: some (.int i1) :: r9) st A = exG TB d 10 5 (a0 :: a1 :: some (.int i1) :: r9) (.int i1 :: st) A := x_nx (op := o_iload 2 1) rfl rfl
theorem x_10_5  : exG TB d 10 5 (some v :: r9) st A = rg v (exG TB d 10 6 (some v :: r9) (v :: st) A) := x_rg (op := o_aload 0 1) rfl rfl
theorem x_10_6  : exG TB d 10 6 L (.ref p :: st) A = ki (aln (ga A p)) d 10 7 L st A := x_bd (op := o_alen) rfl rfl (fun _ => rfl)
theorem x_10_7  : exG TB d 10 7 L (.int i2 :: .int i1 :: st) A = if i1 = i2 then exG TB d 10 17 L st A else exG TB d 10 10 L st A := x_if (op := o_icmp (fun x y => decide (x = y)) 17) rfl rfl rfl
theorem x_10_10  : exG TB d 10 10 (some v :: r9) st A = rg v (exG TB d 10 11 (some v :: r9) (v :: st) A) := x_rg (op := o_aload 0 1) rfl rfl
theorem x_10_11  : exG TB d 10 11 (a0 :: some (.int i1) :: r9) st A = exG TB d 10 12 (a0 :: some (.int i1) :: r9) (.int i1 :: st) A := x_nx (op := o_iload 1 1) rfl rfl
theorem x_10_12  : exG TB d 10 12 (a0 :: a1 :: some (.int i1) :: r9) st A = exG TB d 10 13 (a0 :: a1 :: some (.int i1) :: r9) (.int i1 :: st) A := x_nx (op := o_iload 2 1) rfl rfl
theorem x_10_13  : exG TB d 10 13 L [b2, b1, b0] A = kc (evG TB d 11 [b0, b1, b2] A) d 10 16 L [] := x_cv (op := o_cs 11 3 false none) rfl rfl x_noh rfl
theorem x_10_16  : exG TB d 10 16 L [v] A = ck (okv 0 v) (some (.inl (some v), A)) := x_outg (op := o_ret 0) rfl rfl
theorem x_10_17  : exG TB d 10 17 (some v :: r9) st A = rg v (exG TB d 10 18 (some v :: r9) (v :: st) A) := x_rg (op := o_aload 0 1) rfl rfl
theorem x_10_18 (h9 : ga A p = some (1, (n9, .inl g9))) : exG TB d 10 18 L [.ref p] A = exG TB d 10 21 L [.ref (nx A)] (newa A (1, (n9, .inl g9))) := x_nx (op := o_clnb) rfl (by unfold o_clnb; dsimp only; rw [h9]; rfl)
theorem x_10_21  : exG TB d 10 21 L (.ref p :: st) A = ck (atag (ga A p) 1) (exG TB d 10 24 L (.ref p :: st) A) := x_gd (op := o_casta 1) rfl rfl
theorem x_10_24  : exG TB d 10 24 L [v] A = ck (okv 0 v) (some (.inl (some v), A)) := x_outg (op := o_ret 0) rfl rfl
theorem e_11 {j1 : Int32} {j2 : Int32} : evG TB (d + 1) 11 [b0, .int j1, .int j2] A = rg b0 (exG TB d 11 0 [some (b0), some (.int j1), some (.int j2), none, none] [] A) := by
  rw [evG_eq]
  show (bif (isR b0 && (true && (true && true))) then exG TB d 11 0 [some (b0), some (.int j1), some (.int j2), none, none] [] A else none) = _
  unfold rg
  cases isR b0 <;> rfl
theorem x_11_0  : exG TB d 11 0 (a0 :: some (.int i1) :: r9) st A = exG TB d 11 1 (a0 :: some (.int i1) :: r9) (.int i1 :: st) A := x_nx (op := o_iload 1 1) rfl rfl
theorem x_11_1  : exG TB d 11 1 (a0 :: a1 :: some (.int i1) :: r9) st A = exG TB d 11 2 (a0 :: a1 :: some (.int i1) :: r9) (.int i1 :: st) A := x_nx (op := o_iload 2 1) rfl rfl
theorem x_11_2  : exG TB d 11 2 L [b1, b0] A = kc0 (evG TB d 12 [b0, b1] A) d 11 5 L [] := x_c0 (op := o_cs 12 2 true none) rfl rfl x_noh rfl
theorem x_11_5  : exG TB d 11 5 (a0 :: a1 :: some (.int i1) :: r9) st A = exG TB d 11 6 (a0 :: a1 :: some (.int i1) :: r9) (.int i1 :: st) A := x_nx (op := o_iload 2 1) rfl rfl
theorem x_11_6  : exG TB d 11 6 (a0 :: some (.int i1) :: r9) st A = exG TB d 11 7 (a0 :: some (.int i1) :: r9) (.int i1 :: st) A := x_nx (op := o_iload 1 1) rfl rfl
theorem x_11_7  : exG TB d 11 7 L (.int i2 :: .int i1 :: st) A = exG TB d 11 8 L (.int (i1 - i2) :: st) A := x_nx (op := o_iop (fun x y => x - y)) rfl rfl
theorem x_11_8  : exG TB d 11 8 (a0 :: a1 :: a2 :: a3 :: r9) (.int i1 :: st) A = exG TB d 11 9 (a0 :: a1 :: a2 :: some (.int i1) :: r9) st A := x_nx (op := o_istore 3 1) rfl rfl
theorem x_11_9  : exG TB d 11 9 (a0 :: a1 :: a2 :: some (.int i1) :: r9) st A = exG TB d 11 10 (a0 :: a1 :: a2 :: some (.int i1) :: r9) (.int i1 :: st) A := x_nx (op := o_iload 3 1) rfl rfl
theorem x_11_10  : exG TB d 11 10 L (.int i1 :: st) A = ck (okn i1) (exG TB d 11 12 L (.ref (nx A) :: st) (newa A (zar 1 i1.toNatClampNeg))) := x_gd (op := o_newa 1 2) rfl rfl
theorem x_11_12  : exG TB d 11 12 (a0 :: a1 :: a2 :: a3 :: a4 :: r9) (v :: st) A = rg v (exG TB d 11 14 (a0 :: a1 :: a2 :: a3 :: some v :: r9) st A) := x_rgt (op := o_astore 4 2) rfl rfl
theorem x_11_14  : exG TB d 11 14 (some v :: r9) st A = rg v (exG TB d 11 15 (some v :: r9) (v :: st) A) := x_rg (op := o_aload 0 1) rfl rfl
theorem x_11_15  : exG TB d 11 15 (a0 :: some (.int i1) :: r9) st A = exG TB d 11 16 (a0 :: some (.int i1) :: r9) (.int i1 :: st) A := x_nx (op := o_iload 1 1) rfl rfl
theorem x_11_16  : exG TB d 11 16 (a0 :: a1 :: a2 :: a3 :: some v :: r9) st A = rg v (exG TB d 11 18 (a0 :: a1 :: a2 :: a3 :: some v :: r9) (v :: st) A) := x_rg (op := o_aload 4 2) rfl rfl
theorem x_11_18  : exG TB d 11 18 L st A = exG TB d 11 19 L (.int (nI 0) :: st) A := x_nx (op := o_push 1 (.int 0)) rfl rfl
theorem x_11_19  : exG TB d 11 19 (some v :: r9) st A = rg v (exG TB d 11 20 (some v :: r9) (v :: st) A) := x_rg (op := o_aload 0 1) rfl rfl
theorem x_11_20  : exG TB d 11 20 L (.ref p :: st) A = ki (aln (ga A p)) d 11 21 L st A := x_bd (op := o_alen) rfl rfl (fun _ => rfl)
theorem x_11_21  : exG TB d 11 21 (a0 :: some (.int i1) :: r9) st A = exG TB d 11 22 (a0 :: some (.int i1) :: r9) (.int i1 :: st) A := x_nx (op := o_iload 1 1) rfl rfl
theorem x_11_22  : exG TB d 11 22 L (.int i2 :: .int i1 :: st) A = exG TB d 11 23 L (.int (i1 - i2) :: st) A := x_nx (op := o_iop (fun x y => x - y)) rfl rfl
theorem x_11_23  : exG TB d 11 23 (a0 :: a1 :: a2 :: some (.int i1) :: r9) st A = exG TB d 11 24 (a0 :: a1 :: a2 :: some (.int i1) :: r9) (.int i1 :: st) A := x_nx (op := o_iload 3 1) rfl rfl
theorem x_11_24  : exG TB d 11 24 L [b1, b0, w0, w1, w2, w3] A = kc (evG TB d 7 [b0, b1] A) d 11 27 L [w0, w1, w2, w3] := x_cv (op := o_cs 7 2 false none) rfl rfl x_noh rfl
theorem x_11_27  : exG TB d 11 27 L [.int i3, .int i2, .ref q, .int i1, .ref p] A = ka (cpI 1 (ga A p) (ga A q) i1 i2 i3) q d 11 30 L [] A := x_bd (op := o_cpI 1) rfl rfl (fun _ => rfl)
theorem x_11_30  : exG TB d 11 30 (a0 :: a1 :: a2 :: a3 :: some v :: r9) st A = rg v (exG TB d 11 32 (a0 :: a1 :: a2 :: a3 :: some v :: r9) (v :: st) A) := x_rg (op := o_aload 4 2) rfl rfl
theorem x_11_32  : exG TB d 11 32 L [v] A = ck (okv 0 v) (some (.inl (some v), A)) := x_outg (op := o_ret 0) rfl rfl
theorem e_12 {j0 : Int32} {j1 : Int32} : evG TB (d + 1) 12 [.int j0, .int j1] A = exG TB d 12 0 [some (.int j0), some (.int j1)] [] A := evG_eq TB d 12 _ A
theorem x_12_0  : exG TB d 12 0 (a0 :: some (.int i1) :: r9) st A = exG TB d 12 1 (a0 :: some (.int i1) :: r9) (.int i1 :: st) A := x_nx (op := o_iload 1 1) rfl rfl
theorem x_12_1  : exG TB d 12 1 (some (.int i1) :: r9) st A = exG TB d 12 2 (some (.int i1) :: r9) (.int i1 :: st) A := x_nx (op := o_iload 0 1) rfl rfl
theorem x_12_2  : exG TB d 12 2 L (.int i2 :: .int i1 :: st) A = if i2 ≤ i1 then exG TB d 12 37 L st A else exG TB d 12 5 L st A := x_if (op := o_icmp (fun x y => decide (y ≤ x)) 37) rfl rfl rfl
theorem x_12_8  : exG TB d 12 8 L (v :: st) A = ck (c1 v) (exG TB d 12 9 L (v :: v :: st) A) := x_gd (op := o_dup) rfl rfl
theorem x_12_9  : exG TB d 12 9 L st A = exG TB d 12 12 L (.ref (nx A) :: st) (newo A 4 4 dv4) := x_nx (op := o_new 4 4 dv4) rfl rfl
theorem x_12_12  : exG TB d 12 12 L (v :: st) A = ck (c1 v) (exG TB d 12 13 L (v :: v :: st) A) := x_gd (op := o_dup) rfl rfl
theorem x_12_13  : exG TB d 12 13 L [.ref p, w0, w1, w2] A = kc0 (evG TB d 111 [.ref p] A) d 12 16 L [w0, w1, w2] := x_c0 (op := o_ci 111 0) rfl rfl x_noh rfl
theorem x_12_16  : exG TB d 12 16 (some (.int i1) :: r9) st A = exG TB d 12 17 (some (.int i1) :: r9) (.int i1 :: st) A := x_nx (op := o_iload 0 1) rfl rfl
theorem x_12_26  : exG TB d 12 26 (a0 :: some (.int i1) :: r9) st A = exG TB d 12 27 (a0 :: some (.int i1) :: r9) (.int i1 :: st) A := x_nx (op := o_iload 1 1) rfl rfl
theorem x_12_30  : exG TB d 12 30 L [.ref p, w0, w1] A = kw (sel (gc A p) [(4, 112)]) [.ref p] d 12 33 L [w0, w1] A := x_cvb (op := o_cv [(4, 112)] 0 3 false none) rfl rfl x_noh rfl
theorem x_12_37  : exG TB d 12 37 L [] A = some (.inl none, A) := x_out (op := o_vret) rfl rfl
theorem e_13 {j1 : Int32} : evG TB (d + 1) 13 [b0, .int j1] A = rg b0 (exG TB d 13 0 [some (b0), some (.int j1)] [] A) := by
  rw [evG_eq]
  show (bif (isR b0 && (true && true)) then exG TB d 13 0 [some (b0), some (.int j1)] [] A else none) = _
  unfold rg
  cases isR b0 <;> rfl
theorem x_13_0  : exG TB d 13 0 (some v :: r9) st A = rg v (exG TB d 13 1 (some v :: r9) (v :: st) A) := x_rg (op := o_aload 0 1) rfl rfl
theorem x_13_1  : exG TB d 13 1 (a0 :: some (.int i1) :: r9) st A = exG TB d 13 2 (a0 :: some (.int i1) :: r9) (.int i1 :: st) A := x_nx (op := o_iload 1 1) rfl rfl
theorem x_13_2  : exG TB d 13 2 (some v :: r9) st A = rg v (exG TB d 13 3 (some v :: r9) (v :: st) A) := x_rg (op := o_aload 0 1) rfl rfl
theorem x_13_3  : exG TB d 13 3 L [.ref p, w0, w1] A = ck (atag (ga A p) 5 && true) (exG TB d 13 6 L [.ref (sAd (sg A) 0), w0, w1] A) := x_gd (op := o_gcl 5 0) rfl rfl
theorem x_13_6  : exG TB d 13 6 L [b2, b1, b0] A = kc (evG TB d 14 [b0, b1, b2] A) d 13 9 L [] := x_cv (op := o_cs 14 3 false none) rfl rfl x_noh rfl
theorem x_13_9  : exG TB d 13 9 L [v] A = ck (okv 0 v) (some (.inl (some v), A)) := x_outg (op := o_ret 0) rfl rfl
theorem e_14 {j1 : Int32} : evG TB (d + 1) 14 [b0, .int j1, b2] A = rg b0 (rg b2 (exG TB d 14 0 [some (b0), some (.int j1), some (b2), none] [] A)) := by
  rw [evG_eq]
  show (bif (isR b0 && (true && (isR b2 && true))) then exG TB d 14 0 [some (b0), some (.int j1), some (b2), none] [] A else none) = _
  unfold rg
  cases isR b0 <;> cases isR b2 <;> rfl
theorem x_14_0  : exG TB d 14 0 (a0 :: a1 :: some v :: r9) st A = rg v (exG TB d 14 1 (a0 :: a1 :: some v :: r9) (v :: st) A) := x_rg (op := o_aload 2 1) rfl rfl
theorem x_14_1  : exG TB d 14 1 L st A = exG TB d 14 3 L (.ref (sAd (sg A) 0) :: st) A := x_nx (op := o_pushA 2 0) rfl rfl
theorem x_14_3  : exG TB d 14 3 L (.ref q :: .ref p :: st) A = if ¬ p = q then exG TB d 14 13 L st A else exG TB d 14 6 L st A := x_if (op := o_acmp false 13) rfl (ac_f p q) rfl
theorem x_14_3rn  : exG TB d 14 3 L (.null :: .ref p :: st) A = exG TB d 14 13 L st A := x_nx (op := o_acmp false 13) rfl rfl
theorem x_14_3nr  : exG TB d 14 3 L (.ref p :: .null :: st) A = exG TB d 14 13 L st A := x_nx (op := o_acmp false 13) rfl rfl
theorem x_14_3nn  : exG TB d 14 3 L (.null :: .null :: st) A = exG TB d 14 6 L st A := x_nx (op := o_acmp false 13) rfl rfl
theorem x_14_6  : exG TB d 14 6 (a0 :: some (.int i1) :: r9) st A = exG TB d 14 7 (a0 :: some (.int i1) :: r9) (.int i1 :: st) A := x_nx (op := o_iload 1 1) rfl rfl
theorem x_14_7  : exG TB d 14 7 L (.int i1 :: st) A = ck (okn i1) (exG TB d 14 10 L (.ref (nx A) :: st) (newa A (zar 5 i1.toNatClampNeg))) := x_gd (op := o_newa 5 3) rfl rfl
theorem x_14_10  : exG TB d 14 10 L st A = exG TB d 14 24 L st A := x_nx (op := o_goto 24) rfl rfl
theorem x_14_13  : exG TB d 14 13 (a0 :: a1 :: some v :: r9) st A = rg v (exG TB d 14 14 (a0 :: a1 :: some v :: r9) (v :: st) A) := x_rg (op := o_aload 2 1) rfl rfl
theorem x_14_24  : exG TB d 14 24 (a0 :: a1 :: a2 :: a3 :: r9) (v :: st) A = rg v (exG TB d 14 25 (a0 :: a1 :: a2 :: some v :: r9) st A) := x_rgt (op := o_astore 3 1) rfl rfl
theorem x_14_25  : exG TB d 14 25 (some v :: r9) st A = rg v (exG TB d 14 26 (some v :: r9) (v :: st) A) := x_rg (op := o_aload 0 1) rfl rfl
theorem x_14_26  : exG TB d 14 26 L st A = exG TB d 14 27 L (.int (nI 0) :: st) A := x_nx (op := o_push 1 (.int 0)) rfl rfl
theorem x_14_27  : exG TB d 14 27 (a0 :: a1 :: a2 :: some v :: r9) st A = rg v (exG TB d 14 28 (a0 :: a1 :: a2 :: some v :: r9) (v :: st) A) := x_rg (op := o_aload 3 1) rfl rfl
theorem x_14_28  : exG TB d 14 28 L st A = exG TB d 14 29 L (.int (nI 0) :: st) A := x_nx (op := o_push 1 (.int 0)) rfl rfl
theorem x_14_29  : exG TB d 14 29 (some v :: r9) st A = rg v (exG TB d 14 30 (some v :: r9) (v :: st) A) := x_rg (op := o_aload 0 1) rfl rfl
theorem x_14_30  : exG TB d 14 30 L (.ref p :: st) A = ki (aln (ga A p)) d 14 31 L st A := x_bd (op := o_alen) rfl rfl (fun _ => rfl)
theorem x_14_31  : exG TB d 14 31 (a0 :: some (.int i1) :: r9) st A = exG TB d 14 32 (a0 :: some (.int i1) :: r9) (.int i1 :: st) A := x_nx (op := o_iload 1 1) rfl rfl
theorem x_14_32  : exG TB d 14 32 L [b1, b0, w0, w1, w2, w3] A = kc (evG TB d 7 [b0, b1] A) d 14 35 L [w0, w1, w2, w3] := x_cv (op := o_cs 7 2 false none) rfl rfl x_noh rfl
theorem x_14_35  : exG TB d 14 35 L [.int i3, .int i2, .ref q, .int i1, .ref p] A = ck (okcp A [0, 1, 2, 3, 4, 5, 6, 7, 8, 9, 10, 11, 12, 13, 14, 15, 16, 17, 18, 19, 20, 21, 22, 23, 24, 25, 26, 27, 28, 29, 30, 31, 32, 33, 34] (ga A p) i1 i3) (ka (cpQ 5 (ga A p) (ga A q) i1 i2 i3) q d 14 38 L [] A) := x_gb (op := o_cpQ 5 [0, 1, 2, 3, 4, 5, 6, 7, 8, 9, 10, 11, 12, 13, 14, 15, 16, 17, 18, 19, 20, 21, 22, 23, 24, 25, 26, 27, 28, 29, 30, 31, 32, 33, 34]) rfl rfl (fun _ => rfl)
theorem x_14_38  : exG TB d 14 38 (a0 :: a1 :: a2 :: some v :: r9) st A = rg v (exG TB d 14 39 (a0 :: a1 :: a2 :: some v :: r9) (v :: st) A) := x_rg (op := o_aload 3 1) rfl rfl
theorem x_14_39  : exG TB d 14 39 L [v] A = ck (okv 0 v) (some (.inl (some v), A)) := x_outg (op := o_ret 0) rfl rfl
theorem e_15 {j0 : Int32} {j1 : Int32} : evG TB (d + 1) 15 [.int j0, .int j1, b2] A = rg b2 (exG TB d 15 0 [some (.int j0), some (.int j1), some (b2)] [] A) := by
  rw [evG_eq]
  show (bif (true && (true && (isR b2 && true))) then exG TB d 15 0 [some (.int j0), some (.int j1), some (b2)] [] A else none) = _
  unfold rg
  cases isR b2 <;> rfl
theorem x_15_0  : exG TB d 15 0 (some (.int i1) :: r9) st A = exG TB d 15 1 (some (.int i1) :: r9) (.int i1 :: st) A := x_nx (op := o_iload 0 1) rfl rfl
theorem x_15_1  : exG TB d 15 1 L (.int i1 :: st) A = if i1 < nI 0 then exG TB d 15 9 L st A else exG TB d 15 4 L st A := x_if (op := o_if (fun x => decide (x < 0)) 9) rfl rfl rfl
theorem x_15_4  : exG TB d 15 4 (some (.int i1) :: r9) st A = exG TB d 15 5 (some (.int i1) :: r9) (.int i1 :: st) A := x_nx (op := o_iload 0 1) rfl rfl
theorem x_15_5  : exG TB d 15 5 (a0 :: some (.int i1) :: r9) st A = exG TB d 15 6 (a0 :: some (.int i1) :: r9) (.int i1 :: st) A := x_nx (op := o_iload 1 1) rfl rfl
theorem x_15_6  : exG TB d 15 6 L (.int i2 :: .int i1 :: st) A = if i1 < i2 then exG TB d 15 16 L st A else exG TB d 15 9 L st A := x_if (op := o_icmp (fun x y => decide (x < y)) 16) rfl rfl rfl
theorem x_15_9  : exG TB d 15 9 (a0 :: a1 :: some v :: r9) st A = rg v (exG TB d 15 10 (a0 :: a1 :: some v :: r9) (v :: st) A) := x_rg (op := o_aload 2 1) rfl rfl
theorem x_15_10  : exG TB d 15 10 (some (.int i1) :: r9) st A = exG TB d 15 11 (some (.int i1) :: r9) (.int i1 :: st) A := x_nx (op := o_iload 0 1) rfl rfl
theorem x_15_11  : exG TB d 15 11 (a0 :: some (.int i1) :: r9) st A = exG TB d 15 12 (a0 :: some (.int i1) :: r9) (.int i1 :: st) A := x_nx (op := o_iload 1 1) rfl rfl
theorem x_15_16  : exG TB d 15 16 (some (.int i1) :: r9) st A = exG TB d 15 17 (some (.int i1) :: r9) (.int i1 :: st) A := x_nx (op := o_iload 0 1) rfl rfl
theorem x_15_17  : exG TB d 15 17 L [v] A = ck (okv 1 v) (some (.inl (some v), A)) := x_outg (op := o_ret 1) rfl rfl
theorem e_16  : evG TB (d + 1) 16 [b0] A = rg b0 (exG TB d 16 0 [some (b0)] [] A) := by
  rw [evG_eq]
  show (bif (isR b0 && true) then exG TB d 16 0 [some (b0)] [] A else none) = _
  unfold rg
  cases isR b0 <;> rfl
theorem x_16_0  : exG TB d 16 0 (some v :: r9) st A = rg v (exG TB d 16 1 (some v :: r9) (v :: st) A) := x_rg (op := o_aload 0 1) rfl rfl
theorem x_16_1  : exG TB d 16 1 L (.ref p :: st) A = ki (aln (gas A p)) d 16 2 L st A := x_bd (op := o_alens) rfl rfl (fun _ => rfl)
theorem x_16_2  : exG TB d 16 2 L (.int i1 :: st) A = exG TB d 16 (lsw [(0, 28), (1, 32)] 42 i1) L st A := x_nx (op := o_sw (lsw [(0, 28), (1, 32)] 42)) rfl rfl
theorem x_16_28  : exG TB d 16 28 L st A = exG TB d 16 29 L (.int (nI 0) :: st) A := x_nx (op := o_push 1 (.int 0)) rfl rfl
theorem x_16_29  : exG TB d 16 29 L st A = exG TB d 16 51 L st A := x_nx (op := o_goto 51) rfl rfl
theorem x_16_32  : exG TB d 16 32 (some v :: r9) st A = rg v (exG TB d 16 33 (some v :: r9) (v :: st) A) := x_rg (op := o_aload 0 1) rfl rfl
theorem x_16_33  : exG TB d 16 33 L st A = exG TB d 16 34 L (.int (nI 0) :: st) A := x_nx (op := o_push 1 (.int 0)) rfl rfl
theorem x_16_34  : exG TB d 16 34 L (.int i1 :: .ref p :: st) A = ki (rdI 1 (gas A p) i1) d 16 35 L st A := x_bd (op := o_rdIs 1) rfl rfl (fun _ => rfl)
theorem x_16_35  : exG TB d 16 35 L st A = exG TB d 16 38 L (.int (nI 255) :: st) A := x_nx (op := o_push 3 (.int 255)) rfl rfl
theorem x_16_38  : exG TB d 16 38 L (.int i2 :: .int i1 :: st) A = exG TB d 16 39 L (.int (i1 &&& i2) :: st) A := x_nx (op := o_iop (fun x y => x &&& y)) rfl rfl
theorem x_16_39  : exG TB d 16 39 L st A = exG TB d 16 51 L st A := x_nx (op := o_goto 51) rfl rfl
theorem x_16_42  : exG TB d 16 42 (some v :: r9) st A = rg v (exG TB d 16 43 (some v :: r9) (v :: st) A) := x_rg (op := o_aload 0 1) rfl rfl
theorem x_16_43  : exG TB d 16 43 L st A = exG TB d 16 44 L (.int (nI 0) :: st) A := x_nx (op := o_push 1 (.int 0)) rfl rfl
theorem x_16_44  : exG TB d 16 44 (some v :: r9) st A = rg v (exG TB d 16 45 (some v :: r9) (v :: st) A) := x_rg (op := o_aload 0 1) rfl rfl
theorem x_16_45  : exG TB d 16 45 L (.ref p :: st) A = ki (aln (gas A p)) d 16 46 L st A := x_bd (op := o_alens) rfl rfl (fun _ => rfl)
theorem x_16_46  : exG TB d 16 46 L st A = exG TB d 16 47 L (.int (nI 0) :: st) A := x_nx (op := o_push 1 (.int 0)) rfl rfl
theorem x_16_47  : exG TB d 16 47 L st A = exG TB d 16 48 L (.int (nI 4) :: st) A := x_nx (op := o_push 1 (.int 4)) rfl rfl
theorem x_16_48  : exG TB d 16 48 L [b4, b3, b2, b1, b0] A = kc (evG TB d 3 [b0, b1, b2, b3, b4] A) d 16 51 L [] := x_cv (op := o_cs 3 5 false none) rfl rfl x_noh rfl
theorem x_16_51  : exG TB d 16 51 L [v] A = ck (okv 1 v) (some (.inl (some v), A)) := x_outg (op := o_ret 1) rfl rfl
theorem e_17  : evG TB (d + 1) 17 [b0, b1] A = rg b0 (rg b1 (exG TB d 17 0 [some (b0), some (b1), none] [] A)) := by
  rw [evG_eq]
  show (bif (isR b0 && (isR b1 && true)) then exG TB d 17 0 [some (b0), some (b1), none] [] A else none) = _
  unfold rg
  cases isR b0 <;> cases isR b1 <;> rfl
theorem x_17_0  : exG TB d 17 0 (some v :: r9) st A = rg v (exG TB d 17 1 (some v :: r9) (v :: st) A) := x_rg (op := o_aload 0 1) rfl rfl
theorem x_17_1  : exG TB d 17 1 L (.ref p :: st) A = ki (aln (gas A p)) d 17 2 L st A := x_bd (op := o_alens) rfl rfl (fun _ => rfl)
theorem x_17_2  : exG TB d 17 2 (a0 :: some v :: r9) st A = rg v (exG TB d 17 3 (a0 :: some v :: r9) (v :: st) A) := x_rg (op := o_aload 1 1) rfl rfl
theorem x_17_3  : exG TB d 17 3 L (.ref p :: st) A = ki (aln (gas A p)) d 17 4 L st A := x_bd (op := o_alens) rfl rfl (fun _ => rfl)
theorem x_17_4  : exG TB d 17 4 L (.int i2 :: .int i1 :: st) A = if ¬ i1 = i2 then exG TB d 17 34 L st A else exG TB d 17 7 L st A := x_if (op := o_icmp (fun x y => decide (¬ x = y)) 34) rfl rfl rfl
theorem x_17_7  : exG TB d 17 7 L st A = exG TB d 17 8 L (.int (nI 0) :: st) A := x_nx (op := o_push 1 (.int 0)) rfl rfl
theorem x_17_8  : exG TB d 17 8 (a0 :: a1 :: a2 :: r9) (.int i1 :: st) A = exG TB d 17 9 (a0 :: a1 :: some (.int i1) :: r9) st A := x_nx (op := o_istore 2 1) rfl rfl
theorem x_17_9  : exG TB d 17 9 (a0 :: a1 :: some (.int i1) :: r9) st A = exG TB d 17 10 (a0 :: a1 :: some (.int i1) :: r9) (.int i1 :: st) A := x_nx (op := o_iload 2 1) rfl rfl
theorem x_17_10  : exG TB d 17 10 (some v :: r9) st A = rg v (exG TB d 17 11 (some v :: r9) (v :: st) A) := x_rg (op := o_aload 0 1) rfl rfl
theorem x_17_11  : exG TB d 17 11 L (.ref p :: st) A = ki (aln (gas A p)) d 17 12 L st A := x_bd (op := o_alens) rfl rfl (fun _ => rfl)
theorem x_17_12  : exG TB d 17 12 L (.int i2 :: .int i1 :: st) A = if i2 ≤ i1 then exG TB d 17 32 L st A else exG TB d 17 15 L st A := x_if (op := o_icmp (fun x y => decide (y ≤ x)) 32) rfl rfl rfl
theorem x_17_15  : exG TB d 17 15 (some v :: r9) st A = rg v (exG TB d 17 16 (some v :: r9) (v :: st) A) := x_rg (op := o_aload 0 1) rfl rfl
theorem x_17_16  : exG TB d 17 16 (a0 :: a1 :: some (.int i1) :: r9) st A = exG TB d 17 17 (a0 :: a1 :: some (.int i1) :: r9) (.int i1 :: st) A := x_nx (op := o_iload 2 1) rfl rfl
theorem x_17_17  : exG TB d 17 17 L (.int i1 :: .ref p :: st) A = ki (rdI 1 (gas A p) i1) d 17 18 L st A := x_bd (op := o_rdIs 1) rfl rfl (fun _ => rfl)
theorem x_17_18  : exG TB d 17 18 (a0 :: some v :: r9) st A = rg v (exG TB d 17 19 (a0 :: some v :: r9) (v :: st) A) := x_rg (op := o_aload 1 1) rfl rfl
theorem x_17_19  : exG TB d 17 19 (a0 :: a1 :: some (.int i1) :: r9) st A = exG TB d 17 20 (a0 :: a1 :: some (.int i1) :: r9) (.int i1 :: st) A := x_nx (op := o_iload 2 1) rfl rfl
theorem x_17_20  : exG TB d 17 20 L (.int i1 :: .ref p :: st) A = ki (rdI 1 (gas A p) i1) d 17 21 L st A := x_bd (op := o_rdIs 1) rfl rfl (fun _ => rfl)
theorem x_17_21  : exG TB d 17 21 L (.int i2 :: .int i1 :: st) A = if i1 = i2 then exG TB d 17 26 L st A else exG TB d 17 24 L st A := x_if (op := o_icmp (fun x y => decide (x = y)) 26) rfl rfl rfl
theorem x_17_24  : exG TB d 17 24 L st A = exG TB d 17 25 L (.int (nI 0) :: st) A := x_nx (op := o_push 1 (.int 0)) rfl rfl
theorem x_17_25  : exG TB d 17 25 L [v] A = ck (okv 5 v) (some (.inl (some v), A)) := x_outg (op := o_ret 5) rfl rfl
theorem x_17_26  : exG TB d 17 26 (a0 :: a1 :: some (.int i1) :: r9) st A = exG TB d 17 29 (a0 :: a1 :: some (.int (i1 + (nI 1))) :: r9) st A := x_nx (op := o_iinc 2 1) rfl rfl
theorem x_17_29  : exG TB d 17 29 L st A = exG TB d 17 9 L st A := x_nx (op := o_goto 9) rfl rfl
theorem x_17_32  : exG TB d 17 32 L st A = exG TB d 17 33 L (.int (nI 1) :: st) A := x_nx (op := o_push 1 (.int 1)) rfl rfl
theorem x_17_33  : exG TB d 17 33 L [v] A = ck (okv 5 v) (some (.inl (some v), A)) := x_outg (op := o_ret 5) rfl rfl
theorem x_17_34  : exG TB d 17 34 L st A = exG TB d 17 35 L (.int (nI 0) :: st) A := x_nx (op := o_push 1 (.int 0)) rfl rfl
theorem x_17_35  : exG TB d 17 35 L [v] A = ck (okv 5 v) (some (.inl (some v), A)) := x_outg (op := o_ret 5) rfl rfl
theorem e_18 {j0 : Int32} : evG TB (d + 1) 18 [.int j0] A = exG TB d 18 0 [some (.int j0)] [] A := evG_eq TB d 18 _ A
theorem x_18_0  : exG TB d 18 0 (some (.int i1) :: r9) st A = exG TB d 18 1 (some (.int i1) :: r9) (.int i1 :: st) A := x_nx (op := o_iload 0 1) rfl rfl
theorem x_18_1  : exG TB d 18 1 L st A = exG TB d 18 4 L (.int (nI 255) :: st) A := x_nx (op := o_push 3 (.int 255)) rfl rfl
theorem x_18_4  : exG TB d 18 4 L (.int i2 :: .int i1 :: st) A = if i2 < i1 then exG TB d 18 11 L st A else exG TB d 18 7 L st A := x_if (op := o_icmp (fun x y => decide (y < x)) 11) rfl rfl rfl
theorem x_18_7  : exG TB d 18 7 L st A = exG TB d 18 8 L (.int (nI 1) :: st) A := x_nx (op := o_push 1 (.int 1)) rfl rfl
theorem x_18_8  : exG TB d 18 8 L st A = exG TB d 18 12 L st A := x_nx (op := o_goto 12) rfl rfl
theorem x_18_11  : exG TB d 18 11 L st A = exG TB d 18 12 L (.int (nI 0) :: st) A := x_nx (op := o_push 1 (.int 0)) rfl rfl
theorem x_18_12  : exG TB d 18 12 L [v] A = ck (okv 5 v) (some (.inl (some v), A)) := x_outg (op := o_ret 5) rfl rfl
theorem e_19 {j1 : Int32} : evG TB (d + 1) 19 [b0, .int j1] A = rg b0 (exG TB d 19 0 [some (b0), some (.int j1)] [] A) := by
  rw [evG_eq]
  show (bif (isR b0 && (true && true)) then exG TB d 19 0 [some (b0), some (.int j1)] [] A else none) = _
  unfold rg
  cases isR b0 <;> rfl
theorem x_19_0  : exG TB d 19 0 (a0 :: some (.int i1) :: r9) st A = exG TB d 19 1 (a0 :: some (.int i1) :: r9) (.int i1 :: st) A := x_nx (op := o_iload 1 1) rfl rfl
theorem x_19_1  : exG TB d 19 1 (some v :: r9) st A = rg v (exG TB d 19 2 (some v :: r9) (v :: st) A) := x_rg (op := o_aload 0 1) rfl rfl
theorem x_19_2  : exG TB d 19 2 L (.ref p :: st) A = ki (aln (gas A p)) d 19 3 L st A := x_bd (op := o_alens) rfl rfl (fun _ => rfl)
theorem x_19_3  : exG TB d 19 3 L [b1, b0] A = kc0 (evG TB d 122 [b0, b1] A) d 19 6 L [] := x_c0 (op := o_cs 122 2 true none) rfl rfl x_noh rfl
theorem x_19_6  : exG TB d 19 6 (some v :: r9) st A = rg v (exG TB d 19 7 (some v :: r9) (v :: st) A) := x_rg (op := o_aload 0 1) rfl rfl
theorem x_19_7  : exG TB d 19 7 (a0 :: some (.int i1) :: r9) st A = exG TB d 19 8 (a0 :: some (.int i1) :: r9) (.int i1 :: st) A := x_nx (op := o_iload 1 1) rfl rfl
theorem x_19_8  : exG TB d 19 8 L (.int i1 :: .ref p :: st) A = ki (rdI 1 (gas A p) i1) d 19 9 L st A := x_bd (op := o_rdIs 1) rfl rfl (fun _ => rfl)
theorem x_19_9  : exG TB d 19 9 L st A = exG TB d 19 12 L (.int (nI 255) :: st) A := x_nx (op := o_push 3 (.int 255)) rfl rfl
theorem x_19_12  : exG TB d 19 12 L (.int i2 :: .int i1 :: st) A = exG TB d 19 13 L (.int (i1 &&& i2) :: st) A := x_nx (op := o_iop (fun x y => x &&& y)) rfl rfl
theorem x_19_13  : exG TB d 19 13 L (.int i1 :: st) A = exG TB d 19 14 L (.int ((i1.toUInt32 % 65536).toInt32) :: st) A := x_nx (op := o_ii (fun x => (x.toUInt32 % 65536).toInt32)) rfl rfl
theorem x_19_14  : exG TB d 19 14 L [v] A = ck (okv 7 v) (some (.inl (some v), A)) := x_outg (op := o_ret 7) rfl rfl
theorem e_20  : evG TB (d + 1) 20 [.ref p] A = exG TB d 20 0 [some (.ref p)] [] A := evG_eq TB d 20 _ A
theorem x_20_0  : exG TB d 20 0 (some v :: r9) st A = rg v (exG TB d 20 1 (some v :: r9) (v :: st) A) := x_rg (op := o_aload 0 1) rfl rfl
theorem x_20_1  : exG TB d 20 1 L [.ref p] A = exG TB d 20 4 L [] A := x_nx (op := o_oi) rfl rfl
theorem x_20_4  : exG TB d 20 4 L [] A = some (.inl none, A) := x_out (op := o_vret) rfl rfl
theorem e_21  : evG TB (d + 1) 21 [.ref p] A = exG TB d 21 0 [some (.ref p)] [] A := evG_eq TB d 21 _ A
theorem x_21_0  : exG TB d 21 0 (some v :: r9) st A = rg v (exG TB d 21 1 (some v :: r9) (v :: st) A) := x_rg (op := o_aload 0 1) rfl rfl
theorem x_21_1  : exG TB d 21 1 L (.ref p :: st) A = kv (gfs A p 109) d 21 4 L st A := x_bd (op := o_gets 109) rfl rfl (fun _ => rfl)
theorem x_21_4  : exG TB d 21 4 L [v] A = ck (okv 1 v) (some (.inl (some v), A)) := x_outg (op := o_ret 1) rfl rfl
theorem e_22  : evG TB (d + 1) 22 [.ref p, b1] A = rg b1 (exG TB d 22 0 [some (.ref p), some (b1)] [] A) := by
  rw [evG_eq]
  show (bif (true && (isR b1 && true)) then exG TB d 22 0 [some (.ref p), some (b1)] [] A else none) = _
  unfold rg
  cases isR b1 <;> rfl
theorem x_22_0  : exG TB d 22 0 (some v :: r9) st A = rg v (exG TB d 22 1 (some v :: r9) (v :: st) A) := x_rg (op := o_aload 0 1) rfl rfl
theorem x_22_1  : exG TB d 22 1 (a0 :: some v :: r9) st A = rg v (exG TB d 22 2 (a0 :: some v :: r9) (v :: st) A) := x_rg (op := o_aload 1 1) rfl rfl
theorem x_22_2n  : exG TB d 22 2 L (.null :: st) A = exG TB d 22 5 L (.null :: st) A := x_nx (op := o_cast [21]) rfl rfl
theorem x_22_2r  : exG TB d 22 2 L (.ref p :: st) A = ck (cin (gcs A p) [21]) (exG TB d 22 5 L (.ref p :: st) A) := x_gd (op := o_cast [21]) rfl rfl
theorem x_22_5  : exG TB d 22 5 L [b0, .ref p] A = kw (sel (gcs A p) [(21, 23)]) [.ref p, b0] d 22 8 L [] A := x_cvb (op := o_cvs [(21, 23)] 1 3 false) rfl rfl x_noh rfl
theorem x_22_8  : exG TB d 22 8 L [v] A = ck (okv 1 v) (some (.inl (some v), A)) := x_outg (op := o_ret 1) rfl rfl
theorem e_23  : evG TB (d + 1) 23 [.ref p, b1] A = rg b1 (exG TB d 23 0 [some (.ref p), some (b1)] [] A) := by
  rw [evG_eq]
  show (bif (true && (isR b1 && true)) then exG TB d 23 0 [some (.ref p), some (b1)] [] A else none) = _
  unfold rg
  cases isR b1 <;> rfl
theorem x_23_0  : exG TB d 23 0 (some v :: r9) st A = rg v (exG TB d 23 1 (some v :: r9) (v :: st) A) := x_rg (op := o_aload 0 1) rfl rfl
theorem x_23_1  : exG TB d 23 1 L (.ref p :: st) A = kv (gfs A p 109) d 23 4 L st A := x_bd (op := o_gets 109) rfl rfl (fun _ => rfl)
theorem x_23_4  : exG TB d 23 4 (a0 :: some v :: r9) st A = rg v (exG TB d 23 5 (a0 :: some v :: r9) (v :: st) A) := x_rg (op := o_aload 1 1) rfl rfl
theorem x_23_5  : exG TB d 23 5 L (.ref p :: st) A = kv (gfs A p 109) d 23 8 L st A := x_bd (op := o_gets 109) rfl rfl (fun _ => rfl)
theorem x_23_8  : exG TB d 23 8 L [b1, b0] A = kc (evG TB d 24 [b0, b1] A) d 23 11 L [] := x_cv (op := o_cs 24 2 false none) rfl rfl x_noh rfl
theorem x_23_11  : exG TB d 23 11 L [v] A = ck (okv 1 v) (some (.inl (some v), A)) := x_outg (op := o_ret 1) rfl rfl
theorem e_24 {j0 : Int32} {j1 : Int32} : evG TB (d + 1) 24 [.int j0, .int j1] A = exG TB d 24 0 [some (.int j0), some (.int j1)] [] A := evG_eq TB d 24 _ A
theorem x_24_0  : exG TB d 24 0 (some (.int i1) :: r9) st A = exG TB d 24 1 (some (.int i1) :: r9) (.int i1 :: st) A := x_nx (op := o_iload 0 1) rfl rfl
theorem x_24_1  : exG TB d 24 1 (a0 :: some (.int i1) :: r9) st A = exG TB d 24 2 (a0 :: some (.int i1) :: r9) (.int i1 :: st) A := x_nx (op := o_iload 1 1) rfl rfl
theorem x_24_2  : exG TB d 24 2 L (.int i2 :: .int i1 :: st) A = if i2 ≤ i1 then exG TB d 24 9 L st A else exG TB d 24 5 L st A := x_if (op := o_icmp (fun x y => decide (y ≤ x)) 9) rfl rfl rfl
theorem x_24_5  : exG TB d 24 5 L st A = exG TB d 24 6 L (.int nN :: st) A := x_nx (op := o_push 1 (.int (-1))) rfl rfl
theorem x_24_6  : exG TB d 24 6 L st A = exG TB d 24 19 L st A := x_nx (op := o_goto 19) rfl rfl
theorem x_24_9  : exG TB d 24 9 (some (.int i1) :: r9) st A = exG TB d 24 10 (some (.int i1) :: r9) (.int i1 :: st) A := x_nx (op := o_iload 0 1) rfl rfl
theorem x_24_10  : exG TB d 24 10 (a0 :: some (.int i1) :: r9) st A = exG TB d 24 11 (a0 :: some (.int i1) :: r9) (.int i1 :: st) A := x_nx (op := o_iload 1 1) rfl rfl
theorem x_24_11  : exG TB d 24 11 L (.int i2 :: .int i1 :: st) A = if ¬ i1 = i2 then exG TB d 24 18 L st A else exG TB d 24 14 L st A := x_if (op := o_icmp (fun x y => decide (¬ x = y)) 18) rfl rfl rfl
theorem x_24_14  : exG TB d 24 14 L st A = exG TB d 24 15 L (.int (nI 0) :: st) A := x_nx (op := o_push 1 (.int 0)) rfl rfl
theorem x_24_15  : exG TB d 24 15 L st A = exG TB d 24 19 L st A := x_nx (op := o_goto 19) rfl rfl
theorem x_24_18  : exG TB d 24 18 L st A = exG TB d 24 19 L (.int (nI 1) :: st) A := x_nx (op := o_push 1 (.int 1)) rfl rfl
theorem x_24_19  : exG TB d 24 19 L [v] A = ck (okv 1 v) (some (.inl (some v), A)) := x_outg (op := o_ret 1) rfl rfl
theorem e_25 {j0 : Int32} : evG TB (d + 1) 25 [.int j0] A = exG TB d 25 0 [some (.int j0)] [] A := evG_eq TB d 25 _ A
theorem x_25_0  : exG TB d 25 0 (some (.int i1) :: r9) st A = exG TB d 25 1 (some (.int i1) :: r9) (.int i1 :: st) A := x_nx (op := o_iload 0 1) rfl rfl
theorem x_25_1  : exG TB d 25 1 L st A = exG TB d 25 3 L (.int (-128) :: st) A := x_nx (op := o_push 2 (.int (-128))) rfl rfl
theorem x_25_3  : exG TB d 25 3 L (.int i2 :: .int i1 :: st) A = if i1 < i2 then exG TB d 25 23 L st A else exG TB d 25 6 L st A := x_if (op := o_icmp (fun x y => decide (x < y)) 23) rfl rfl rfl
theorem x_25_6  : exG TB d 25 6 (some (.int i1) :: r9) st A = exG TB d 25 7 (some (.int i1) :: r9) (.int i1 :: st) A := x_nx (op := o_iload 0 1) rfl rfl
theorem x_25_7  : exG TB d 25 7 L st A = exG TB d 25 10 L (.int (nI 127) :: st) A := x_nx (op := o_push 3 (.int 127)) rfl rfl
theorem x_25_10  : exG TB d 25 10 L (.int i2 :: .int i1 :: st) A = if i2 < i1 then exG TB d 25 23 L st A else exG TB d 25 13 L st A := x_if (op := o_icmp (fun x y => decide (y < x)) 23) rfl rfl rfl
theorem x_25_13  : exG TB d 25 13 L st A = exG TB d 25 16 L (.ref (sAd (sg A) 1) :: st) A := x_nx (op := o_pushA 3 1) rfl rfl
theorem x_25_16  : exG TB d 25 16 (some (.int i1) :: r9) st A = exG TB d 25 17 (some (.int i1) :: r9) (.int i1 :: st) A := x_nx (op := o_iload 0 1) rfl rfl
theorem x_25_17  : exG TB d 25 17 L st A = exG TB d 25 20 L (.int (nI 128) :: st) A := x_nx (op := o_push 3 (.int 128)) rfl rfl
theorem x_25_20  : exG TB d 25 20 L (.int i2 :: .int i1 :: st) A = exG TB d 25 21 L (.int (i1 + i2) :: st) A := x_nx (op := o_iop (fun x y => x + y)) rfl rfl
theorem x_25_21  : exG TB d 25 21 L (.int i1 :: .ref p :: st) A = kq (rdQ (gas A p) i1) d 25 22 L st A := x_bd (op := o_rdQs) rfl rfl (fun _ => rfl)
theorem x_25_22  : exG TB d 25 22 L [v] A = ck (okv 0 v) (some (.inl (some v), A)) := x_outg (op := o_ret 0) rfl rfl
theorem x_25_23  : exG TB d 25 23 L st A = exG TB d 25 26 L (.ref (nx A) :: st) (newo A 21 1 dv21) := x_nx (op := o_new 21 1 dv21) rfl rfl
theorem x_25_26  : exG TB d 25 26 L (v :: st) A = ck (c1 v) (exG TB d 25 27 L (v :: v :: st) A) := x_gd (op := o_dup) rfl rfl
theorem x_25_27  : exG TB d 25 27 (some (.int i1) :: r9) st A = exG TB d 25 28 (some (.int i1) :: r9) (.int i1 :: st) A := x_nx (op := o_iload 0 1) rfl rfl
theorem x_25_28  : exG TB d 25 28 L [b0, .ref p, w0] A = kc0 (evG TB d 26 [.ref p, b0] A) d 25 31 L [w0] := x_c0 (op := o_ci 26 1) rfl rfl x_noh rfl
theorem x_25_31  : exG TB d 25 31 L [v] A = ck (okv 0 v) (some (.inl (some v), A)) := x_outg (op := o_ret 0) rfl rfl
theorem e_26 {j1 : Int32} : evG TB (d + 1) 26 [.ref p, .int j1] A = exG TB d 26 0 [some (.ref p), some (.int j1)] [] A := evG_eq TB d 26 _ A
theorem x_26_0  : exG TB d 26 0 (some v :: r9) st A = rg v (exG TB d 26 1 (some v :: r9) (v :: st) A) := x_rg (op := o_aload 0 1) rfl rfl
theorem x_26_1  : exG TB d 26 1 L [.ref p] A = kc0 (evG TB d 20 [.ref p] A) d 26 4 L [] := x_c0 (op := o_ci 20 0) rfl rfl x_noh rfl
theorem x_26_4  : exG TB d 26 4 (some v :: r9) st A = rg v (exG TB d 26 5 (some v :: r9) (v :: st) A) := x_rg (op := o_aload 0 1) rfl rfl
theorem x_26_5  : exG TB d 26 5 (a0 :: some (.int i1) :: r9) st A = exG TB d 26 6 (a0 :: some (.int i1) :: r9) (.int i1 :: st) A := x_nx (op := o_iload 1 1) rfl rfl
theorem x_26_6  : exG TB d 26 6 L (v :: .ref p :: st) A = ck ((gf A p 109).isSome && okv 1 v) (exG TB d 26 9 L st (setf A p 109 v)) := x_gd (op := o_put 109 1) rfl rfl
theorem x_26_9  : exG TB d 26 9 L [] A = some (.inl none, A) := x_out (op := o_vret) rfl rfl
theorem e_27  : evG TB (d + 1) 27 [.ref p] A = exG TB d 27 0 [some (.ref p)] [] A := evG_eq TB d 27 _ A
theorem x_27_0  : exG TB d 27 0 (some v :: r9) st A = rg v (exG TB d 27 1 (some v :: r9) (v :: st) A) := x_rg (op := o_aload 0 1) rfl rfl
theorem x_27_1  : exG TB d 27 1 L [.ref p] A = exG TB d 27 4 L [] A := x_nx (op := o_oi) rfl rfl
theorem x_27_4  : exG TB d 27 4 L [] A = some (.inl none, A) := x_out (op := o_vret) rfl rfl
theorem e_28  : evG TB (d + 1) 28 [.ref p] A = exG TB d 28 0 [some (.ref p)] [] A := evG_eq TB d 28 _ A
theorem x_28_0  : exG TB d 28 0 (some v :: r9) st A = rg v (exG TB d 28 1 (some v :: r9) (v :: st) A) := x_rg (op := o_aload 0 1) rfl rfl
theorem x_28_1  : exG TB d 28 1 L [.ref p] A = kc0 (evG TB d 27 [.ref p] A) d 28 4 L [] := x_c0 (op := o_ci 27 0) rfl rfl x_noh rfl
theorem x_28_4  : exG TB d 28 4 (some v :: r9) st A = rg v (exG TB d 28 5 (some v :: r9) (v :: st) A) := x_rg (op := o_aload 0 1) rfl rfl
theorem x_28_5  : exG TB d 28 5 L st A = exG TB d 28 7 L (.float 1061158912 :: st) A := x_nx (op := o_push 2 (.float 1061158912)) rfl rfl
theorem x_28_7  : exG TB d 28 7 L (v :: .ref p :: st) A = ck ((gf A p 36).isSome && okv 3 v) (exG TB d 28 10 L st (setf A p 36 v)) := x_gd (op := o_put 36 3) rfl rfl
theorem x_28_10  : exG TB d 28 10 L [] A = some (.inl none, A) := x_out (op := o_vret) rfl rfl
theorem e_29  : evG TB (d + 1) 29 [.ref p, b1] A = rg b1 (exG TB d 29 0 [some (.ref p), some (b1), none] [] A) := by
  rw [evG_eq]
  show (bif (true && (isR b1 && true)) then exG TB d 29 0 [some (.ref p), some (b1), none] [] A else none) = _
  unfold rg
  cases isR b1 <;> rfl
theorem x_29_0  : exG TB d 29 0 (some v :: r9) st A = rg v (exG TB d 29 1 (some v :: r9) (v :: st) A) := x_rg (op := o_aload 0 1) rfl rfl
theorem x_29_1  : exG TB d 29 1 (a0 :: some v :: r9) st A = rg v (exG TB d 29 2 (a0 :: some v :: r9) (v :: st) A) := x_rg (op := o_aload 1 1) rfl rfl
theorem x_29_2  : exG TB d 29 2 L [b0, .ref p] A = kw (sel (gc A p) [(6, 30)]) [.ref p, b0] d 29 5 L [] A := x_cvb (op := o_cv [(6, 30)] 1 3 false none) rfl rfl x_noh rfl
theorem x_29_5  : exG TB d 29 5 L (v :: st) A = ck (c1 v) (exG TB d 29 6 L (v :: v :: st) A) := x_gd (op := o_dup) rfl rfl
theorem x_29_6  : exG TB d 29 6 (a0 :: a1 :: a2 :: r9) (v :: st) A = rg v (exG TB d 29 7 (a0 :: a1 :: some v :: r9) st A) := x_rgt (op := o_astore 2 1) rfl rfl
theorem x_29_7n  : exG TB d 29 7 L (.null :: st) A = exG TB d 29 10 L st A := x_nx (op := o_ifnonnull 14) rfl rfl
theorem x_29_7r  : exG TB d 29 7 L (.ref p :: st) A = exG TB d 29 14 L st A := x_nx (op := o_ifnonnull 14) rfl rfl
theorem x_29_10  : exG TB d 29 10 L st A = exG TB d 29 11 L (.null :: st) A := x_nx (op := o_push 1 .null) rfl rfl
theorem x_29_11  : exG TB d 29 11 L st A = exG TB d 29 18 L st A := x_nx (op := o_goto 18) rfl rfl
theorem x_29_14  : exG TB d 29 14 (a0 :: a1 :: some v :: r9) st A = rg v (exG TB d 29 15 (a0 :: a1 :: some v :: r9) (v :: st) A) := x_rg (op := o_aload 2 1) rfl rfl
theorem x_29_15  : exG TB d 29 15 L (.ref p :: st) A = kv (gf A p 145) d 29 18 L st A := x_bd (op := o_get 145) rfl rfl (fun _ => rfl)
theorem x_29_18  : exG TB d 29 18 L [v] A = ck (okv 0 v) (some (.inl (some v), A)) := x_outg (op := o_ret 0) rfl rfl
theorem e_30  : evG TB (d + 1) 30 [.ref p, b1] A = rg b1 (exG TB d 30 0 [some (.ref p), some (b1), none, none, none, none, none, none] [] A) := by
  rw [evG_eq]
  show (bif (true && (isR b1 && true)) then exG TB d 30 0 [some (.ref p), some (b1), none, none, none, none, none, none] [] A else none) = _
  unfold rg
  cases isR b1 <;> rfl
theorem x_30_0  : exG TB d 30 0 (some v :: r9) st A = rg v (exG TB d 30 1 (some v :: r9) (v :: st) A) := x_rg (op := o_aload 0 1) rfl rfl
theorem x_30_1  : exG TB d 30 1 L (.ref p :: st) A = kv (gf A p 31) d 30 4 L st A := x_bd (op := o_get 31) rfl rfl (fun _ => rfl)
theorem x_30_4  : exG TB d 30 4 L (v :: st) A = ck (c1 v) (exG TB d 30 5 L (v :: v :: st) A) := x_gd (op := o_dup) rfl rfl
theorem x_30_5  : exG TB d 30 5 (a0 :: a1 :: a2 :: r9) (v :: st) A = rg v (exG TB d 30 6 (a0 :: a1 :: some v :: r9) st A) := x_rgt (op := o_astore 2 1) rfl rfl
theorem x_30_6n  : exG TB d 30 6 L (.null :: st) A = exG TB d 30 148 L st A := x_nx (op := o_ifnull 148) rfl rfl
theorem x_30_6r  : exG TB d 30 6 L (.ref p :: st) A = exG TB d 30 9 L st A := x_nx (op := o_ifnull 148) rfl rfl
theorem x_30_9  : exG TB d 30 9 (a0 :: a1 :: some v :: r9) st A = rg v (exG TB d 30 10 (a0 :: a1 :: some v :: r9) (v :: st) A) := x_rg (op := o_aload 2 1) rfl rfl
theorem x_30_10  : exG TB d 30 10 L (.ref p :: st) A = ki (aln (ga A p)) d 30 11 L st A := x_bd (op := o_alen) rfl rfl (fun _ => rfl)
theorem x_30_11  : exG TB d 30 11 L (v :: st) A = ck (c1 v) (exG TB d 30 12 L (v :: v :: st) A) := x_gd (op := o_dup) rfl rfl
theorem x_30_12  : exG TB d 30 12 (a0 :: a1 :: a2 :: a3 :: a4 :: a5 :: r9) (.int i1 :: st) A = exG TB d 30 14 (a0 :: a1 :: a2 :: a3 :: a4 :: some (.int i1) :: r9) st A := x_nx (op := o_istore 5 2) rfl rfl
theorem x_30_14  : exG TB d 30 14 L (.int i1 :: st) A = if i1 ≤ nI 0 then exG TB d 30 148 L st A else exG TB d 30 17 L st A := x_if (op := o_if (fun x => decide (x ≤ 0)) 148) rfl rfl rfl
theorem x_30_17  : exG TB d 30 17 (a0 :: a1 :: some v :: r9) st A = rg v (exG TB d 30 18 (a0 :: a1 :: some v :: r9) (v :: st) A) := x_rg (op := o_aload 2 1) rfl rfl
theorem x_30_18  : exG TB d 30 18 (a0 :: a1 :: a2 :: a3 :: a4 :: some (.int i1) :: r9) st A = exG TB d 30 20 (a0 :: a1 :: a2 :: a3 :: a4 :: some (.int i1) :: r9) (.int i1 :: st) A := x_nx (op := o_iload 5 2) rfl rfl
theorem x_30_20  : exG TB d 30 20 L st A = exG TB d 30 21 L (.int (nI 1) :: st) A := x_nx (op := o_push 1 (.int 1)) rfl rfl
theorem x_30_21  : exG TB d 30 21 L (.int i2 :: .int i1 :: st) A = exG TB d 30 22 L (.int (i1 - i2) :: st) A := x_nx (op := o_iop (fun x y => x - y)) rfl rfl
theorem x_30_22  : exG TB d 30 22 (a0 :: some v :: r9) st A = rg v (exG TB d 30 23 (a0 :: some v :: r9) (v :: st) A) := x_rg (op := o_aload 1 1) rfl rfl
theorem x_30_23  : exG TB d 30 23 L [b0, w0, w1] A = kc (evG TB d 31 [b0] A) d 30 26 L [w0, w1] := x_cv (op := o_cs 31 1 false none) rfl rfl x_noh rfl
theorem x_30_26  : exG TB d 30 26 L (v :: st) A = ck (c1 v) (exG TB d 30 27 L (v :: v :: st) A) := x_gd (op := o_dup) rfl rfl
theorem x_30_27  : exG TB d 30 27 (a0 :: a1 :: a2 :: a3 :: a4 :: a5 :: a6 :: r9) (.int i1 :: st) A = exG TB d 30 29 (a0 :: a1 :: a2 :: a3 :: a4 :: a5 :: some (.int i1) :: r9) st A := x_nx (op := o_istore 6 2) rfl rfl
theorem x_30_29  : exG TB d 30 29 L (.int i2 :: .int i1 :: st) A = exG TB d 30 30 L (.int (i1 &&& i2) :: st) A := x_nx (op := o_iop (fun x y => x &&& y)) rfl rfl
theorem x_30_30  : exG TB d 30 30 L (.int i1 :: .ref p :: st) A = kq (rdQ (ga A p) i1) d 30 31 L st A := x_bd (op := o_rdQ) rfl rfl (fun _ => rfl)
theorem x_30_31  : exG TB d 30 31 L (v :: st) A = ck (c1 v) (exG TB d 30 32 L (v :: v :: st) A) := x_gd (op := o_dup) rfl rfl
theorem x_30_32  : exG TB d 30 32 (a0 :: a1 :: a2 :: a3 :: r9) (v :: st) A = rg v (exG TB d 30 33 (a0 :: a1 :: a2 :: some v :: r9) st A) := x_rgt (op := o_astore 3 1) rfl rfl
theorem x_30_33n  : exG TB d 30 33 L (.null :: st) A = exG TB d 30 148 L st A := x_nx (op := o_ifnull 148) rfl rfl
theorem x_30_33r  : exG TB d 30 33 L (.ref p :: st) A = exG TB d 30 36 L st A := x_nx (op := o_ifnull 148) rfl rfl
theorem x_30_36  : exG TB d 30 36 (a0 :: a1 :: a2 :: some v :: r9) st A = rg v (exG TB d 30 37 (a0 :: a1 :: a2 :: some v :: r9) (v :: st) A) := x_rg (op := o_aload 3 1) rfl rfl
theorem x_30_37  : exG TB d 30 37 L (.ref p :: st) A = kv (gf A p 143) d 30 40 L st A := x_bd (op := o_get 143) rfl rfl (fun _ => rfl)
theorem x_30_40  : exG TB d 30 40 (a0 :: a1 :: a2 :: a3 :: a4 :: a5 :: some (.int i1) :: r9) st A = exG TB d 30 42 (a0 :: a1 :: a2 :: a3 :: a4 :: a5 :: some (.int i1) :: r9) (.int i1 :: st) A := x_nx (op := o_iload 6 2) rfl rfl
theorem x_30_42  : exG TB d 30 42 L (.int i2 :: .int i1 :: st) A = if ¬ i1 = i2 then exG TB d 30 71 L st A else exG TB d 30 45 L st A := x_if (op := o_icmp (fun x y => decide (¬ x = y)) 71) rfl rfl rfl
theorem x_30_45  : exG TB d 30 45 (a0 :: a1 :: a2 :: some v :: r9) st A = rg v (exG TB d 30 46 (a0 :: a1 :: a2 :: some v :: r9) (v :: st) A) := x_rg (op := o_aload 3 1) rfl rfl
theorem x_30_46  : exG TB d 30 46 L (.ref p :: st) A = kv (gf A p 144) d 30 49 L st A := x_bd (op := o_get 144) rfl rfl (fun _ => rfl)
theorem x_30_49  : exG TB d 30 49 L (v :: st) A = ck (c1 v) (exG TB d 30 50 L (v :: v :: st) A) := x_gd (op := o_dup) rfl rfl
theorem x_30_50  : exG TB d 30 50 (a0 :: a1 :: a2 :: a3 :: a4 :: a5 :: a6 :: a7 :: r9) (v :: st) A = rg v (exG TB d 30 52 (a0 :: a1 :: a2 :: a3 :: a4 :: a5 :: a6 :: some v :: r9) st A) := x_rgt (op := o_astore 7 2) rfl rfl
theorem x_30_52  : exG TB d 30 52 (a0 :: some v :: r9) st A = rg v (exG TB d 30 53 (a0 :: some v :: r9) (v :: st) A) := x_rg (op := o_aload 1 1) rfl rfl
theorem x_30_53  : exG TB d 30 53 L (.ref q :: .ref p :: st) A = if p = q then exG TB d 30 69 L st A else exG TB d 30 56 L st A := x_if (op := o_acmp true 69) rfl (ac_t p q) rfl
theorem x_30_53rn  : exG TB d 30 53 L (.null :: .ref p :: st) A = exG TB d 30 56 L st A := x_nx (op := o_acmp true 69) rfl rfl
theorem x_30_53nr  : exG TB d 30 53 L (.ref p :: .null :: st) A = exG TB d 30 56 L st A := x_nx (op := o_acmp true 69) rfl rfl
theorem x_30_53nn  : exG TB d 30 53 L (.null :: .null :: st) A = exG TB d 30 69 L st A := x_nx (op := o_acmp true 69) rfl rfl
theorem x_30_56  : exG TB d 30 56 (a0 :: some v :: r9) st A = rg v (exG TB d 30 57 (a0 :: some v :: r9) (v :: st) A) := x_rg (op := o_aload 1 1) rfl rfl
theorem x_30_57n  : exG TB d 30 57 L (.null :: st) A = exG TB d 30 71 L st A := x_nx (op := o_ifnull 71) rfl rfl
theorem x_30_57r  : exG TB d 30 57 L (.ref p :: st) A = exG TB d 30 60 L st A := x_nx (op := o_ifnull 71) rfl rfl
theorem x_30_60  : exG TB d 30 60 (a0 :: some v :: r9) st A = rg v (exG TB d 30 61 (a0 :: some v :: r9) (v :: st) A) := x_rg (op := o_aload 1 1) rfl rfl
theorem x_30_61  : exG TB d 30 61 (a0 :: a1 :: a2 :: a3 :: a4 :: a5 :: a6 :: some v :: r9) st A = rg v (exG TB d 30 63 (a0 :: a1 :: a2 :: a3 :: a4 :: a5 :: a6 :: some v :: r9) (v :: st) A) := x_rg (op := o_aload 7 2) rfl rfl
theorem x_30_63  : exG TB d 30 63 L [b0, .ref p] A = kw (sel (gc A p) [(8, 281)]) [.ref p, b0] d 30 66 L [] A := x_cvb (op := o_cv [(8, 281)] 1 3 false none) rfl rfl x_noh rfl
theorem x_30_66  : exG TB d 30 66 L (.int i1 :: st) A = if i1 = nI 0 then exG TB d 30 71 L st A else exG TB d 30 69 L st A := x_if (op := o_if (fun x => decide (x = 0)) 71) rfl rfl rfl
theorem x_30_69  : exG TB d 30 69 (a0 :: a1 :: a2 :: some v :: r9) st A = rg v (exG TB d 30 70 (a0 :: a1 :: a2 :: some v :: r9) (v :: st) A) := x_rg (op := o_aload 3 1) rfl rfl
theorem x_30_70  : exG TB d 30 70 L [v] A = ck (okv 0 v) (some (.inl (some v), A)) := x_outg (op := o_ret 0) rfl rfl
theorem x_30_71  : exG TB d 30 71 (a0 :: a1 :: a2 :: some v :: r9) st A = rg v (exG TB d 30 72 (a0 :: a1 :: a2 :: some v :: r9) (v :: st) A) := x_rg (op := o_aload 3 1) rfl rfl
theorem x_30_72  : exG TB d 30 72 L (.ref p :: st) A = kv (gf A p 146) d 30 75 L st A := x_bd (op := o_get 146) rfl rfl (fun _ => rfl)
theorem x_30_75  : exG TB d 30 75 L (v :: st) A = ck (c1 v) (exG TB d 30 76 L (v :: v :: st) A) := x_gd (op := o_dup) rfl rfl
theorem x_30_76  : exG TB d 30 76 (a0 :: a1 :: a2 :: a3 :: a4 :: r9) (v :: st) A = rg v (exG TB d 30 78 (a0 :: a1 :: a2 :: a3 :: some v :: r9) st A) := x_rgt (op := o_astore 4 2) rfl rfl
theorem x_30_78n  : exG TB d 30 78 L (.null :: st) A = exG TB d 30 148 L st A := x_nx (op := o_ifnull 148) rfl rfl
theorem x_30_78r  : exG TB d 30 78 L (.ref p :: st) A = exG TB d 30 81 L st A := x_nx (op := o_ifnull 148) rfl rfl
theorem x_30_81  : exG TB d 30 81 (a0 :: a1 :: a2 :: some v :: r9) st A = rg v (exG TB d 30 82 (a0 :: a1 :: a2 :: some v :: r9) (v :: st) A) := x_rg (op := o_aload 3 1) rfl rfl
theorem x_30_82n  : exG TB d 30 82 L (.null :: st) A = exG TB d 30 85 L (.int (nI 0) :: st) A := x_nx (op := o_inst [] [28]) rfl rfl
theorem x_30_82o (h8 : cin (gcs A p) [28] = true) : exG TB d 30 82 L (.ref p :: st) A = exG TB d 30 85 L (.int (nI 0) :: st) A := x_inN (l := []) (l0 := [28]) rfl (cin_nil _) h8
theorem x_30_85  : exG TB d 30 85 L (.int i1 :: st) A = if i1 = nI 0 then exG TB d 30 99 L st A else exG TB d 30 88 L st A := x_if (op := o_if (fun x => decide (x = 0)) 99) rfl rfl rfl
theorem x_30_88  : exG TB d 30 88 (a0 :: a1 :: a2 :: some v :: r9) st A = rg v (exG TB d 30 89 (a0 :: a1 :: a2 :: some v :: r9) (v :: st) A) := x_rg (op := o_aload 3 1) rfl rfl
theorem x_30_92  : exG TB d 30 92 (a0 :: a1 :: a2 :: a3 :: a4 :: a5 :: some (.int i1) :: r9) st A = exG TB d 30 94 (a0 :: a1 :: a2 :: a3 :: a4 :: a5 :: some (.int i1) :: r9) (.int i1 :: st) A := x_nx (op := o_iload 6 2) rfl rfl
theorem x_30_94  : exG TB d 30 94 (a0 :: some v :: r9) st A = rg v (exG TB d 30 95 (a0 :: some v :: r9) (v :: st) A) := x_rg (op := o_aload 1 1) rfl rfl
theorem x_30_98  : exG TB d 30 98 L [v] A = ck (okv 0 v) (some (.inl (some v), A)) := x_outg (op := o_ret 0) rfl rfl
theorem x_30_99  : exG TB d 30 99 (a0 :: a1 :: a2 :: a3 :: some v :: r9) st A = rg v (exG TB d 30 101 (a0 :: a1 :: a2 :: a3 :: some v :: r9) (v :: st) A) := x_rg (op := o_aload 4 2) rfl rfl
theorem x_30_101  : exG TB d 30 101 L (.ref p :: st) A = kv (gf A p 143) d 30 104 L st A := x_bd (op := o_get 143) rfl rfl (fun _ => rfl)
theorem x_30_104  : exG TB d 30 104 (a0 :: a1 :: a2 :: a3 :: a4 :: a5 :: some (.int i1) :: r9) st A = exG TB d 30 106 (a0 :: a1 :: a2 :: a3 :: a4 :: a5 :: some (.int i1) :: r9) (.int i1 :: st) A := x_nx (op := o_iload 6 2) rfl rfl
theorem x_30_106  : exG TB d 30 106 L (.int i2 :: .int i1 :: st) A = if ¬ i1 = i2 then exG TB d 30 137 L st A else exG TB d 30 109 L st A := x_if (op := o_icmp (fun x y => decide (¬ x = y)) 137) rfl rfl rfl
theorem x_30_109  : exG TB d 30 109 (a0 :: a1 :: a2 :: a3 :: some v :: r9) st A = rg v (exG TB d 30 111 (a0 :: a1 :: a2 :: a3 :: some v :: r9) (v :: st) A) := x_rg (op := o_aload 4 2) rfl rfl
theorem x_30_111  : exG TB d 30 111 L (.ref p :: st) A = kv (gf A p 144) d 30 114 L st A := x_bd (op := o_get 144) rfl rfl (fun _ => rfl)
theorem x_30_114  : exG TB d 30 114 L (v :: st) A = ck (c1 v) (exG TB d 30 115 L (v :: v :: st) A) := x_gd (op := o_dup) rfl rfl
theorem x_30_115  : exG TB d 30 115 (a0 :: a1 :: a2 :: a3 :: a4 :: a5 :: a6 :: a7 :: r9) (v :: st) A = rg v (exG TB d 30 117 (a0 :: a1 :: a2 :: a3 :: a4 :: a5 :: a6 :: some v :: r9) st A) := x_rgt (op := o_astore 7 2) rfl rfl
theorem x_30_117  : exG TB d 30 117 (a0 :: some v :: r9) st A = rg v (exG TB d 30 118 (a0 :: some v :: r9) (v :: st) A) := x_rg (op := o_aload 1 1) rfl rfl
theorem x_30_118  : exG TB d 30 118 L (.ref q :: .ref p :: st) A = if p = q then exG TB d 30 134 L st A else exG TB d 30 121 L st A := x_if (op := o_acmp true 134) rfl (ac_t p q) rfl
theorem x_30_118rn  : exG TB d 30 118 L (.null :: .ref p :: st) A = exG TB d 30 121 L st A := x_nx (op := o_acmp true 134) rfl rfl
theorem x_30_118nr  : exG TB d 30 118 L (.ref p :: .null :: st) A = exG TB d 30 121 L st A := x_nx (op := o_acmp true 134) rfl rfl
theorem x_30_118nn  : exG TB d 30 118 L (.null :: .null :: st) A = exG TB d 30 134 L st A := x_nx (op := o_acmp true 134) rfl rfl
theorem x_30_121  : exG TB d 30 121 (a0 :: some v :: r9) st A = rg v (exG TB d 30 122 (a0 :: some v :: r9) (v :: st) A) := x_rg (op := o_aload 1 1) rfl rfl
theorem x_30_122n  : exG TB d 30 122 L (.null :: st) A = exG TB d 30 137 L st A := x_nx (op := o_ifnull 137) rfl rfl
theorem x_30_122r  : exG TB d 30 122 L (.ref p :: st) A = exG TB d 30 125 L st A := x_nx (op := o_ifnull 137) rfl rfl
theorem x_30_125  : exG TB d 30 125 (a0 :: some v :: r9) st A = rg v (exG TB d 30 126 (a0 :: some v :: r9) (v :: st) A) := x_rg (op := o_aload 1 1) rfl rfl
theorem x_30_126  : exG TB d 30 126 (a0 :: a1 :: a2 :: a3 :: a4 :: a5 :: a6 :: some v :: r9) st A = rg v (exG TB d 30 128 (a0 :: a1 :: a2 :: a3 :: a4 :: a5 :: a6 :: some v :: r9) (v :: st) A) := x_rg (op := o_aload 7 2) rfl rfl
theorem x_30_128  : exG TB d 30 128 L [b0, .ref p] A = kw (sel (gc A p) [(8, 281)]) [.ref p, b0] d 30 131 L [] A := x_cvb (op := o_cv [(8, 281)] 1 3 false none) rfl rfl x_noh rfl
theorem x_30_131  : exG TB d 30 131 L (.int i1 :: st) A = if i1 = nI 0 then exG TB d 30 137 L st A else exG TB d 30 134 L st A := x_if (op := o_if (fun x => decide (x = 0)) 137) rfl rfl rfl
theorem x_30_134  : exG TB d 30 134 (a0 :: a1 :: a2 :: a3 :: some v :: r9) st A = rg v (exG TB d 30 136 (a0 :: a1 :: a2 :: a3 :: some v :: r9) (v :: st) A) := x_rg (op := o_aload 4 2) rfl rfl
theorem x_30_136  : exG TB d 30 136 L [v] A = ck (okv 0 v) (some (.inl (some v), A)) := x_outg (op := o_ret 0) rfl rfl
theorem x_30_137  : exG TB d 30 137 (a0 :: a1 :: a2 :: a3 :: some v :: r9) st A = rg v (exG TB d 30 139 (a0 :: a1 :: a2 :: a3 :: some v :: r9) (v :: st) A) := x_rg (op := o_aload 4 2) rfl rfl
theorem x_30_139  : exG TB d 30 139 L (.ref p :: st) A = kv (gf A p 146) d 30 142 L st A := x_bd (op := o_get 146) rfl rfl (fun _ => rfl)
theorem x_30_142  : exG TB d 30 142 L (v :: st) A = ck (c1 v) (exG TB d 30 143 L (v :: v :: st) A) := x_gd (op := o_dup) rfl rfl
theorem x_30_143  : exG TB d 30 143 (a0 :: a1 :: a2 :: a3 :: a4 :: r9) (v :: st) A = rg v (exG TB d 30 145 (a0 :: a1 :: a2 :: a3 :: some v :: r9) st A) := x_rgt (op := o_astore 4 2) rfl rfl
theorem x_30_145n  : exG TB d 30 145 L (.null :: st) A = exG TB d 30 148 L st A := x_nx (op := o_ifnonnull 99) rfl rfl
theorem x_30_145r  : exG TB d 30 145 L (.ref p :: st) A = exG TB d 30 99 L st A := x_nx (op := o_ifnonnull 99) rfl rfl
theorem x_30_148  : exG TB d 30 148 L st A = exG TB d 30 149 L (.null :: st) A := x_nx (op := o_push 1 .null) rfl rfl
theorem x_30_149  : exG TB d 30 149 L [v] A = ck (okv 0 v) (some (.inl (some v), A)) := x_outg (op := o_ret 0) rfl rfl
theorem e_31  : evG TB (d + 1) 31 [b0] A = rg b0 (exG TB d 31 0 [some (b0), none] [] A) := by
  rw [evG_eq]
  show (bif (isR b0 && true) then exG TB d 31 0 [some (b0), none] [] A else none) = _
  unfold rg
  cases isR b0 <;> rfl
theorem x_31_0  : exG TB d 31 0 (some v :: r9) st A = rg v (exG TB d 31 1 (some v :: r9) (v :: st) A) := x_rg (op := o_aload 0 1) rfl rfl
theorem x_31_1n  : exG TB d 31 1 L (.null :: st) A = exG TB d 31 4 L st A := x_nx (op := o_ifnonnull 8) rfl rfl
theorem x_31_1r  : exG TB d 31 1 L (.ref p :: st) A = exG TB d 31 8 L st A := x_nx (op := o_ifnonnull 8) rfl rfl
theorem x_31_4  : exG TB d 31 4 L st A = exG TB d 31 5 L (.int (nI 0) :: st) A := x_nx (op := o_push 1 (.int 0)) rfl rfl
theorem x_31_5  : exG TB d 31 5 L st A = exG TB d 31 19 L st A := x_nx (op := o_goto 19) rfl rfl
theorem x_31_8  : exG TB d 31 8 (some v :: r9) st A = rg v (exG TB d 31 9 (some v :: r9) (v :: st) A) := x_rg (op := o_aload 0 1) rfl rfl
theorem x_31_9  : exG TB d 31 9 L [.ref p] A = kw (sel (gc A p) [(8, 280)]) [.ref p] d 31 12 L [] A := x_cvb (op := o_cv [(8, 280)] 0 3 false none) rfl rfl x_noh rfl
theorem x_31_12  : exG TB d 31 12 L (v :: st) A = ck (c1 v) (exG TB d 31 13 L (v :: v :: st) A) := x_gd (op := o_dup) rfl rfl
theorem x_31_13  : exG TB d 31 13 (a0 :: a1 :: r9) (.int i1 :: st) A = exG TB d 31 14 (a0 :: some (.int i1) :: r9) st A := x_nx (op := o_istore 1 1) rfl rfl
theorem x_31_14  : exG TB d 31 14 (a0 :: some (.int i1) :: r9) st A = exG TB d 31 15 (a0 :: some (.int i1) :: r9) (.int i1 :: st) A := x_nx (op := o_iload 1 1) rfl rfl
theorem x_31_15  : exG TB d 31 15 L st A = exG TB d 31 17 L (.int (nI 16) :: st) A := x_nx (op := o_push 2 (.int 16)) rfl rfl
theorem x_31_17  : exG TB d 31 17 L (.int i2 :: .int i1 :: st) A = exG TB d 31 18 L (.int ((i1.toUInt32 >>> (i2.toUInt32 &&& Int32.toUInt32 31)).toInt32) :: st) A := x_nx (op := o_iop (fun x y => (x.toUInt32 >>> (y.toUInt32 &&& Int32.toUInt32 31)).toInt32)) rfl rfl
theorem x_31_18  : exG TB d 31 18 L (.int i2 :: .int i1 :: st) A = exG TB d 31 19 L (.int (i1 ^^^ i2) :: st) A := x_nx (op := o_iop (fun x y => x ^^^ y)) rfl rfl
theorem x_31_19  : exG TB d 31 19 L [v] A = ck (okv 1 v) (some (.inl (some v), A)) := x_outg (op := o_ret 1) rfl rfl
theorem e_32  : evG TB (d + 1) 32 [.ref p, b1, b2] A = rg b1 (rg b2 (exG TB d 32 0 [some (.ref p), some (b1), some (b2)] [] A)) := by
  rw [evG_eq]
  show (bif (true && (isR b1 && (isR b2 && true))) then exG TB d 32 0 [some (.ref p), some (b1), some (b2)] [] A else none) = _
  unfold rg
  cases isR b1 <;> cases isR b2 <;> rfl
theorem x_32_0  : exG TB d 32 0 (some v :: r9) st A = rg v (exG TB d 32 1 (some v :: r9) (v :: st) A) := x_rg (op := o_aload 0 1) rfl rfl
theorem x_32_1  : exG TB d 32 1 (a0 :: some v :: r9) st A = rg v (exG TB d 32 2 (a0 :: some v :: r9) (v :: st) A) := x_rg (op := o_aload 1 1) rfl rfl
theorem x_32_2  : exG TB d 32 2 L [b0, w0] A = kc (evG TB d 31 [b0] A) d 32 5 L [w0] := x_cv (op := o_cs 31 1 false none) rfl rfl x_noh rfl
theorem x_32_5  : exG TB d 32 5 (a0 :: some v :: r9) st A = rg v (exG TB d 32 6 (a0 :: some v :: r9) (v :: st) A) := x_rg (op := o_aload 1 1) rfl rfl
theorem x_32_6  : exG TB d 32 6 (a0 :: a1 :: some v :: r9) st A = rg v (exG TB d 32 7 (a0 :: a1 :: some v :: r9) (v :: st) A) := x_rg (op := o_aload 2 1) rfl rfl
theorem x_32_7  : exG TB d 32 7 L st A = exG TB d 32 8 L (.int (nI 0) :: st) A := x_nx (op := o_push 1 (.int 0)) rfl rfl
theorem x_32_8  : exG TB d 32 8 L st A = exG TB d 32 9 L (.int (nI 1) :: st) A := x_nx (op := o_push 1 (.int 1)) rfl rfl
theorem x_32_9  : exG TB d 32 9 L [b4, b3, b2, b1, b0, .ref p] A = kw (sel (gc A p) [(6, 33)]) [.ref p, b0, b1, b2, b3, b4] d 32 12 L [] A := x_cvb (op := o_cv [(6, 33)] 5 3 false none) rfl rfl x_noh rfl
theorem x_32_12  : exG TB d 32 12 L [v] A = ck (okv 0 v) (some (.inl (some v), A)) := x_outg (op := o_ret 0) rfl rfl
theorem e_33 {j1 : Int32} {j4 : Int32} {j5 : Int32} : evG TB (d + 1) 33 [.ref p, .int j1, b2, b3, .int j4, .int j5] A = rg b2 (rg b3 (exG TB d 33 0 [some (.ref p), some (.int j1), some (b2), some (b3), some (.int j4), some (.int j5), none, none, none, none, none, none, none] [] A)) := by
  rw [evG_eq]
  show (bif (true && (true && (isR b2 && (isR b3 && (true && (true && true)))))) then exG TB d 33 0 [some (.ref p), some (.int j1), some (b2), some (b3), some (.int j4), some (.int j5), none, none, none, none, none, none, none] [] A else none) = _
  unfold rg
  cases isR b2 <;> cases isR b3 <;> rfl
theorem x_33_0  : exG TB d 33 0 (some v :: r9) st A = rg v (exG TB d 33 1 (some v :: r9) (v :: st) A) := x_rg (op := o_aload 0 1) rfl rfl
theorem x_33_1  : exG TB d 33 1 L (.ref p :: st) A = kv (gf A p 31) d 33 4 L st A := x_bd (op := o_get 31) rfl rfl (fun _ => rfl)
theorem x_33_4  : exG TB d 33 4 L (v :: st) A = ck (c1 v) (exG TB d 33 5 L (v :: v :: st) A) := x_gd (op := o_dup) rfl rfl
theorem x_33_5  : exG TB d 33 5 (a0 :: a1 :: a2 :: a3 :: a4 :: a5 :: a6 :: r9) (v :: st) A = rg v (exG TB d 33 7 (a0 :: a1 :: a2 :: a3 :: a4 :: a5 :: some v :: r9) st A) := x_rgt (op := o_astore 6 2) rfl rfl
theorem x_33_7n  : exG TB d 33 7 L (.null :: st) A = exG TB d 33 19 L st A := x_nx (op := o_ifnull 19) rfl rfl
theorem x_33_7r  : exG TB d 33 7 L (.ref p :: st) A = exG TB d 33 10 L st A := x_nx (op := o_ifnull 19) rfl rfl
theorem x_33_10  : exG TB d 33 10 (a0 :: a1 :: a2 :: a3 :: a4 :: a5 :: some v :: r9) st A = rg v (exG TB d 33 12 (a0 :: a1 :: a2 :: a3 :: a4 :: a5 :: some v :: r9) (v :: st) A) := x_rg (op := o_aload 6 2) rfl rfl
theorem x_33_12  : exG TB d 33 12 L (.ref p :: st) A = ki (aln (ga A p)) d 33 13 L st A := x_bd (op := o_alen) rfl rfl (fun _ => rfl)
theorem x_33_13  : exG TB d 33 13 L (v :: st) A = ck (c1 v) (exG TB d 33 14 L (v :: v :: st) A) := x_gd (op := o_dup) rfl rfl
theorem x_33_14  : exG TB d 33 14 (a0 :: a1 :: a2 :: a3 :: a4 :: a5 :: a6 :: a7 :: a8 :: r9) (.int i1 :: st) A = exG TB d 33 16 (a0 :: a1 :: a2 :: a3 :: a4 :: a5 :: a6 :: a7 :: some (.int i1) :: r9) st A := x_nx (op := o_istore 8 2) rfl rfl
theorem x_33_16  : exG TB d 33 16 L (.int i1 :: st) A = if ¬ i1 = nI 0 then exG TB d 33 29 L st A else exG TB d 33 19 L st A := x_if (op := o_if (fun x => decide (¬ x = 0)) 29) rfl rfl rfl
theorem x_33_19  : exG TB d 33 19 (some v :: r9) st A = rg v (exG TB d 33 20 (some v :: r9) (v :: st) A) := x_rg (op := o_aload 0 1) rfl rfl
theorem x_33_20  : exG TB d 33 20 L [.ref p] A = kw (sel (gc A p) [(6, 34)]) [.ref p] d 33 23 L [] A := x_cvb (op := o_cv [(6, 34)] 0 3 false none) rfl rfl x_noh rfl
theorem x_33_23  : exG TB d 33 23 L (v :: st) A = ck (c1 v) (exG TB d 33 24 L (v :: v :: st) A) := x_gd (op := o_dup) rfl rfl
theorem x_33_24  : exG TB d 33 24 (a0 :: a1 :: a2 :: a3 :: a4 :: a5 :: a6 :: r9) (v :: st) A = rg v (exG TB d 33 26 (a0 :: a1 :: a2 :: a3 :: a4 :: a5 :: some v :: r9) st A) := x_rgt (op := o_astore 6 2) rfl rfl
theorem x_33_26  : exG TB d 33 26 L (.ref p :: st) A = ki (aln (ga A p)) d 33 27 L st A := x_bd (op := o_alen) rfl rfl (fun _ => rfl)
theorem x_33_27  : exG TB d 33 27 (a0 :: a1 :: a2 :: a3 :: a4 :: a5 :: a6 :: a7 :: a8 :: r9) (.int i1 :: st) A = exG TB d 33 29 (a0 :: a1 :: a2 :: a3 :: a4 :: a5 :: a6 :: a7 :: some (.int i1) :: r9) st A := x_nx (op := o_istore 8 2) rfl rfl
theorem x_33_29  : exG TB d 33 29 (a0 :: a1 :: a2 :: a3 :: a4 :: a5 :: some v :: r9) st A = rg v (exG TB d 33 31 (a0 :: a1 :: a2 :: a3 :: a4 :: a5 :: some v :: r9) (v :: st) A) := x_rg (op := o_aload 6 2) rfl rfl
theorem x_33_31  : exG TB d 33 31 (a0 :: a1 :: a2 :: a3 :: a4 :: a5 :: a6 :: a7 :: some (.int i1) :: r9) st A = exG TB d 33 33 (a0 :: a1 :: a2 :: a3 :: a4 :: a5 :: a6 :: a7 :: some (.int i1) :: r9) (.int i1 :: st) A := x_nx (op := o_iload 8 2) rfl rfl
theorem x_33_33  : exG TB d 33 33 L st A = exG TB d 33 34 L (.int (nI 1) :: st) A := x_nx (op := o_push 1 (.int 1)) rfl rfl
theorem x_33_34  : exG TB d 33 34 L (.int i2 :: .int i1 :: st) A = exG TB d 33 35 L (.int (i1 - i2) :: st) A := x_nx (op := o_iop (fun x y => x - y)) rfl rfl
theorem x_33_35  : exG TB d 33 35 (a0 :: some (.int i1) :: r9) st A = exG TB d 33 36 (a0 :: some (.int i1) :: r9) (.int i1 :: st) A := x_nx (op := o_iload 1 1) rfl rfl
theorem x_33_36  : exG TB d 33 36 L (.int i2 :: .int i1 :: st) A = exG TB d 33 37 L (.int (i1 &&& i2) :: st) A := x_nx (op := o_iop (fun x y => x &&& y)) rfl rfl
theorem x_33_37  : exG TB d 33 37 L (v :: st) A = ck (c1 v) (exG TB d 33 38 L (v :: v :: st) A) := x_gd (op := o_dup) rfl rfl
theorem x_33_38  : exG TB d 33 38 (a0 :: a1 :: a2 :: a3 :: a4 :: a5 :: a6 :: a7 :: a8 :: a9 :: r9) (.int i1 :: st) A = exG TB d 33 40 (a0 :: a1 :: a2 :: a3 :: a4 :: a5 :: a6 :: a7 :: a8 :: some (.int i1) :: r9) st A := x_nx (op := o_istore 9 2) rfl rfl
theorem x_33_40  : exG TB d 33 40 L (.int i1 :: .ref p :: st) A = kq (rdQ (ga A p) i1) d 33 41 L st A := x_bd (op := o_rdQ) rfl rfl (fun _ => rfl)
theorem x_33_41  : exG TB d 33 41 L (v :: st) A = ck (c1 v) (exG TB d 33 42 L (v :: v :: st) A) := x_gd (op := o_dup) rfl rfl
theorem x_33_42  : exG TB d 33 42 (a0 :: a1 :: a2 :: a3 :: a4 :: a5 :: a6 :: a7 :: r9) (v :: st) A = rg v (exG TB d 33 44 (a0 :: a1 :: a2 :: a3 :: a4 :: a5 :: a6 :: some v :: r9) st A) := x_rgt (op := o_astore 7 2) rfl rfl
theorem x_33_44n  : exG TB d 33 44 L (.null :: st) A = exG TB d 33 47 L st A := x_nx (op := o_ifnonnull 63) rfl rfl
theorem x_33_44r  : exG TB d 33 44 L (.ref p :: st) A = exG TB d 33 63 L st A := x_nx (op := o_ifnonnull 63) rfl rfl
theorem x_33_47  : exG TB d 33 47 (a0 :: a1 :: a2 :: a3 :: a4 :: a5 :: some v :: r9) st A = rg v (exG TB d 33 49 (a0 :: a1 :: a2 :: a3 :: a4 :: a5 :: some v :: r9) (v :: st) A) := x_rg (op := o_aload 6 2) rfl rfl
theorem x_33_49  : exG TB d 33 49 (a0 :: a1 :: a2 :: a3 :: a4 :: a5 :: a6 :: a7 :: a8 :: some (.int i1) :: r9) st A = exG TB d 33 51 (a0 :: a1 :: a2 :: a3 :: a4 :: a5 :: a6 :: a7 :: a8 :: some (.int i1) :: r9) (.int i1 :: st) A := x_nx (op := o_iload 9 2) rfl rfl
theorem x_33_51  : exG TB d 33 51 (some v :: r9) st A = rg v (exG TB d 33 52 (some v :: r9) (v :: st) A) := x_rg (op := o_aload 0 1) rfl rfl
theorem x_33_52  : exG TB d 33 52 (a0 :: some (.int i1) :: r9) st A = exG TB d 33 53 (a0 :: some (.int i1) :: r9) (.int i1 :: st) A := x_nx (op := o_iload 1 1) rfl rfl
theorem x_33_53  : exG TB d 33 53 (a0 :: a1 :: some v :: r9) st A = rg v (exG TB d 33 54 (a0 :: a1 :: some v :: r9) (v :: st) A) := x_rg (op := o_aload 2 1) rfl rfl
theorem x_33_54  : exG TB d 33 54 (a0 :: a1 :: a2 :: some v :: r9) st A = rg v (exG TB d 33 55 (a0 :: a1 :: a2 :: some v :: r9) (v :: st) A) := x_rg (op := o_aload 3 1) rfl rfl
theorem x_33_55  : exG TB d 33 55 L st A = exG TB d 33 56 L (.null :: st) A := x_nx (op := o_push 1 .null) rfl rfl
theorem x_33_56  : exG TB d 33 56 L [b3, b2, b1, b0, .ref p, w0, w1] A = kw (sel (gc A p) [(6, 35)]) [.ref p, b0, b1, b2, b3] d 33 59 L [w0, w1] A := x_cvb (op := o_cv [(6, 35)] 4 3 false none) rfl rfl x_noh rfl
theorem x_33_59r  : exG TB d 33 59 L (.ref q :: .int i1 :: .ref p :: st) A = ck (atag (ga A p) 9 && okq A [28] (.ref q)) (ka (wrQ (ga A p) i1 (some q)) p d 33 60 L st A) := x_gb (op := o_wrQ 9 [28]) rfl rfl (fun _ => rfl)
theorem x_33_59n  : exG TB d 33 59 L (.null :: .int i1 :: .ref p :: st) A = ck (atag (ga A p) 9 && okq A [28] (.null)) (ka (wrQ (ga A p) i1 none) p d 33 60 L st A) := x_gb (op := o_wrQ 9 [28]) rfl rfl (fun _ => rfl)
theorem x_33_60  : exG TB d 33 60 L st A = exG TB d 33 259 L st A := x_nx (op := o_goto 259) rfl rfl
theorem x_33_63  : exG TB d 33 63 (a0 :: a1 :: a2 :: a3 :: a4 :: a5 :: a6 :: some v :: r9) st A = rg v (exG TB d 33 65 (a0 :: a1 :: a2 :: a3 :: a4 :: a5 :: a6 :: some v :: r9) (v :: st) A) := x_rg (op := o_aload 7 2) rfl rfl
theorem x_33_65  : exG TB d 33 65 L (.ref p :: st) A = kv (gf A p 143) d 33 68 L st A := x_bd (op := o_get 143) rfl rfl (fun _ => rfl)
theorem x_33_68  : exG TB d 33 68 (a0 :: some (.int i1) :: r9) st A = exG TB d 33 69 (a0 :: some (.int i1) :: r9) (.int i1 :: st) A := x_nx (op := o_iload 1 1) rfl rfl
theorem x_33_69  : exG TB d 33 69 L (.int i2 :: .int i1 :: st) A = if ¬ i1 = i2 then exG TB d 33 104 L st A else exG TB d 33 72 L st A := x_if (op := o_icmp (fun x y => decide (¬ x = y)) 104) rfl rfl rfl
theorem x_33_72  : exG TB d 33 72 (a0 :: a1 :: a2 :: a3 :: a4 :: a5 :: a6 :: some v :: r9) st A = rg v (exG TB d 33 74 (a0 :: a1 :: a2 :: a3 :: a4 :: a5 :: a6 :: some v :: r9) (v :: st) A) := x_rg (op := o_aload 7 2) rfl rfl
theorem x_33_74  : exG TB d 33 74 L (.ref p :: st) A = kv (gf A p 144) d 33 77 L st A := x_bd (op := o_get 144) rfl rfl (fun _ => rfl)
theorem x_33_77  : exG TB d 33 77 L (v :: st) A = ck (c1 v) (exG TB d 33 78 L (v :: v :: st) A) := x_gd (op := o_dup) rfl rfl
theorem x_33_78  : exG TB d 33 78 (a0 :: a1 :: a2 :: a3 :: a4 :: a5 :: a6 :: a7 :: a8 :: a9 :: a10 :: a11 :: r9) (v :: st) A = rg v (exG TB d 33 80 (a0 :: a1 :: a2 :: a3 :: a4 :: a5 :: a6 :: a7 :: a8 :: a9 :: a10 :: some v :: r9) st A) := x_rgt (op := o_astore 11 2) rfl rfl
theorem x_33_80  : exG TB d 33 80 (a0 :: a1 :: some v :: r9) st A = rg v (exG TB d 33 81 (a0 :: a1 :: some v :: r9) (v :: st) A) := x_rg (op := o_aload 2 1) rfl rfl
theorem x_33_81  : exG TB d 33 81 L (.ref q :: .ref p :: st) A = if p = q then exG TB d 33 97 L st A else exG TB d 33 84 L st A := x_if (op := o_acmp true 97) rfl (ac_t p q) rfl
theorem x_33_81rn  : exG TB d 33 81 L (.null :: .ref p :: st) A = exG TB d 33 84 L st A := x_nx (op := o_acmp true 97) rfl rfl
theorem x_33_81nr  : exG TB d 33 81 L (.ref p :: .null :: st) A = exG TB d 33 84 L st A := x_nx (op := o_acmp true 97) rfl rfl
theorem x_33_81nn  : exG TB d 33 81 L (.null :: .null :: st) A = exG TB d 33 97 L st A := x_nx (op := o_acmp true 97) rfl rfl
theorem x_33_84  : exG TB d 33 84 (a0 :: a1 :: some v :: r9) st A = rg v (exG TB d 33 85 (a0 :: a1 :: some v :: r9) (v :: st) A) := x_rg (op := o_aload 2 1) rfl rfl
theorem x_33_85n  : exG TB d 33 85 L (.null :: st) A = exG TB d 33 104 L st A := x_nx (op := o_ifnull 104) rfl rfl
theorem x_33_85r  : exG TB d 33 85 L (.ref p :: st) A = exG TB d 33 88 L st A := x_nx (op := o_ifnull 104) rfl rfl
theorem x_33_88  : exG TB d 33 88 (a0 :: a1 :: some v :: r9) st A = rg v (exG TB d 33 89 (a0 :: a1 :: some v :: r9) (v :: st) A) := x_rg (op := o_aload 2 1) rfl rfl
theorem x_33_89  : exG TB d 33 89 (a0 :: a1 :: a2 :: a3 :: a4 :: a5 :: a6 :: a7 :: a8 :: a9 :: a10 :: some v :: r9) st A = rg v (exG TB d 33 91 (a0 :: a1 :: a2 :: a3 :: a4 :: a5 :: a6 :: a7 :: a8 :: a9 :: a10 :: some v :: r9) (v :: st) A) := x_rg (op := o_aload 11 2) rfl rfl
theorem x_33_91  : exG TB d 33 91 L [b0, .ref p] A = kw (sel (gc A p) [(8, 281)]) [.ref p, b0] d 33 94 L [] A := x_cvb (op := o_cv [(8, 281)] 1 3 false none) rfl rfl x_noh rfl
theorem x_33_94  : exG TB d 33 94 L (.int i1 :: st) A = if i1 = nI 0 then exG TB d 33 104 L st A else exG TB d 33 97 L st A := x_if (op := o_if (fun x => decide (x = 0)) 104) rfl rfl rfl
theorem x_33_97  : exG TB d 33 97 (a0 :: a1 :: a2 :: a3 :: a4 :: a5 :: a6 :: some v :: r9) st A = rg v (exG TB d 33 99 (a0 :: a1 :: a2 :: a3 :: a4 :: a5 :: a6 :: some v :: r9) (v :: st) A) := x_rg (op := o_aload 7 2) rfl rfl
theorem x_33_99  : exG TB d 33 99 (a0 :: a1 :: a2 :: a3 :: a4 :: a5 :: a6 :: a7 :: a8 :: a9 :: a10 :: r9) (v :: st) A = rg v (exG TB d 33 101 (a0 :: a1 :: a2 :: a3 :: a4 :: a5 :: a6 :: a7 :: a8 :: a9 :: some v :: r9) st A) := x_rgt (op := o_astore 10 2) rfl rfl
theorem x_33_101  : exG TB d 33 101 L st A = exG TB d 33 222 L st A := x_nx (op := o_goto 222) rfl rfl
theorem x_33_104  : exG TB d 33 104 (a0 :: a1 :: a2 :: a3 :: a4 :: a5 :: a6 :: some v :: r9) st A = rg v (exG TB d 33 106 (a0 :: a1 :: a2 :: a3 :: a4 :: a5 :: a6 :: some v :: r9) (v :: st) A) := x_rg (op := o_aload 7 2) rfl rfl
theorem x_33_106n  : exG TB d 33 106 L (.null :: st) A = exG TB d 33 109 L (.int (nI 0) :: st) A := x_nx (op := o_inst [] [28]) rfl rfl
theorem x_33_106o (h8 : cin (gcs A p) [28] = true) : exG TB d 33 106 L (.ref p :: st) A = exG TB d 33 109 L (.int (nI 0) :: st) A := x_inN (l := []) (l0 := [28]) rfl (cin_nil _) h8
theorem x_33_109  : exG TB d 33 109 L (.int i1 :: st) A = if i1 = nI 0 then exG TB d 33 131 L st A else exG TB d 33 112 L st A := x_if (op := o_if (fun x => decide (x = 0)) 131) rfl rfl rfl
theorem x_33_112  : exG TB d 33 112 (a0 :: a1 :: a2 :: a3 :: a4 :: a5 :: a6 :: some v :: r9) st A = rg v (exG TB d 33 114 (a0 :: a1 :: a2 :: a3 :: a4 :: a5 :: a6 :: some v :: r9) (v :: st) A) := x_rg (op := o_aload 7 2) rfl rfl
theorem x_33_117  : exG TB d 33 117 (some v :: r9) st A = rg v (exG TB d 33 118 (some v :: r9) (v :: st) A) := x_rg (op := o_aload 0 1) rfl rfl
theorem x_33_118  : exG TB d 33 118 (a0 :: a1 :: a2 :: a3 :: a4 :: a5 :: some v :: r9) st A = rg v (exG TB d 33 120 (a0 :: a1 :: a2 :: a3 :: a4 :: a5 :: some v :: r9) (v :: st) A) := x_rg (op := o_aload 6 2) rfl rfl
theorem x_33_120  : exG TB d 33 120 (a0 :: some (.int i1) :: r9) st A = exG TB d 33 121 (a0 :: some (.int i1) :: r9) (.int i1 :: st) A := x_nx (op := o_iload 1 1) rfl rfl
theorem x_33_121  : exG TB d 33 121 (a0 :: a1 :: some v :: r9) st A = rg v (exG TB d 33 122 (a0 :: a1 :: some v :: r9) (v :: st) A) := x_rg (op := o_aload 2 1) rfl rfl
theorem x_33_122  : exG TB d 33 122 (a0 :: a1 :: a2 :: some v :: r9) st A = rg v (exG TB d 33 123 (a0 :: a1 :: a2 :: some v :: r9) (v :: st) A) := x_rg (op := o_aload 3 1) rfl rfl
theorem x_33_126  : exG TB d 33 126 (a0 :: a1 :: a2 :: a3 :: a4 :: a5 :: a6 :: a7 :: a8 :: a9 :: a10 :: r9) (v :: st) A = rg v (exG TB d 33 128 (a0 :: a1 :: a2 :: a3 :: a4 :: a5 :: a6 :: a7 :: a8 :: a9 :: some v :: r9) st A) := x_rgt (op := o_astore 10 2) rfl rfl
theorem x_33_128  : exG TB d 33 128 L st A = exG TB d 33 222 L st A := x_nx (op := o_goto 222) rfl rfl
theorem x_33_131  : exG TB d 33 131 L st A = exG TB d 33 132 L (.int (nI 0) :: st) A := x_nx (op := o_push 1 (.int 0)) rfl rfl
theorem x_33_132  : exG TB d 33 132 (a0 :: a1 :: a2 :: a3 :: a4 :: a5 :: a6 :: a7 :: a8 :: a9 :: a10 :: a11 :: a12 :: r9) (.int i1 :: st) A = exG TB d 33 134 (a0 :: a1 :: a2 :: a3 :: a4 :: a5 :: a6 :: a7 :: a8 :: a9 :: a10 :: a11 :: some (.int i1) :: r9) st A := x_nx (op := o_istore 12 2) rfl rfl
theorem x_33_134  : exG TB d 33 134 (a0 :: a1 :: a2 :: a3 :: a4 :: a5 :: a6 :: some v :: r9) st A = rg v (exG TB d 33 136 (a0 :: a1 :: a2 :: a3 :: a4 :: a5 :: a6 :: some v :: r9) (v :: st) A) := x_rg (op := o_aload 7 2) rfl rfl
theorem x_33_136  : exG TB d 33 136 L (.ref p :: st) A = kv (gf A p 146) d 33 139 L st A := x_bd (op := o_get 146) rfl rfl (fun _ => rfl)
theorem x_33_139  : exG TB d 33 139 L (v :: st) A = ck (c1 v) (exG TB d 33 140 L (v :: v :: st) A) := x_gd (op := o_dup) rfl rfl
theorem x_33_140  : exG TB d 33 140 (a0 :: a1 :: a2 :: a3 :: a4 :: a5 :: a6 :: a7 :: a8 :: a9 :: a10 :: r9) (v :: st) A = rg v (exG TB d 33 142 (a0 :: a1 :: a2 :: a3 :: a4 :: a5 :: a6 :: a7 :: a8 :: a9 :: some v :: r9) st A) := x_rgt (op := o_astore 10 2) rfl rfl
theorem x_33_142n  : exG TB d 33 142 L (.null :: st) A = exG TB d 33 145 L st A := x_nx (op := o_ifnonnull 175) rfl rfl
theorem x_33_142r  : exG TB d 33 142 L (.ref p :: st) A = exG TB d 33 175 L st A := x_nx (op := o_ifnonnull 175) rfl rfl
theorem x_33_145  : exG TB d 33 145 (a0 :: a1 :: a2 :: a3 :: a4 :: a5 :: a6 :: some v :: r9) st A = rg v (exG TB d 33 147 (a0 :: a1 :: a2 :: a3 :: a4 :: a5 :: a6 :: some v :: r9) (v :: st) A) := x_rg (op := o_aload 7 2) rfl rfl
theorem x_33_147  : exG TB d 33 147 (some v :: r9) st A = rg v (exG TB d 33 148 (some v :: r9) (v :: st) A) := x_rg (op := o_aload 0 1) rfl rfl
theorem x_33_148  : exG TB d 33 148 (a0 :: some (.int i1) :: r9) st A = exG TB d 33 149 (a0 :: some (.int i1) :: r9) (.int i1 :: st) A := x_nx (op := o_iload 1 1) rfl rfl
theorem x_33_149  : exG TB d 33 149 (a0 :: a1 :: some v :: r9) st A = rg v (exG TB d 33 150 (a0 :: a1 :: some v :: r9) (v :: st) A) := x_rg (op := o_aload 2 1) rfl rfl
theorem x_33_150  : exG TB d 33 150 (a0 :: a1 :: a2 :: some v :: r9) st A = rg v (exG TB d 33 151 (a0 :: a1 :: a2 :: some v :: r9) (v :: st) A) := x_rg (op := o_aload 3 1) rfl rfl
theorem x_33_151  : exG TB d 33 151 L st A = exG TB d 33 152 L (.null :: st) A := x_nx (op := o_push 1 .null) rfl rfl
theorem x_33_152  : exG TB d 33 152 L [b3, b2, b1, b0, .ref p, w0] A = kw (sel (gc A p) [(6, 35)]) [.ref p, b0, b1, b2, b3] d 33 155 L [w0] A := x_cvb (op := o_cv [(6, 35)] 4 3 false none) rfl rfl x_noh rfl
theorem x_33_155  : exG TB d 33 155 L (v :: .ref p :: st) A = ck ((gf A p 146).isSome && okv 0 v) (exG TB d 33 158 L st (setf A p 146 v)) := x_gd (op := o_put 146 0) rfl rfl
theorem x_33_158  : exG TB d 33 158 (a0 :: a1 :: a2 :: a3 :: a4 :: a5 :: a6 :: a7 :: a8 :: a9 :: a10 :: a11 :: some (.int i1) :: r9) st A = exG TB d 33 160 (a0 :: a1 :: a2 :: a3 :: a4 :: a5 :: a6 :: a7 :: a8 :: a9 :: a10 :: a11 :: some (.int i1) :: r9) (.int i1 :: st) A := x_nx (op := o_iload 12 2) rfl rfl
theorem x_33_160  : exG TB d 33 160 L st A = exG TB d 33 162 L (.int (nI 7) :: st) A := x_nx (op := o_push 2 (.int 7)) rfl rfl
theorem x_33_162  : exG TB d 33 162 L (.int i2 :: .int i1 :: st) A = if i1 < i2 then exG TB d 33 222 L st A else exG TB d 33 165 L st A := x_if (op := o_icmp (fun x y => decide (x < y)) 222) rfl rfl rfl
theorem x_33_165  : exG TB d 33 165 (some v :: r9) st A = rg v (exG TB d 33 166 (some v :: r9) (v :: st) A) := x_rg (op := o_aload 0 1) rfl rfl
theorem x_33_166  : exG TB d 33 166 (a0 :: a1 :: a2 :: a3 :: a4 :: a5 :: some v :: r9) st A = rg v (exG TB d 33 168 (a0 :: a1 :: a2 :: a3 :: a4 :: a5 :: some v :: r9) (v :: st) A) := x_rg (op := o_aload 6 2) rfl rfl
theorem x_33_168  : exG TB d 33 168 (a0 :: some (.int i1) :: r9) st A = exG TB d 33 169 (a0 :: some (.int i1) :: r9) (.int i1 :: st) A := x_nx (op := o_iload 1 1) rfl rfl
theorem x_33_172  : exG TB d 33 172 L st A = exG TB d 33 222 L st A := x_nx (op := o_goto 222) rfl rfl
theorem x_33_175  : exG TB d 33 175 (a0 :: a1 :: a2 :: a3 :: a4 :: a5 :: a6 :: a7 :: a8 :: a9 :: some v :: r9) st A = rg v (exG TB d 33 177 (a0 :: a1 :: a2 :: a3 :: a4 :: a5 :: a6 :: a7 :: a8 :: a9 :: some v :: r9) (v :: st) A) := x_rg (op := o_aload 10 2) rfl rfl
theorem x_33_177  : exG TB d 33 177 L (.ref p :: st) A = kv (gf A p 143) d 33 180 L st A := x_bd (op := o_get 143) rfl rfl (fun _ => rfl)
theorem x_33_180  : exG TB d 33 180 (a0 :: some (.int i1) :: r9) st A = exG TB d 33 181 (a0 :: some (.int i1) :: r9) (.int i1 :: st) A := x_nx (op := o_iload 1 1) rfl rfl
theorem x_33_181  : exG TB d 33 181 L (.int i2 :: .int i1 :: st) A = if ¬ i1 = i2 then exG TB d 33 212 L st A else exG TB d 33 184 L st A := x_if (op := o_icmp (fun x y => decide (¬ x = y)) 212) rfl rfl rfl
theorem x_33_184  : exG TB d 33 184 (a0 :: a1 :: a2 :: a3 :: a4 :: a5 :: a6 :: a7 :: a8 :: a9 :: some v :: r9) st A = rg v (exG TB d 33 186 (a0 :: a1 :: a2 :: a3 :: a4 :: a5 :: a6 :: a7 :: a8 :: a9 :: some v :: r9) (v :: st) A) := x_rg (op := o_aload 10 2) rfl rfl
theorem x_33_186  : exG TB d 33 186 L (.ref p :: st) A = kv (gf A p 144) d 33 189 L st A := x_bd (op := o_get 144) rfl rfl (fun _ => rfl)
theorem x_33_189  : exG TB d 33 189 L (v :: st) A = ck (c1 v) (exG TB d 33 190 L (v :: v :: st) A) := x_gd (op := o_dup) rfl rfl
theorem x_33_190  : exG TB d 33 190 (a0 :: a1 :: a2 :: a3 :: a4 :: a5 :: a6 :: a7 :: a8 :: a9 :: a10 :: a11 :: r9) (v :: st) A = rg v (exG TB d 33 192 (a0 :: a1 :: a2 :: a3 :: a4 :: a5 :: a6 :: a7 :: a8 :: a9 :: a10 :: some v :: r9) st A) := x_rgt (op := o_astore 11 2) rfl rfl
theorem x_33_192  : exG TB d 33 192 (a0 :: a1 :: some v :: r9) st A = rg v (exG TB d 33 193 (a0 :: a1 :: some v :: r9) (v :: st) A) := x_rg (op := o_aload 2 1) rfl rfl
theorem x_33_193  : exG TB d 33 193 L (.ref q :: .ref p :: st) A = if p = q then exG TB d 33 222 L st A else exG TB d 33 196 L st A := x_if (op := o_acmp true 222) rfl (ac_t p q) rfl
theorem x_33_193rn  : exG TB d 33 193 L (.null :: .ref p :: st) A = exG TB d 33 196 L st A := x_nx (op := o_acmp true 222) rfl rfl
theorem x_33_193nr  : exG TB d 33 193 L (.ref p :: .null :: st) A = exG TB d 33 196 L st A := x_nx (op := o_acmp true 222) rfl rfl
theorem x_33_193nn  : exG TB d 33 193 L (.null :: .null :: st) A = exG TB d 33 222 L st A := x_nx (op := o_acmp true 222) rfl rfl
theorem x_33_196  : exG TB d 33 196 (a0 :: a1 :: some v :: r9) st A = rg v (exG TB d 33 197 (a0 :: a1 :: some v :: r9) (v :: st) A) := x_rg (op := o_aload 2 1) rfl rfl
theorem x_33_197n  : exG TB d 33 197 L (.null :: st) A = exG TB d 33 212 L st A := x_nx (op := o_ifnull 212) rfl rfl
theorem x_33_197r  : exG TB d 33 197 L (.ref p :: st) A = exG TB d 33 200 L st A := x_nx (op := o_ifnull 212) rfl rfl
theorem x_33_200  : exG TB d 33 200 (a0 :: a1 :: some v :: r9) st A = rg v (exG TB d 33 201 (a0 :: a1 :: some v :: r9) (v :: st) A) := x_rg (op := o_aload 2 1) rfl rfl
theorem x_33_201  : exG TB d 33 201 (a0 :: a1 :: a2 :: a3 :: a4 :: a5 :: a6 :: a7 :: a8 :: a9 :: a10 :: some v :: r9) st A = rg v (exG TB d 33 203 (a0 :: a1 :: a2 :: a3 :: a4 :: a5 :: a6 :: a7 :: a8 :: a9 :: a10 :: some v :: r9) (v :: st) A) := x_rg (op := o_aload 11 2) rfl rfl
theorem x_33_203  : exG TB d 33 203 L [b0, .ref p] A = kw (sel (gc A p) [(8, 281)]) [.ref p, b0] d 33 206 L [] A := x_cvb (op := o_cv [(8, 281)] 1 3 false none) rfl rfl x_noh rfl
theorem x_33_206  : exG TB d 33 206 L (.int i1 :: st) A = if i1 = nI 0 then exG TB d 33 212 L st A else exG TB d 33 209 L st A := x_if (op := o_if (fun x => decide (x = 0)) 212) rfl rfl rfl
theorem x_33_209  : exG TB d 33 209 L st A = exG TB d 33 222 L st A := x_nx (op := o_goto 222) rfl rfl
theorem x_33_212  : exG TB d 33 212 (a0 :: a1 :: a2 :: a3 :: a4 :: a5 :: a6 :: a7 :: a8 :: a9 :: some v :: r9) st A = rg v (exG TB d 33 214 (a0 :: a1 :: a2 :: a3 :: a4 :: a5 :: a6 :: a7 :: a8 :: a9 :: some v :: r9) (v :: st) A) := x_rg (op := o_aload 10 2) rfl rfl
theorem x_33_214  : exG TB d 33 214 (a0 :: a1 :: a2 :: a3 :: a4 :: a5 :: a6 :: a7 :: r9) (v :: st) A = rg v (exG TB d 33 216 (a0 :: a1 :: a2 :: a3 :: a4 :: a5 :: a6 :: some v :: r9) st A) := x_rgt (op := o_astore 7 2) rfl rfl
theorem x_33_216  : exG TB d 33 216 (a0 :: a1 :: a2 :: a3 :: a4 :: a5 :: a6 :: a7 :: a8 :: a9 :: a10 :: a11 :: some (.int i1) :: r9) st A = exG TB d 33 219 (a0 :: a1 :: a2 :: a3 :: a4 :: a5 :: a6 :: a7 :: a8 :: a9 :: a10 :: a11 :: some (.int (i1 + (nI 1))) :: r9) st A := x_nx (op := o_iinc 12 1) rfl rfl
theorem x_33_219  : exG TB d 33 219 L st A = exG TB d 33 134 L st A := x_nx (op := o_goto 134) rfl rfl
theorem x_33_222  : exG TB d 33 222 (a0 :: a1 :: a2 :: a3 :: a4 :: a5 :: a6 :: a7 :: a8 :: a9 :: some v :: r9) st A = rg v (exG TB d 33 224 (a0 :: a1 :: a2 :: a3 :: a4 :: a5 :: a6 :: a7 :: a8 :: a9 :: some v :: r9) (v :: st) A) := x_rg (op := o_aload 10 2) rfl rfl
theorem x_33_224n  : exG TB d 33 224 L (.null :: st) A = exG TB d 33 259 L st A := x_nx (op := o_ifnull 259) rfl rfl
theorem x_33_224r  : exG TB d 33 224 L (.ref p :: st) A = exG TB d 33 227 L st A := x_nx (op := o_ifnull 259) rfl rfl
theorem x_33_227  : exG TB d 33 227 (a0 :: a1 :: a2 :: a3 :: a4 :: a5 :: a6 :: a7 :: a8 :: a9 :: some v :: r9) st A = rg v (exG TB d 33 229 (a0 :: a1 :: a2 :: a3 :: a4 :: a5 :: a6 :: a7 :: a8 :: a9 :: some v :: r9) (v :: st) A) := x_rg (op := o_aload 10 2) rfl rfl
theorem x_33_229  : exG TB d 33 229 L (.ref p :: st) A = kv (gf A p 145) d 33 232 L st A := x_bd (op := o_get 145) rfl rfl (fun _ => rfl)
theorem x_33_232  : exG TB d 33 232 (a0 :: a1 :: a2 :: a3 :: a4 :: a5 :: a6 :: a7 :: a8 :: a9 :: a10 :: a11 :: a12 :: r9) (v :: st) A = rg v (exG TB d 33 234 (a0 :: a1 :: a2 :: a3 :: a4 :: a5 :: a6 :: a7 :: a8 :: a9 :: a10 :: a11 :: some v :: r9) st A) := x_rgt (op := o_astore 12 2) rfl rfl
theorem x_33_234  : exG TB d 33 234 (a0 :: a1 :: a2 :: a3 :: some (.int i1) :: r9) st A = exG TB d 33 236 (a0 :: a1 :: a2 :: a3 :: some (.int i1) :: r9) (.int i1 :: st) A := x_nx (op := o_iload 4 2) rfl rfl
theorem x_33_236  : exG TB d 33 236 L (.int i1 :: st) A = if i1 = nI 0 then exG TB d 33 244 L st A else exG TB d 33 239 L st A := x_if (op := o_if (fun x => decide (x = 0)) 244) rfl rfl rfl
theorem x_33_239  : exG TB d 33 239 (a0 :: a1 :: a2 :: a3 :: a4 :: a5 :: a6 :: a7 :: a8 :: a9 :: a10 :: a11 :: some v :: r9) st A = rg v (exG TB d 33 241 (a0 :: a1 :: a2 :: a3 :: a4 :: a5 :: a6 :: a7 :: a8 :: a9 :: a10 :: a11 :: some v :: r9) (v :: st) A) := x_rg (op := o_aload 12 2) rfl rfl
theorem x_33_241n  : exG TB d 33 241 L (.null :: st) A = exG TB d 33 244 L st A := x_nx (op := o_ifnonnull 250) rfl rfl
theorem x_33_241r  : exG TB d 33 241 L (.ref p :: st) A = exG TB d 33 250 L st A := x_nx (op := o_ifnonnull 250) rfl rfl
theorem x_33_244  : exG TB d 33 244 (a0 :: a1 :: a2 :: a3 :: a4 :: a5 :: a6 :: a7 :: a8 :: a9 :: some v :: r9) st A = rg v (exG TB d 33 246 (a0 :: a1 :: a2 :: a3 :: a4 :: a5 :: a6 :: a7 :: a8 :: a9 :: some v :: r9) (v :: st) A) := x_rg (op := o_aload 10 2) rfl rfl
theorem x_33_246  : exG TB d 33 246 (a0 :: a1 :: a2 :: some v :: r9) st A = rg v (exG TB d 33 247 (a0 :: a1 :: a2 :: some v :: r9) (v :: st) A) := x_rg (op := o_aload 3 1) rfl rfl
theorem x_33_247  : exG TB d 33 247 L (v :: .ref p :: st) A = ck ((gf A p 145).isSome && okv 0 v) (exG TB d 33 250 L st (setf A p 145 v)) := x_gd (op := o_put 145 0) rfl rfl
theorem x_33_250  : exG TB d 33 250 (some v :: r9) st A = rg v (exG TB d 33 251 (some v :: r9) (v :: st) A) := x_rg (op := o_aload 0 1) rfl rfl
theorem x_33_251  : exG TB d 33 251 (a0 :: a1 :: a2 :: a3 :: a4 :: a5 :: a6 :: a7 :: a8 :: a9 :: some v :: r9) st A = rg v (exG TB d 33 253 (a0 :: a1 :: a2 :: a3 :: a4 :: a5 :: a6 :: a7 :: a8 :: a9 :: some v :: r9) (v :: st) A) := x_rg (op := o_aload 10 2) rfl rfl
theorem x_33_253  : exG TB d 33 253 L [b0, .ref p] A = kw0 (sel (gc A p) [(6, 36)]) [.ref p, b0] d 33 256 L [] A := x_c0b (op := o_cv [(6, 36)] 1 3 true none) rfl rfl x_noh rfl
theorem x_33_256  : exG TB d 33 256 (a0 :: a1 :: a2 :: a3 :: a4 :: a5 :: a6 :: a7 :: a8 :: a9 :: a10 :: a11 :: some v :: r9) st A = rg v (exG TB d 33 258 (a0 :: a1 :: a2 :: a3 :: a4 :: a5 :: a6 :: a7 :: a8 :: a9 :: a10 :: a11 :: some v :: r9) (v :: st) A) := x_rg (op := o_aload 12 2) rfl rfl
theorem x_33_258  : exG TB d 33 258 L [v] A = ck (okv 0 v) (some (.inl (some v), A)) := x_outg (op := o_ret 0) rfl rfl
theorem x_33_259  : exG TB d 33 259 (some v :: r9) st A = rg v (exG TB d 33 260 (some v :: r9) (v :: st) A) := x_rg (op := o_aload 0 1) rfl rfl
theorem x_33_260  : exG TB d 33 260 L (v :: st) A = ck (c1 v) (exG TB d 33 261 L (v :: v :: st) A) := x_gd (op := o_dup) rfl rfl
theorem x_33_261  : exG TB d 33 261 L (.ref p :: st) A = kv (gf A p 34) d 33 264 L st A := x_bd (op := o_get 34) rfl rfl (fun _ => rfl)
theorem x_33_264  : exG TB d 33 264 L st A = exG TB d 33 265 L (.int (nI 1) :: st) A := x_nx (op := o_push 1 (.int 1)) rfl rfl
theorem x_33_265  : exG TB d 33 265 L (.int i2 :: .int i1 :: st) A = exG TB d 33 266 L (.int (i1 + i2) :: st) A := x_nx (op := o_iop (fun x y => x + y)) rfl rfl
theorem x_33_266  : exG TB d 33 266 L (v :: .ref p :: st) A = ck ((gf A p 34).isSome && okv 1 v) (exG TB d 33 269 L st (setf A p 34 v)) := x_gd (op := o_put 34 1) rfl rfl
theorem x_33_269  : exG TB d 33 269 (some v :: r9) st A = rg v (exG TB d 33 270 (some v :: r9) (v :: st) A) := x_rg (op := o_aload 0 1) rfl rfl
theorem x_33_270  : exG TB d 33 270 L (v :: st) A = ck (c1 v) (exG TB d 33 271 L (v :: v :: st) A) := x_gd (op := o_dup) rfl rfl
theorem x_33_271  : exG TB d 33 271 L (.ref p :: st) A = kv (gf A p 33) d 33 274 L st A := x_bd (op := o_get 33) rfl rfl (fun _ => rfl)
theorem x_33_274  : exG TB d 33 274 L st A = exG TB d 33 275 L (.int (nI 1) :: st) A := x_nx (op := o_push 1 (.int 1)) rfl rfl
theorem x_33_275  : exG TB d 33 275 L (.int i2 :: .int i1 :: st) A = exG TB d 33 276 L (.int (i1 + i2) :: st) A := x_nx (op := o_iop (fun x y => x + y)) rfl rfl
theorem x_33_276  : exG TB d 33 276 L (v :: v2 :: st) A = ck (c1 v && c1 v2) (exG TB d 33 277 L (v :: v2 :: v :: st) A) := x_gd (op := o_dupx1) rfl rfl
theorem x_33_277  : exG TB d 33 277 L (v :: .ref p :: st) A = ck ((gf A p 33).isSome && okv 1 v) (exG TB d 33 280 L st (setf A p 33 v)) := x_gd (op := o_put 33 1) rfl rfl
theorem x_33_280  : exG TB d 33 280 (some v :: r9) st A = rg v (exG TB d 33 281 (some v :: r9) (v :: st) A) := x_rg (op := o_aload 0 1) rfl rfl
theorem x_33_281  : exG TB d 33 281 L (.ref p :: st) A = kv (gf A p 35) d 33 284 L st A := x_bd (op := o_get 35) rfl rfl (fun _ => rfl)
theorem x_33_284  : exG TB d 33 284 L (.int i2 :: .int i1 :: st) A = if i1 ≤ i2 then exG TB d 33 292 L st A else exG TB d 33 287 L st A := x_if (op := o_icmp (fun x y => decide (x ≤ y)) 292) rfl rfl rfl
theorem x_33_287  : exG TB d 33 287 (some v :: r9) st A = rg v (exG TB d 33 288 (some v :: r9) (v :: st) A) := x_rg (op := o_aload 0 1) rfl rfl
theorem x_33_288  : exG TB d 33 288 L [.ref p] A = kw (sel (gc A p) [(6, 34)]) [.ref p] d 33 291 L [] A := x_cvb (op := o_cv [(6, 34)] 0 3 false none) rfl rfl x_noh rfl
theorem x_33_291  : exG TB d 33 291 L (v :: st) A = ck (c1 v) (exG TB d 33 292 L st A) := x_gd (op := o_pop) rfl rfl
theorem x_33_292  : exG TB d 33 292 (some v :: r9) st A = rg v (exG TB d 33 293 (some v :: r9) (v :: st) A) := x_rg (op := o_aload 0 1) rfl rfl
theorem x_33_293  : exG TB d 33 293 (a0 :: a1 :: a2 :: a3 :: a4 :: some (.int i1) :: r9) st A = exG TB d 33 295 (a0 :: a1 :: a2 :: a3 :: a4 :: some (.int i1) :: r9) (.int i1 :: st) A := x_nx (op := o_iload 5 2) rfl rfl
theorem x_33_295  : exG TB d 33 295 L [b0, .ref p] A = kw0 (sel (gc A p) [(6, 37)]) [.ref p, b0] d 33 298 L [] A := x_c0b (op := o_cv [(6, 37)] 1 3 true none) rfl rfl x_noh rfl
theorem x_33_298  : exG TB d 33 298 L st A = exG TB d 33 299 L (.null :: st) A := x_nx (op := o_push 1 .null) rfl rfl
theorem x_33_299  : exG TB d 33 299 L [v] A = ck (okv 0 v) (some (.inl (some v), A)) := x_outg (op := o_ret 0) rfl rfl
theorem e_34  : evG TB (d + 1) 34 [.ref p] A = exG TB d 34 0 [some (.ref p), none, none, none, none, none, none, none, none, none, none, none, none, none] [] A := evG_eq TB d 34 _ A
theorem x_34_0  : exG TB d 34 0 (some v :: r9) st A = rg v (exG TB d 34 1 (some v :: r9) (v :: st) A) := x_rg (op := o_aload 0 1) rfl rfl
theorem x_34_1  : exG TB d 34 1 L (.ref p :: st) A = kv (gf A p 31) d 34 4 L st A := x_bd (op := o_get 31) rfl rfl (fun _ => rfl)
theorem x_34_4  : exG TB d 34 4 (a0 :: a1 :: r9) (v :: st) A = rg v (exG TB d 34 5 (a0 :: some v :: r9) st A) := x_rgt (op := o_astore 1 1) rfl rfl
theorem x_34_5  : exG TB d 34 5 (a0 :: some v :: r9) st A = rg v (exG TB d 34 6 (a0 :: some v :: r9) (v :: st) A) := x_rg (op := o_aload 1 1) rfl rfl
theorem x_34_6n  : exG TB d 34 6 L (.null :: st) A = exG TB d 34 9 L st A := x_nx (op := o_ifnonnull 13) rfl rfl
theorem x_34_6r  : exG TB d 34 6 L (.ref p :: st) A = exG TB d 34 13 L st A := x_nx (op := o_ifnonnull 13) rfl rfl
theorem x_34_9  : exG TB d 34 9 L st A = exG TB d 34 10 L (.int (nI 0) :: st) A := x_nx (op := o_push 1 (.int 0)) rfl rfl
theorem x_34_10  : exG TB d 34 10 L st A = exG TB d 34 15 L st A := x_nx (op := o_goto 15) rfl rfl
theorem x_34_13  : exG TB d 34 13 (a0 :: some v :: r9) st A = rg v (exG TB d 34 14 (a0 :: some v :: r9) (v :: st) A) := x_rg (op := o_aload 1 1) rfl rfl
theorem x_34_14  : exG TB d 34 14 L (.ref p :: st) A = ki (aln (ga A p)) d 34 15 L st A := x_bd (op := o_alen) rfl rfl (fun _ => rfl)
theorem x_34_15  : exG TB d 34 15 (a0 :: a1 :: a2 :: r9) (.int i1 :: st) A = exG TB d 34 16 (a0 :: a1 :: some (.int i1) :: r9) st A := x_nx (op := o_istore 2 1) rfl rfl
theorem x_34_16  : exG TB d 34 16 (some v :: r9) st A = rg v (exG TB d 34 17 (some v :: r9) (v :: st) A) := x_rg (op := o_aload 0 1) rfl rfl
theorem x_34_17  : exG TB d 34 17 L (.ref p :: st) A = kv (gf A p 35) d 34 20 L st A := x_bd (op := o_get 35) rfl rfl (fun _ => rfl)
theorem x_34_20  : exG TB d 34 20 (a0 :: a1 :: a2 :: a3 :: r9) (.int i1 :: st) A = exG TB d 34 21 (a0 :: a1 :: a2 :: some (.int i1) :: r9) st A := x_nx (op := o_istore 3 1) rfl rfl
theorem x_34_21  : exG TB d 34 21 L st A = exG TB d 34 22 L (.int (nI 0) :: st) A := x_nx (op := o_push 1 (.int 0)) rfl rfl
theorem x_34_22  : exG TB d 34 22 (a0 :: a1 :: a2 :: a3 :: a4 :: a5 :: r9) (.int i1 :: st) A = exG TB d 34 24 (a0 :: a1 :: a2 :: a3 :: a4 :: some (.int i1) :: r9) st A := x_nx (op := o_istore 5 2) rfl rfl
theorem x_34_24  : exG TB d 34 24 (a0 :: a1 :: some (.int i1) :: r9) st A = exG TB d 34 25 (a0 :: a1 :: some (.int i1) :: r9) (.int i1 :: st) A := x_nx (op := o_iload 2 1) rfl rfl
theorem x_34_25  : exG TB d 34 25 L (.int i1 :: st) A = if i1 ≤ nI 0 then exG TB d 34 67 L st A else exG TB d 34 28 L st A := x_if (op := o_if (fun x => decide (x ≤ 0)) 67) rfl rfl rfl
theorem x_34_28  : exG TB d 34 28 (a0 :: a1 :: some (.int i1) :: r9) st A = exG TB d 34 29 (a0 :: a1 :: some (.int i1) :: r9) (.int i1 :: st) A := x_nx (op := o_iload 2 1) rfl rfl
theorem x_34_29  : exG TB d 34 29 L st A = exG TB d 34 31 L (.int (nI 1073741824) :: st) A := x_nx (op := o_push 2 (.int 1073741824)) rfl rfl
theorem x_34_31  : exG TB d 34 31 L (.int i2 :: .int i1 :: st) A = if i1 < i2 then exG TB d 34 42 L st A else exG TB d 34 34 L st A := x_if (op := o_icmp (fun x y => decide (x < y)) 42) rfl rfl rfl
theorem x_34_34  : exG TB d 34 34 (some v :: r9) st A = rg v (exG TB d 34 35 (some v :: r9) (v :: st) A) := x_rg (op := o_aload 0 1) rfl rfl
theorem x_34_35  : exG TB d 34 35 L st A = exG TB d 34 37 L (.int (nI 2147483647) :: st) A := x_nx (op := o_push 2 (.int 2147483647)) rfl rfl
theorem x_34_37  : exG TB d 34 37 L (v :: .ref p :: st) A = ck ((gf A p 35).isSome && okv 1 v) (exG TB d 34 40 L st (setf A p 35 v)) := x_gd (op := o_put 35 1) rfl rfl
theorem x_34_40  : exG TB d 34 40 (a0 :: some v :: r9) st A = rg v (exG TB d 34 41 (a0 :: some v :: r9) (v :: st) A) := x_rg (op := o_aload 1 1) rfl rfl
theorem x_34_41  : exG TB d 34 41 L [v] A = ck (okv 0 v) (some (.inl (some v), A)) := x_outg (op := o_ret 0) rfl rfl
theorem x_34_42  : exG TB d 34 42 (a0 :: a1 :: some (.int i1) :: r9) st A = exG TB d 34 43 (a0 :: a1 :: some (.int i1) :: r9) (.int i1 :: st) A := x_nx (op := o_iload 2 1) rfl rfl
theorem x_34_43  : exG TB d 34 43 L st A = exG TB d 34 44 L (.int (nI 1) :: st) A := x_nx (op := o_push 1 (.int 1)) rfl rfl
theorem x_34_44  : exG TB d 34 44 L (.int i2 :: .int i1 :: st) A = exG TB d 34 45 L (.int (i1 <<< (i2 &&& 31)) :: st) A := x_nx (op := o_iop (fun x y => x <<< (y &&& 31))) rfl rfl
theorem x_34_45  : exG TB d 34 45 L (v :: st) A = ck (c1 v) (exG TB d 34 46 L (v :: v :: st) A) := x_gd (op := o_dup) rfl rfl
theorem x_34_46  : exG TB d 34 46 (a0 :: a1 :: a2 :: a3 :: a4 :: r9) (.int i1 :: st) A = exG TB d 34 48 (a0 :: a1 :: a2 :: a3 :: some (.int i1) :: r9) st A := x_nx (op := o_istore 4 2) rfl rfl
theorem x_34_48  : exG TB d 34 48 L st A = exG TB d 34 50 L (.int (nI 1073741824) :: st) A := x_nx (op := o_push 2 (.int 1073741824)) rfl rfl
theorem x_34_50  : exG TB d 34 50 L (.int i2 :: .int i1 :: st) A = if i2 ≤ i1 then exG TB d 34 85 L st A else exG TB d 34 53 L st A := x_if (op := o_icmp (fun x y => decide (y ≤ x)) 85) rfl rfl rfl
theorem x_34_53  : exG TB d 34 53 (a0 :: a1 :: some (.int i1) :: r9) st A = exG TB d 34 54 (a0 :: a1 :: some (.int i1) :: r9) (.int i1 :: st) A := x_nx (op := o_iload 2 1) rfl rfl
theorem x_34_54  : exG TB d 34 54 L st A = exG TB d 34 56 L (.int (nI 16) :: st) A := x_nx (op := o_push 2 (.int 16)) rfl rfl
theorem x_34_56  : exG TB d 34 56 L (.int i2 :: .int i1 :: st) A = if i1 < i2 then exG TB d 34 85 L st A else exG TB d 34 59 L st A := x_if (op := o_icmp (fun x y => decide (x < y)) 85) rfl rfl rfl
theorem x_34_59  : exG TB d 34 59 (a0 :: a1 :: a2 :: some (.int i1) :: r9) st A = exG TB d 34 60 (a0 :: a1 :: a2 :: some (.int i1) :: r9) (.int i1 :: st) A := x_nx (op := o_iload 3 1) rfl rfl
theorem x_34_60  : exG TB d 34 60 L st A = exG TB d 34 61 L (.int (nI 1) :: st) A := x_nx (op := o_push 1 (.int 1)) rfl rfl
theorem x_34_61  : exG TB d 34 61 L (.int i2 :: .int i1 :: st) A = exG TB d 34 62 L (.int (i1 <<< (i2 &&& 31)) :: st) A := x_nx (op := o_iop (fun x y => x <<< (y &&& 31))) rfl rfl
theorem x_34_62  : exG TB d 34 62 (a0 :: a1 :: a2 :: a3 :: a4 :: a5 :: r9) (.int i1 :: st) A = exG TB d 34 64 (a0 :: a1 :: a2 :: a3 :: a4 :: some (.int i1) :: r9) st A := x_nx (op := o_istore 5 2) rfl rfl
theorem x_34_64  : exG TB d 34 64 L st A = exG TB d 34 85 L st A := x_nx (op := o_goto 85) rfl rfl
theorem x_34_67  : exG TB d 34 67 (a0 :: a1 :: a2 :: some (.int i1) :: r9) st A = exG TB d 34 68 (a0 :: a1 :: a2 :: some (.int i1) :: r9) (.int i1 :: st) A := x_nx (op := o_iload 3 1) rfl rfl
theorem x_34_68  : exG TB d 34 68 L (.int i1 :: st) A = if i1 ≤ nI 0 then exG TB d 34 77 L st A else exG TB d 34 71 L st A := x_if (op := o_if (fun x => decide (x ≤ 0)) 77) rfl rfl rfl
theorem x_34_71  : exG TB d 34 71 (a0 :: a1 :: a2 :: some (.int i1) :: r9) st A = exG TB d 34 72 (a0 :: a1 :: a2 :: some (.int i1) :: r9) (.int i1 :: st) A := x_nx (op := o_iload 3 1) rfl rfl
theorem x_34_72  : exG TB d 34 72 (a0 :: a1 :: a2 :: a3 :: a4 :: r9) (.int i1 :: st) A = exG TB d 34 74 (a0 :: a1 :: a2 :: a3 :: some (.int i1) :: r9) st A := x_nx (op := o_istore 4 2) rfl rfl
theorem x_34_74  : exG TB d 34 74 L st A = exG TB d 34 85 L st A := x_nx (op := o_goto 85) rfl rfl
theorem x_34_77  : exG TB d 34 77 L st A = exG TB d 34 79 L (.int (nI 16) :: st) A := x_nx (op := o_push 2 (.int 16)) rfl rfl
theorem x_34_79  : exG TB d 34 79 (a0 :: a1 :: a2 :: a3 :: a4 :: r9) (.int i1 :: st) A = exG TB d 34 81 (a0 :: a1 :: a2 :: a3 :: some (.int i1) :: r9) st A := x_nx (op := o_istore 4 2) rfl rfl
theorem x_34_81  : exG TB d 34 81 L st A = exG TB d 34 83 L (.int (nI 12) :: st) A := x_nx (op := o_push 2 (.int 12)) rfl rfl
theorem x_34_83  : exG TB d 34 83 (a0 :: a1 :: a2 :: a3 :: a4 :: a5 :: r9) (.int i1 :: st) A = exG TB d 34 85 (a0 :: a1 :: a2 :: a3 :: a4 :: some (.int i1) :: r9) st A := x_nx (op := o_istore 5 2) rfl rfl
theorem x_34_85  : exG TB d 34 85 (a0 :: a1 :: a2 :: a3 :: a4 :: some (.int i1) :: r9) st A = exG TB d 34 87 (a0 :: a1 :: a2 :: a3 :: a4 :: some (.int i1) :: r9) (.int i1 :: st) A := x_nx (op := o_iload 5 2) rfl rfl
theorem x_34_87  : exG TB d 34 87 L (.int i1 :: st) A = if ¬ i1 = nI 0 then exG TB d 34 125 L st A else exG TB d 34 90 L st A := x_if (op := o_if (fun x => decide (¬ x = 0)) 125) rfl rfl rfl
theorem x_34_90  : exG TB d 34 90 (a0 :: a1 :: a2 :: a3 :: some (.int i1) :: r9) st A = exG TB d 34 92 (a0 :: a1 :: a2 :: a3 :: some (.int i1) :: r9) (.int i1 :: st) A := x_nx (op := o_iload 4 2) rfl rfl
theorem x_34_92  : exG TB d 34 92 L (.int i1 :: st) A = exG TB d 34 93 L (.float (FP.i2f i1) :: st) A := x_nx (op := o_i2f) rfl rfl
theorem x_34_93  : exG TB d 34 93 (some v :: r9) st A = rg v (exG TB d 34 94 (some v :: r9) (v :: st) A) := x_rg (op := o_aload 0 1) rfl rfl
theorem x_34_94  : exG TB d 34 94 L (.ref p :: st) A = kv (gf A p 36) d 34 97 L st A := x_bd (op := o_get 36) rfl rfl (fun _ => rfl)
theorem x_34_98  : exG TB d 34 98 (a0 :: a1 :: a2 :: a3 :: a4 :: a5 :: a6 :: r9) (.float f1 :: st) A = exG TB d 34 100 (a0 :: a1 :: a2 :: a3 :: a4 :: a5 :: some (.float f1) :: r9) st A := x_nx (op := o_fstore 6 2) rfl rfl
theorem x_34_100  : exG TB d 34 100 (a0 :: a1 :: a2 :: a3 :: some (.int i1) :: r9) st A = exG TB d 34 102 (a0 :: a1 :: a2 :: a3 :: some (.int i1) :: r9) (.int i1 :: st) A := x_nx (op := o_iload 4 2) rfl rfl
theorem x_34_102  : exG TB d 34 102 L st A = exG TB d 34 104 L (.int (nI 1073741824) :: st) A := x_nx (op := o_push 2 (.int 1073741824)) rfl rfl
theorem x_34_104  : exG TB d 34 104 L (.int i2 :: .int i1 :: st) A = if i2 ≤ i1 then exG TB d 34 121 L st A else exG TB d 34 107 L st A := x_if (op := o_icmp (fun x y => decide (y ≤ x)) 121) rfl rfl rfl
theorem x_34_107  : exG TB d 34 107 (a0 :: a1 :: a2 :: a3 :: a4 :: a5 :: some (.float f1) :: r9) st A = exG TB d 34 109 (a0 :: a1 :: a2 :: a3 :: a4 :: a5 :: some (.float f1) :: r9) (.float f1 :: st) A := x_nx (op := o_fload 6 2) rfl rfl
theorem x_34_109  : exG TB d 34 109 L st A = exG TB d 34 111 L (.float 1317011456 :: st) A := x_nx (op := o_push 2 (.float 1317011456)) rfl rfl
theorem x_34_111  : exG TB d 34 111 L (.float f2 :: .float f1 :: st) A = exG TB d 34 112 L (.int (Op.cmpValue (FP.fcmp f1 f2) .g) :: st) A := x_nx (op := o_fcmp .g) rfl rfl
theorem x_34_112  : exG TB d 34 112 L (.int i1 :: st) A = if nI 0 ≤ i1 then exG TB d 34 121 L st A else exG TB d 34 115 L st A := x_if (op := o_if (fun x => decide (0 ≤ x)) 121) rfl rfl rfl
theorem x_34_115  : exG TB d 34 115 (a0 :: a1 :: a2 :: a3 :: a4 :: a5 :: some (.float f1) :: r9) st A = exG TB d 34 117 (a0 :: a1 :: a2 :: a3 :: a4 :: a5 :: some (.float f1) :: r9) (.float f1 :: st) A := x_nx (op := o_fload 6 2) rfl rfl
theorem x_34_118  : exG TB d 34 118 L st A = exG TB d 34 123 L st A := x_nx (op := o_goto 123) rfl rfl
theorem x_34_121  : exG TB d 34 121 L st A = exG TB d 34 123 L (.int (nI 2147483647) :: st) A := x_nx (op := o_push 2 (.int 2147483647)) rfl rfl
theorem x_34_123  : exG TB d 34 123 (a0 :: a1 :: a2 :: a3 :: a4 :: a5 :: r9) (.int i1 :: st) A = exG TB d 34 125 (a0 :: a1 :: a2 :: a3 :: a4 :: some (.int i1) :: r9) st A := x_nx (op := o_istore 5 2) rfl rfl
theorem x_34_125  : exG TB d 34 125 (some v :: r9) st A = rg v (exG TB d 34 126 (some v :: r9) (v :: st) A) := x_rg (op := o_aload 0 1) rfl rfl
theorem x_34_126  : exG TB d 34 126 (a0 :: a1 :: a2 :: a3 :: a4 :: some (.int i1) :: r9) st A = exG TB d 34 128 (a0 :: a1 :: a2 :: a3 :: a4 :: some (.int i1) :: r9) (.int i1 :: st) A := x_nx (op := o_iload 5 2) rfl rfl
theorem x_34_128  : exG TB d 34 128 L (v :: .ref p :: st) A = ck ((gf A p 35).isSome && okv 1 v) (exG TB d 34 131 L st (setf A p 35 v)) := x_gd (op := o_put 35 1) rfl rfl
theorem x_34_131  : exG TB d 34 131 (a0 :: a1 :: a2 :: a3 :: some (.int i1) :: r9) st A = exG TB d 34 133 (a0 :: a1 :: a2 :: a3 :: some (.int i1) :: r9) (.int i1 :: st) A := x_nx (op := o_iload 4 2) rfl rfl
theorem x_34_133  : exG TB d 34 133 L (.int i1 :: st) A = ck (okn i1) (exG TB d 34 136 L (.ref (nx A) :: st) (newa A (zar 9 i1.toNatClampNeg))) := x_gd (op := o_newa 9 3) rfl rfl
theorem x_34_136  : exG TB d 34 136 (a0 :: a1 :: a2 :: a3 :: a4 :: a5 :: a6 :: r9) (v :: st) A = rg v (exG TB d 34 138 (a0 :: a1 :: a2 :: a3 :: a4 :: a5 :: some v :: r9) st A) := x_rgt (op := o_astore 6 2) rfl rfl
theorem x_34_138  : exG TB d 34 138 (some v :: r9) st A = rg v (exG TB d 34 139 (some v :: r9) (v :: st) A) := x_rg (op := o_aload 0 1) rfl rfl
theorem x_34_139  : exG TB d 34 139 (a0 :: a1 :: a2 :: a3 :: a4 :: a5 :: some v :: r9) st A = rg v (exG TB d 34 141 (a0 :: a1 :: a2 :: a3 :: a4 :: a5 :: some v :: r9) (v :: st) A) := x_rg (op := o_aload 6 2) rfl rfl
theorem x_34_141  : exG TB d 34 141 L (v :: .ref p :: st) A = ck ((gf A p 31).isSome && okv 0 v) (exG TB d 34 144 L st (setf A p 31 v)) := x_gd (op := o_put 31 0) rfl rfl
theorem x_34_144  : exG TB d 34 144 (a0 :: some v :: r9) st A = rg v (exG TB d 34 145 (a0 :: some v :: r9) (v :: st) A) := x_rg (op := o_aload 1 1) rfl rfl
theorem x_34_145n  : exG TB d 34 145 L (.null :: st) A = exG TB d 34 353 L st A := x_nx (op := o_ifnull 353) rfl rfl
theorem x_34_145r  : exG TB d 34 145 L (.ref p :: st) A = exG TB d 34 148 L st A := x_nx (op := o_ifnull 353) rfl rfl
theorem x_34_148  : exG TB d 34 148 L st A = exG TB d 34 149 L (.int (nI 0) :: st) A := x_nx (op := o_push 1 (.int 0)) rfl rfl
theorem x_34_149  : exG TB d 34 149 (a0 :: a1 :: a2 :: a3 :: a4 :: a5 :: a6 :: a7 :: r9) (.int i1 :: st) A = exG TB d 34 151 (a0 :: a1 :: a2 :: a3 :: a4 :: a5 :: a6 :: some (.int i1) :: r9) st A := x_nx (op := o_istore 7 2) rfl rfl
theorem x_34_151  : exG TB d 34 151 (a0 :: a1 :: a2 :: a3 :: a4 :: a5 :: a6 :: some (.int i1) :: r9) st A = exG TB d 34 153 (a0 :: a1 :: a2 :: a3 :: a4 :: a5 :: a6 :: some (.int i1) :: r9) (.int i1 :: st) A := x_nx (op := o_iload 7 2) rfl rfl
theorem x_34_153  : exG TB d 34 153 (a0 :: a1 :: some (.int i1) :: r9) st A = exG TB d 34 154 (a0 :: a1 :: some (.int i1) :: r9) (.int i1 :: st) A := x_nx (op := o_iload 2 1) rfl rfl
theorem x_34_154  : exG TB d 34 154 L (.int i2 :: .int i1 :: st) A = if i2 ≤ i1 then exG TB d 34 353 L st A else exG TB d 34 157 L st A := x_if (op := o_icmp (fun x y => decide (y ≤ x)) 353) rfl rfl rfl
theorem x_34_157  : exG TB d 34 157 (a0 :: some v :: r9) st A = rg v (exG TB d 34 158 (a0 :: some v :: r9) (v :: st) A) := x_rg (op := o_aload 1 1) rfl rfl
theorem x_34_158  : exG TB d 34 158 (a0 :: a1 :: a2 :: a3 :: a4 :: a5 :: a6 :: some (.int i1) :: r9) st A = exG TB d 34 160 (a0 :: a1 :: a2 :: a3 :: a4 :: a5 :: a6 :: some (.int i1) :: r9) (.int i1 :: st) A := x_nx (op := o_iload 7 2) rfl rfl
theorem x_34_160  : exG TB d 34 160 L (.int i1 :: .ref p :: st) A = kq (rdQ (ga A p) i1) d 34 161 L st A := x_bd (op := o_rdQ) rfl rfl (fun _ => rfl)
theorem x_34_161  : exG TB d 34 161 L (v :: st) A = ck (c1 v) (exG TB d 34 162 L (v :: v :: st) A) := x_gd (op := o_dup) rfl rfl
theorem x_34_162  : exG TB d 34 162 (a0 :: a1 :: a2 :: a3 :: a4 :: a5 :: a6 :: a7 :: a8 :: r9) (v :: st) A = rg v (exG TB d 34 164 (a0 :: a1 :: a2 :: a3 :: a4 :: a5 :: a6 :: a7 :: some v :: r9) st A) := x_rgt (op := o_astore 8 2) rfl rfl
theorem x_34_164n  : exG TB d 34 164 L (.null :: st) A = exG TB d 34 347 L st A := x_nx (op := o_ifnull 347) rfl rfl
theorem x_34_164r  : exG TB d 34 164 L (.ref p :: st) A = exG TB d 34 167 L st A := x_nx (op := o_ifnull 347) rfl rfl
theorem x_34_167  : exG TB d 34 167 (a0 :: some v :: r9) st A = rg v (exG TB d 34 168 (a0 :: some v :: r9) (v :: st) A) := x_rg (op := o_aload 1 1) rfl rfl
theorem x_34_168  : exG TB d 34 168 (a0 :: a1 :: a2 :: a3 :: a4 :: a5 :: a6 :: some (.int i1) :: r9) st A = exG TB d 34 170 (a0 :: a1 :: a2 :: a3 :: a4 :: a5 :: a6 :: some (.int i1) :: r9) (.int i1 :: st) A := x_nx (op := o_iload 7 2) rfl rfl
theorem x_34_170  : exG TB d 34 170 L st A = exG TB d 34 171 L (.null :: st) A := x_nx (op := o_push 1 .null) rfl rfl
theorem x_34_171r  : exG TB d 34 171 L (.ref q :: .int i1 :: .ref p :: st) A = ck (atag (ga A p) 9 && okq A [28] (.ref q)) (ka (wrQ (ga A p) i1 (some q)) p d 34 172 L st A) := x_gb (op := o_wrQ 9 [28]) rfl rfl (fun _ => rfl)
theorem x_34_171n  : exG TB d 34 171 L (.null :: .int i1 :: .ref p :: st) A = ck (atag (ga A p) 9 && okq A [28] (.null)) (ka (wrQ (ga A p) i1 none) p d 34 172 L st A) := x_gb (op := o_wrQ 9 [28]) rfl rfl (fun _ => rfl)
theorem x_34_172  : exG TB d 34 172 (a0 :: a1 :: a2 :: a3 :: a4 :: a5 :: a6 :: a7 :: some v :: r9) st A = rg v (exG TB d 34 174 (a0 :: a1 :: a2 :: a3 :: a4 :: a5 :: a6 :: a7 :: some v :: r9) (v :: st) A) := x_rg (op := o_aload 8 2) rfl rfl
theorem x_34_174  : exG TB d 34 174 L (.ref p :: st) A = kv (gf A p 146) d 34 177 L st A := x_bd (op := o_get 146) rfl rfl (fun _ => rfl)
theorem x_34_177n  : exG TB d 34 177 L (.null :: st) A = exG TB d 34 180 L st A := x_nx (op := o_ifnonnull 198) rfl rfl
theorem x_34_177r  : exG TB d 34 177 L (.ref p :: st) A = exG TB d 34 198 L st A := x_nx (op := o_ifnonnull 198) rfl rfl
theorem x_34_180  : exG TB d 34 180 (a0 :: a1 :: a2 :: a3 :: a4 :: a5 :: some v :: r9) st A = rg v (exG TB d 34 182 (a0 :: a1 :: a2 :: a3 :: a4 :: a5 :: some v :: r9) (v :: st) A) := x_rg (op := o_aload 6 2) rfl rfl
theorem x_34_182  : exG TB d 34 182 (a0 :: a1 :: a2 :: a3 :: a4 :: a5 :: a6 :: a7 :: some v :: r9) st A = rg v (exG TB d 34 184 (a0 :: a1 :: a2 :: a3 :: a4 :: a5 :: a6 :: a7 :: some v :: r9) (v :: st) A) := x_rg (op := o_aload 8 2) rfl rfl
theorem x_34_184  : exG TB d 34 184 L (.ref p :: st) A = kv (gf A p 143) d 34 187 L st A := x_bd (op := o_get 143) rfl rfl (fun _ => rfl)
theorem x_34_187  : exG TB d 34 187 (a0 :: a1 :: a2 :: a3 :: some (.int i1) :: r9) st A = exG TB d 34 189 (a0 :: a1 :: a2 :: a3 :: some (.int i1) :: r9) (.int i1 :: st) A := x_nx (op := o_iload 4 2) rfl rfl
theorem x_34_189  : exG TB d 34 189 L st A = exG TB d 34 190 L (.int (nI 1) :: st) A := x_nx (op := o_push 1 (.int 1)) rfl rfl
theorem x_34_190  : exG TB d 34 190 L (.int i2 :: .int i1 :: st) A = exG TB d 34 191 L (.int (i1 - i2) :: st) A := x_nx (op := o_iop (fun x y => x - y)) rfl rfl
theorem x_34_191  : exG TB d 34 191 L (.int i2 :: .int i1 :: st) A = exG TB d 34 192 L (.int (i1 &&& i2) :: st) A := x_nx (op := o_iop (fun x y => x &&& y)) rfl rfl
theorem x_34_192  : exG TB d 34 192 (a0 :: a1 :: a2 :: a3 :: a4 :: a5 :: a6 :: a7 :: some v :: r9) st A = rg v (exG TB d 34 194 (a0 :: a1 :: a2 :: a3 :: a4 :: a5 :: a6 :: a7 :: some v :: r9) (v :: st) A) := x_rg (op := o_aload 8 2) rfl rfl
theorem x_34_194r  : exG TB d 34 194 L (.ref q :: .int i1 :: .ref p :: st) A = ck (atag (ga A p) 9 && okq A [28] (.ref q)) (ka (wrQ (ga A p) i1 (some q)) p d 34 195 L st A) := x_gb (op := o_wrQ 9 [28]) rfl rfl (fun _ => rfl)
theorem x_34_194n  : exG TB d 34 194 L (.null :: .int i1 :: .ref p :: st) A = ck (atag (ga A p) 9 && okq A [28] (.null)) (ka (wrQ (ga A p) i1 none) p d 34 195 L st A) := x_gb (op := o_wrQ 9 [28]) rfl rfl (fun _ => rfl)
theorem x_34_195  : exG TB d 34 195 L st A = exG TB d 34 347 L st A := x_nx (op := o_goto 347) rfl rfl
theorem x_34_198  : exG TB d 34 198 (a0 :: a1 :: a2 :: a3 :: a4 :: a5 :: a6 :: a7 :: some v :: r9) st A = rg v (exG TB d 34 200 (a0 :: a1 :: a2 :: a3 :: a4 :: a5 :: a6 :: a7 :: some v :: r9) (v :: st) A) := x_rg (op := o_aload 8 2) rfl rfl
theorem x_34_200n  : exG TB d 34 200 L (.null :: st) A = exG TB d 34 203 L (.int (nI 0) :: st) A := x_nx (op := o_inst [] [28]) rfl rfl
theorem x_34_200o (h8 : cin (gcs A p) [28] = true) : exG TB d 34 200 L (.ref p :: st) A = exG TB d 34 203 L (.int (nI 0) :: st) A := x_inN (l := []) (l0 := [28]) rfl (cin_nil _) h8
theorem x_34_203  : exG TB d 34 203 L (.int i1 :: st) A = if i1 = nI 0 then exG TB d 34 223 L st A else exG TB d 34 206 L st A := x_if (op := o_if (fun x => decide (x = 0)) 223) rfl rfl rfl
theorem x_34_206  : exG TB d 34 206 (a0 :: a1 :: a2 :: a3 :: a4 :: a5 :: a6 :: a7 :: some v :: r9) st A = rg v (exG TB d 34 208 (a0 :: a1 :: a2 :: a3 :: a4 :: a5 :: a6 :: a7 :: some v :: r9) (v :: st) A) := x_rg (op := o_aload 8 2) rfl rfl
theorem x_34_211  : exG TB d 34 211 (some v :: r9) st A = rg v (exG TB d 34 212 (some v :: r9) (v :: st) A) := x_rg (op := o_aload 0 1) rfl rfl
theorem x_34_212  : exG TB d 34 212 (a0 :: a1 :: a2 :: a3 :: a4 :: a5 :: some v :: r9) st A = rg v (exG TB d 34 214 (a0 :: a1 :: a2 :: a3 :: a4 :: a5 :: some v :: r9) (v :: st) A) := x_rg (op := o_aload 6 2) rfl rfl
theorem x_34_214  : exG TB d 34 214 (a0 :: a1 :: a2 :: a3 :: a4 :: a5 :: a6 :: some (.int i1) :: r9) st A = exG TB d 34 216 (a0 :: a1 :: a2 :: a3 :: a4 :: a5 :: a6 :: some (.int i1) :: r9) (.int i1 :: st) A := x_nx (op := o_iload 7 2) rfl rfl
theorem x_34_216  : exG TB d 34 216 (a0 :: a1 :: some (.int i1) :: r9) st A = exG TB d 34 217 (a0 :: a1 :: some (.int i1) :: r9) (.int i1 :: st) A := x_nx (op := o_iload 2 1) rfl rfl
theorem x_34_220  : exG TB d 34 220 L st A = exG TB d 34 347 L st A := x_nx (op := o_goto 347) rfl rfl
theorem x_34_223  : exG TB d 34 223 L st A = exG TB d 34 224 L (.null :: st) A := x_nx (op := o_push 1 .null) rfl rfl
theorem x_34_224  : exG TB d 34 224 (a0 :: a1 :: a2 :: a3 :: a4 :: a5 :: a6 :: a7 :: a8 :: a9 :: r9) (v :: st) A = rg v (exG TB d 34 226 (a0 :: a1 :: a2 :: a3 :: a4 :: a5 :: a6 :: a7 :: a8 :: some v :: r9) st A) := x_rgt (op := o_astore 9 2) rfl rfl
theorem x_34_226  : exG TB d 34 226 L st A = exG TB d 34 227 L (.null :: st) A := x_nx (op := o_push 1 .null) rfl rfl
theorem x_34_227  : exG TB d 34 227 (a0 :: a1 :: a2 :: a3 :: a4 :: a5 :: a6 :: a7 :: a8 :: a9 :: a10 :: r9) (v :: st) A = rg v (exG TB d 34 229 (a0 :: a1 :: a2 :: a3 :: a4 :: a5 :: a6 :: a7 :: a8 :: a9 :: some v :: r9) st A) := x_rgt (op := o_astore 10 2) rfl rfl
theorem x_34_229  : exG TB d 34 229 L st A = exG TB d 34 230 L (.null :: st) A := x_nx (op := o_push 1 .null) rfl rfl
theorem x_34_230  : exG TB d 34 230 (a0 :: a1 :: a2 :: a3 :: a4 :: a5 :: a6 :: a7 :: a8 :: a9 :: a10 :: a11 :: r9) (v :: st) A = rg v (exG TB d 34 232 (a0 :: a1 :: a2 :: a3 :: a4 :: a5 :: a6 :: a7 :: a8 :: a9 :: a10 :: some v :: r9) st A) := x_rgt (op := o_astore 11 2) rfl rfl
theorem x_34_232  : exG TB d 34 232 L st A = exG TB d 34 233 L (.null :: st) A := x_nx (op := o_push 1 .null) rfl rfl
theorem x_34_233  : exG TB d 34 233 (a0 :: a1 :: a2 :: a3 :: a4 :: a5 :: a6 :: a7 :: a8 :: a9 :: a10 :: a11 :: a12 :: r9) (v :: st) A = rg v (exG TB d 34 235 (a0 :: a1 :: a2 :: a3 :: a4 :: a5 :: a6 :: a7 :: a8 :: a9 :: a10 :: a11 :: some v :: r9) st A) := x_rgt (op := o_astore 12 2) rfl rfl
theorem x_34_235  : exG TB d 34 235 (a0 :: a1 :: a2 :: a3 :: a4 :: a5 :: a6 :: a7 :: some v :: r9) st A = rg v (exG TB d 34 237 (a0 :: a1 :: a2 :: a3 :: a4 :: a5 :: a6 :: a7 :: some v :: r9) (v :: st) A) := x_rg (op := o_aload 8 2) rfl rfl
theorem x_34_237  : exG TB d 34 237 L (.ref p :: st) A = kv (gf A p 146) d 34 240 L st A := x_bd (op := o_get 146) rfl rfl (fun _ => rfl)
theorem x_34_240  : exG TB d 34 240 (a0 :: a1 :: a2 :: a3 :: a4 :: a5 :: a6 :: a7 :: a8 :: a9 :: a10 :: a11 :: a12 :: a13 :: r9) (v :: st) A = rg v (exG TB d 34 242 (a0 :: a1 :: a2 :: a3 :: a4 :: a5 :: a6 :: a7 :: a8 :: a9 :: a10 :: a11 :: a12 :: some v :: r9) st A) := x_rgt (op := o_astore 13 2) rfl rfl
theorem x_34_242  : exG TB d 34 242 (a0 :: a1 :: a2 :: a3 :: a4 :: a5 :: a6 :: a7 :: some v :: r9) st A = rg v (exG TB d 34 244 (a0 :: a1 :: a2 :: a3 :: a4 :: a5 :: a6 :: a7 :: some v :: r9) (v :: st) A) := x_rg (op := o_aload 8 2) rfl rfl
theorem x_34_244  : exG TB d 34 244 L (.ref p :: st) A = kv (gf A p 143) d 34 247 L st A := x_bd (op := o_get 143) rfl rfl (fun _ => rfl)
theorem x_34_247  : exG TB d 34 247 (a0 :: a1 :: some (.int i1) :: r9) st A = exG TB d 34 248 (a0 :: a1 :: some (.int i1) :: r9) (.int i1 :: st) A := x_nx (op := o_iload 2 1) rfl rfl
theorem x_34_248  : exG TB d 34 248 L (.int i2 :: .int i1 :: st) A = exG TB d 34 249 L (.int (i1 &&& i2) :: st) A := x_nx (op := o_iop (fun x y => x &&& y)) rfl rfl
theorem x_34_249  : exG TB d 34 249 L (.int i1 :: st) A = if ¬ i1 = nI 0 then exG TB d 34 278 L st A else exG TB d 34 252 L st A := x_if (op := o_if (fun x => decide (¬ x = 0)) 278) rfl rfl rfl
theorem x_34_252  : exG TB d 34 252 (a0 :: a1 :: a2 :: a3 :: a4 :: a5 :: a6 :: a7 :: a8 :: a9 :: some v :: r9) st A = rg v (exG TB d 34 254 (a0 :: a1 :: a2 :: a3 :: a4 :: a5 :: a6 :: a7 :: a8 :: a9 :: some v :: r9) (v :: st) A) := x_rg (op := o_aload 10 2) rfl rfl
theorem x_34_254n  : exG TB d 34 254 L (.null :: st) A = exG TB d 34 257 L st A := x_nx (op := o_ifnonnull 264) rfl rfl
theorem x_34_254r  : exG TB d 34 254 L (.ref p :: st) A = exG TB d 34 264 L st A := x_nx (op := o_ifnonnull 264) rfl rfl
theorem x_34_257  : exG TB d 34 257 (a0 :: a1 :: a2 :: a3 :: a4 :: a5 :: a6 :: a7 :: some v :: r9) st A = rg v (exG TB d 34 259 (a0 :: a1 :: a2 :: a3 :: a4 :: a5 :: a6 :: a7 :: some v :: r9) (v :: st) A) := x_rg (op := o_aload 8 2) rfl rfl
theorem x_34_259  : exG TB d 34 259 (a0 :: a1 :: a2 :: a3 :: a4 :: a5 :: a6 :: a7 :: a8 :: a9 :: r9) (v :: st) A = rg v (exG TB d 34 261 (a0 :: a1 :: a2 :: a3 :: a4 :: a5 :: a6 :: a7 :: a8 :: some v :: r9) st A) := x_rgt (op := o_astore 9 2) rfl rfl
theorem x_34_261  : exG TB d 34 261 L st A = exG TB d 34 271 L st A := x_nx (op := o_goto 271) rfl rfl
theorem x_34_264  : exG TB d 34 264 (a0 :: a1 :: a2 :: a3 :: a4 :: a5 :: a6 :: a7 :: a8 :: a9 :: some v :: r9) st A = rg v (exG TB d 34 266 (a0 :: a1 :: a2 :: a3 :: a4 :: a5 :: a6 :: a7 :: a8 :: a9 :: some v :: r9) (v :: st) A) := x_rg (op := o_aload 10 2) rfl rfl
theorem x_34_266  : exG TB d 34 266 (a0 :: a1 :: a2 :: a3 :: a4 :: a5 :: a6 :: a7 :: some v :: r9) st A = rg v (exG TB d 34 268 (a0 :: a1 :: a2 :: a3 :: a4 :: a5 :: a6 :: a7 :: some v :: r9) (v :: st) A) := x_rg (op := o_aload 8 2) rfl rfl
theorem x_34_268  : exG TB d 34 268 L (v :: .ref p :: st) A = ck ((gf A p 146).isSome && okv 0 v) (exG TB d 34 271 L st (setf A p 146 v)) := x_gd (op := o_put 146 0) rfl rfl
theorem x_34_271  : exG TB d 34 271 (a0 :: a1 :: a2 :: a3 :: a4 :: a5 :: a6 :: a7 :: some v :: r9) st A = rg v (exG TB d 34 273 (a0 :: a1 :: a2 :: a3 :: a4 :: a5 :: a6 :: a7 :: some v :: r9) (v :: st) A) := x_rg (op := o_aload 8 2) rfl rfl
theorem x_34_273  : exG TB d 34 273 (a0 :: a1 :: a2 :: a3 :: a4 :: a5 :: a6 :: a7 :: a8 :: a9 :: a10 :: r9) (v :: st) A = rg v (exG TB d 34 275 (a0 :: a1 :: a2 :: a3 :: a4 :: a5 :: a6 :: a7 :: a8 :: a9 :: some v :: r9) st A) := x_rgt (op := o_astore 10 2) rfl rfl
theorem x_34_275  : exG TB d 34 275 L st A = exG TB d 34 301 L st A := x_nx (op := o_goto 301) rfl rfl
theorem x_34_278  : exG TB d 34 278 (a0 :: a1 :: a2 :: a3 :: a4 :: a5 :: a6 :: a7 :: a8 :: a9 :: a10 :: a11 :: some v :: r9) st A = rg v (exG TB d 34 280 (a0 :: a1 :: a2 :: a3 :: a4 :: a5 :: a6 :: a7 :: a8 :: a9 :: a10 :: a11 :: some v :: r9) (v :: st) A) := x_rg (op := o_aload 12 2) rfl rfl
theorem x_34_280n  : exG TB d 34 280 L (.null :: st) A = exG TB d 34 283 L st A := x_nx (op := o_ifnonnull 290) rfl rfl
theorem x_34_280r  : exG TB d 34 280 L (.ref p :: st) A = exG TB d 34 290 L st A := x_nx (op := o_ifnonnull 290) rfl rfl
theorem x_34_283  : exG TB d 34 283 (a0 :: a1 :: a2 :: a3 :: a4 :: a5 :: a6 :: a7 :: some v :: r9) st A = rg v (exG TB d 34 285 (a0 :: a1 :: a2 :: a3 :: a4 :: a5 :: a6 :: a7 :: some v :: r9) (v :: st) A) := x_rg (op := o_aload 8 2) rfl rfl
theorem x_34_285  : exG TB d 34 285 (a0 :: a1 :: a2 :: a3 :: a4 :: a5 :: a6 :: a7 :: a8 :: a9 :: a10 :: a11 :: r9) (v :: st) A = rg v (exG TB d 34 287 (a0 :: a1 :: a2 :: a3 :: a4 :: a5 :: a6 :: a7 :: a8 :: a9 :: a10 :: some v :: r9) st A) := x_rgt (op := o_astore 11 2) rfl rfl
theorem x_34_287  : exG TB d 34 287 L st A = exG TB d 34 297 L st A := x_nx (op := o_goto 297) rfl rfl
theorem x_34_290  : exG TB d 34 290 (a0 :: a1 :: a2 :: a3 :: a4 :: a5 :: a6 :: a7 :: a8 :: a9 :: a10 :: a11 :: some v :: r9) st A = rg v (exG TB d 34 292 (a0 :: a1 :: a2 :: a3 :: a4 :: a5 :: a6 :: a7 :: a8 :: a9 :: a10 :: a11 :: some v :: r9) (v :: st) A) := x_rg (op := o_aload 12 2) rfl rfl
theorem x_34_292  : exG TB d 34 292 (a0 :: a1 :: a2 :: a3 :: a4 :: a5 :: a6 :: a7 :: some v :: r9) st A = rg v (exG TB d 34 294 (a0 :: a1 :: a2 :: a3 :: a4 :: a5 :: a6 :: a7 :: some v :: r9) (v :: st) A) := x_rg (op := o_aload 8 2) rfl rfl
theorem x_34_294  : exG TB d 34 294 L (v :: .ref p :: st) A = ck ((gf A p 146).isSome && okv 0 v) (exG TB d 34 297 L st (setf A p 146 v)) := x_gd (op := o_put 146 0) rfl rfl
theorem x_34_297  : exG TB d 34 297 (a0 :: a1 :: a2 :: a3 :: a4 :: a5 :: a6 :: a7 :: some v :: r9) st A = rg v (exG TB d 34 299 (a0 :: a1 :: a2 :: a3 :: a4 :: a5 :: a6 :: a7 :: some v :: r9) (v :: st) A) := x_rg (op := o_aload 8 2) rfl rfl
theorem x_34_299  : exG TB d 34 299 (a0 :: a1 :: a2 :: a3 :: a4 :: a5 :: a6 :: a7 :: a8 :: a9 :: a10 :: a11 :: a12 :: r9) (v :: st) A = rg v (exG TB d 34 301 (a0 :: a1 :: a2 :: a3 :: a4 :: a5 :: a6 :: a7 :: a8 :: a9 :: a10 :: a11 :: some v :: r9) st A) := x_rgt (op := o_astore 12 2) rfl rfl
theorem x_34_301  : exG TB d 34 301 (a0 :: a1 :: a2 :: a3 :: a4 :: a5 :: a6 :: a7 :: a8 :: a9 :: a10 :: a11 :: a12 :: some v :: r9) st A = rg v (exG TB d 34 303 (a0 :: a1 :: a2 :: a3 :: a4 :: a5 :: a6 :: a7 :: a8 :: a9 :: a10 :: a11 :: a12 :: some v :: r9) (v :: st) A) := x_rg (op := o_aload 13 2) rfl rfl
theorem x_34_303  : exG TB d 34 303 L (v :: st) A = ck (c1 v) (exG TB d 34 304 L (v :: v :: st) A) := x_gd (op := o_dup) rfl rfl
theorem x_34_304  : exG TB d 34 304 (a0 :: a1 :: a2 :: a3 :: a4 :: a5 :: a6 :: a7 :: a8 :: r9) (v :: st) A = rg v (exG TB d 34 306 (a0 :: a1 :: a2 :: a3 :: a4 :: a5 :: a6 :: a7 :: some v :: r9) st A) := x_rgt (op := o_astore 8 2) rfl rfl
theorem x_34_306n  : exG TB d 34 306 L (.null :: st) A = exG TB d 34 309 L st A := x_nx (op := o_ifnonnull 235) rfl rfl
theorem x_34_306r  : exG TB d 34 306 L (.ref p :: st) A = exG TB d 34 235 L st A := x_nx (op := o_ifnonnull 235) rfl rfl
theorem x_34_309  : exG TB d 34 309 (a0 :: a1 :: a2 :: a3 :: a4 :: a5 :: a6 :: a7 :: a8 :: a9 :: some v :: r9) st A = rg v (exG TB d 34 311 (a0 :: a1 :: a2 :: a3 :: a4 :: a5 :: a6 :: a7 :: a8 :: a9 :: some v :: r9) (v :: st) A) := x_rg (op := o_aload 10 2) rfl rfl
theorem x_34_311n  : exG TB d 34 311 L (.null :: st) A = exG TB d 34 327 L st A := x_nx (op := o_ifnull 327) rfl rfl
theorem x_34_311r  : exG TB d 34 311 L (.ref p :: st) A = exG TB d 34 314 L st A := x_nx (op := o_ifnull 327) rfl rfl
theorem x_34_314  : exG TB d 34 314 (a0 :: a1 :: a2 :: a3 :: a4 :: a5 :: a6 :: a7 :: a8 :: a9 :: some v :: r9) st A = rg v (exG TB d 34 316 (a0 :: a1 :: a2 :: a3 :: a4 :: a5 :: a6 :: a7 :: a8 :: a9 :: some v :: r9) (v :: st) A) := x_rg (op := o_aload 10 2) rfl rfl
theorem x_34_316  : exG TB d 34 316 L st A = exG TB d 34 317 L (.null :: st) A := x_nx (op := o_push 1 .null) rfl rfl
theorem x_34_317  : exG TB d 34 317 L (v :: .ref p :: st) A = ck ((gf A p 146).isSome && okv 0 v) (exG TB d 34 320 L st (setf A p 146 v)) := x_gd (op := o_put 146 0) rfl rfl
theorem x_34_320  : exG TB d 34 320 (a0 :: a1 :: a2 :: a3 :: a4 :: a5 :: some v :: r9) st A = rg v (exG TB d 34 322 (a0 :: a1 :: a2 :: a3 :: a4 :: a5 :: some v :: r9) (v :: st) A) := x_rg (op := o_aload 6 2) rfl rfl
theorem x_34_322  : exG TB d 34 322 (a0 :: a1 :: a2 :: a3 :: a4 :: a5 :: a6 :: some (.int i1) :: r9) st A = exG TB d 34 324 (a0 :: a1 :: a2 :: a3 :: a4 :: a5 :: a6 :: some (.int i1) :: r9) (.int i1 :: st) A := x_nx (op := o_iload 7 2) rfl rfl
theorem x_34_324  : exG TB d 34 324 (a0 :: a1 :: a2 :: a3 :: a4 :: a5 :: a6 :: a7 :: a8 :: some v :: r9) st A = rg v (exG TB d 34 326 (a0 :: a1 :: a2 :: a3 :: a4 :: a5 :: a6 :: a7 :: a8 :: some v :: r9) (v :: st) A) := x_rg (op := o_aload 9 2) rfl rfl
theorem x_34_326r  : exG TB d 34 326 L (.ref q :: .int i1 :: .ref p :: st) A = ck (atag (ga A p) 9 && okq A [28] (.ref q)) (ka (wrQ (ga A p) i1 (some q)) p d 34 327 L st A) := x_gb (op := o_wrQ 9 [28]) rfl rfl (fun _ => rfl)
theorem x_34_326n  : exG TB d 34 326 L (.null :: .int i1 :: .ref p :: st) A = ck (atag (ga A p) 9 && okq A [28] (.null)) (ka (wrQ (ga A p) i1 none) p d 34 327 L st A) := x_gb (op := o_wrQ 9 [28]) rfl rfl (fun _ => rfl)
theorem x_34_327  : exG TB d 34 327 (a0 :: a1 :: a2 :: a3 :: a4 :: a5 :: a6 :: a7 :: a8 :: a9 :: a10 :: a11 :: some v :: r9) st A = rg v (exG TB d 34 329 (a0 :: a1 :: a2 :: a3 :: a4 :: a5 :: a6 :: a7 :: a8 :: a9 :: a10 :: a11 :: some v :: r9) (v :: st) A) := x_rg (op := o_aload 12 2) rfl rfl
theorem x_34_329n  : exG TB d 34 329 L (.null :: st) A = exG TB d 34 347 L st A := x_nx (op := o_ifnull 347) rfl rfl
theorem x_34_329r  : exG TB d 34 329 L (.ref p :: st) A = exG TB d 34 332 L st A := x_nx (op := o_ifnull 347) rfl rfl
theorem x_34_332  : exG TB d 34 332 (a0 :: a1 :: a2 :: a3 :: a4 :: a5 :: a6 :: a7 :: a8 :: a9 :: a10 :: a11 :: some v :: r9) st A = rg v (exG TB d 34 334 (a0 :: a1 :: a2 :: a3 :: a4 :: a5 :: a6 :: a7 :: a8 :: a9 :: a10 :: a11 :: some v :: r9) (v :: st) A) := x_rg (op := o_aload 12 2) rfl rfl
theorem x_34_334  : exG TB d 34 334 L st A = exG TB d 34 335 L (.null :: st) A := x_nx (op := o_push 1 .null) rfl rfl
theorem x_34_335  : exG TB d 34 335 L (v :: .ref p :: st) A = ck ((gf A p 146).isSome && okv 0 v) (exG TB d 34 338 L st (setf A p 146 v)) := x_gd (op := o_put 146 0) rfl rfl
theorem x_34_338  : exG TB d 34 338 (a0 :: a1 :: a2 :: a3 :: a4 :: a5 :: some v :: r9) st A = rg v (exG TB d 34 340 (a0 :: a1 :: a2 :: a3 :: a4 :: a5 :: some v :: r9) (v :: st) A) := x_rg (op := o_aload 6 2) rfl rfl
theorem x_34_340  : exG TB d 34 340 (a0 :: a1 :: a2 :: a3 :: a4 :: a5 :: a6 :: some (.int i1) :: r9) st A = exG TB d 34 342 (a0 :: a1 :: a2 :: a3 :: a4 :: a5 :: a6 :: some (.int i1) :: r9) (.int i1 :: st) A := x_nx (op := o_iload 7 2) rfl rfl
theorem x_34_342  : exG TB d 34 342 (a0 :: a1 :: some (.int i1) :: r9) st A = exG TB d 34 343 (a0 :: a1 :: some (.int i1) :: r9) (.int i1 :: st) A := x_nx (op := o_iload 2 1) rfl rfl
theorem x_34_343  : exG TB d 34 343 L (.int i2 :: .int i1 :: st) A = exG TB d 34 344 L (.int (i1 + i2) :: st) A := x_nx (op := o_iop (fun x y => x + y)) rfl rfl
theorem x_34_344  : exG TB d 34 344 (a0 :: a1 :: a2 :: a3 :: a4 :: a5 :: a6 :: a7 :: a8 :: a9 :: a10 :: some v :: r9) st A = rg v (exG TB d 34 346 (a0 :: a1 :: a2 :: a3 :: a4 :: a5 :: a6 :: a7 :: a8 :: a9 :: a10 :: some v :: r9) (v :: st) A) := x_rg (op := o_aload 11 2) rfl rfl
theorem x_34_346r  : exG TB d 34 346 L (.ref q :: .int i1 :: .ref p :: st) A = ck (atag (ga A p) 9 && okq A [28] (.ref q)) (ka (wrQ (ga A p) i1 (some q)) p d 34 347 L st A) := x_gb (op := o_wrQ 9 [28]) rfl rfl (fun _ => rfl)
theorem x_34_346n  : exG TB d 34 346 L (.null :: .int i1 :: .ref p :: st) A = ck (atag (ga A p) 9 && okq A [28] (.null)) (ka (wrQ (ga A p) i1 none) p d 34 347 L st A) := x_gb (op := o_wrQ 9 [28]) rfl rfl (fun _ => rfl)
theorem x_34_347  : exG TB d 34 347 (a0 :: a1 :: a2 :: a3 :: a4 :: a5 :: a6 :: some (.int i1) :: r9) st A = exG TB d 34 350 (a0 :: a1 :: a2 :: a3 :: a4 :: a5 :: a6 :: some (.int (i1 + (nI 1))) :: r9) st A := x_nx (op := o_iinc 7 1) rfl rfl
theorem x_34_350  : exG TB d 34 350 L st A = exG TB d 34 151 L st A := x_nx (op := o_goto 151) rfl rfl
theorem x_34_353  : exG TB d 34 353 (a0 :: a1 :: a2 :: a3 :: a4 :: a5 :: some v :: r9) st A = rg v (exG TB d 34 355 (a0 :: a1 :: a2 :: a3 :: a4 :: a5 :: some v :: r9) (v :: st) A) := x_rg (op := o_aload 6 2) rfl rfl
theorem x_34_355  : exG TB d 34 355 L [v] A = ck (okv 0 v) (some (.inl (some v), A)) := x_outg (op := o_ret 0) rfl rfl
theorem e_35 {j1 : Int32} : evG TB (d + 1) 35 [.ref p, .int j1, b2, b3, b4] A = rg b2 (rg b3 (rg b4 (exG TB d 35 0 [some (.ref p), some (.int j1), some (b2), some (b3), some (b4)] [] A))) := by
  rw [evG_eq]
  show (bif (true && (true && (isR b2 && (isR b3 && (isR b4 && true))))) then exG TB d 35 0 [some (.ref p), some (.int j1), some (b2), some (b3), some (b4)] [] A else none) = _
  unfold rg
  cases isR b2 <;> cases isR b3 <;> cases isR b4 <;> rfl
theorem x_35_0  : exG TB d 35 0 L st A = exG TB d 35 3 L (.ref (nx A) :: st) (newo A 28 4 dv28) := x_nx (op := o_new 28 4 dv28) rfl rfl
theorem x_35_3  : exG TB d 35 3 L (v :: st) A = ck (c1 v) (exG TB d 35 4 L (v :: v :: st) A) := x_gd (op := o_dup) rfl rfl
theorem x_35_4  : exG TB d 35 4 (a0 :: some (.int i1) :: r9) st A = exG TB d 35 5 (a0 :: some (.int i1) :: r9) (.int i1 :: st) A := x_nx (op := o_iload 1 1) rfl rfl
theorem x_35_5  : exG TB d 35 5 (a0 :: a1 :: some v :: r9) st A = rg v (exG TB d 35 6 (a0 :: a1 :: some v :: r9) (v :: st) A) := x_rg (op := o_aload 2 1) rfl rfl
theorem x_35_6  : exG TB d 35 6 (a0 :: a1 :: a2 :: some v :: r9) st A = rg v (exG TB d 35 7 (a0 :: a1 :: a2 :: some v :: r9) (v :: st) A) := x_rg (op := o_aload 3 1) rfl rfl
theorem x_35_7  : exG TB d 35 7 (a0 :: a1 :: a2 :: a3 :: some v :: r9) st A = rg v (exG TB d 35 9 (a0 :: a1 :: a2 :: a3 :: some v :: r9) (v :: st) A) := x_rg (op := o_aload 4 2) rfl rfl
theorem x_35_9  : exG TB d 35 9 L [b3, b2, b1, b0, .ref p, w0] A = kc0 (evG TB d 97 [.ref p, b0, b1, b2, b3] A) d 35 12 L [w0] := x_c0 (op := o_ci 97 4) rfl rfl x_noh rfl
theorem x_35_12  : exG TB d 35 12 L [v] A = ck (okv 0 v) (some (.inl (some v), A)) := x_outg (op := o_ret 0) rfl rfl
theorem e_36  : evG TB (d + 1) 36 [.ref p, b1] A = rg b1 (exG TB d 36 0 [some (.ref p), some (b1)] [] A) := by
  rw [evG_eq]
  show (bif (true && (isR b1 && true)) then exG TB d 36 0 [some (.ref p), some (b1)] [] A else none) = _
  unfold rg
  cases isR b1 <;> rfl
theorem x_36_0  : exG TB d 36 0 L [] A = some (.inl none, A) := x_out (op := o_vret) rfl rfl
theorem e_37 {j1 : Int32} : evG TB (d + 1) 37 [.ref p, .int j1] A = exG TB d 37 0 [some (.ref p), some (.int j1)] [] A := evG_eq TB d 37 _ A
theorem x_37_0  : exG TB d 37 0 L [] A = some (.inl none, A) := x_out (op := o_vret) rfl rfl
theorem e_38  : evG TB (d + 1) 38 [.ref p] A = exG TB d 38 0 [some (.ref p), none] [] A := evG_eq TB d 38 _ A
theorem x_38_0  : exG TB d 38 0 (some v :: r9) st A = rg v (exG TB d 38 1 (some v :: r9) (v :: st) A) := x_rg (op := o_aload 0 1) rfl rfl
theorem x_38_1  : exG TB d 38 1 L (.ref p :: st) A = kv (gf A p 32) d 38 4 L st A := x_bd (op := o_get 32) rfl rfl (fun _ => rfl)
theorem x_38_4  : exG TB d 38 4 L (v :: st) A = ck (c1 v) (exG TB d 38 5 L (v :: v :: st) A) := x_gd (op := o_dup) rfl rfl
theorem x_38_5  : exG TB d 38 5 (a0 :: a1 :: r9) (v :: st) A = rg v (exG TB d 38 6 (a0 :: some v :: r9) st A) := x_rgt (op := o_astore 1 1) rfl rfl
theorem x_38_6n  : exG TB d 38 6 L (.null :: st) A = exG TB d 38 9 L st A := x_nx (op := o_ifnonnull 25) rfl rfl
theorem x_38_6r  : exG TB d 38 6 L (.ref p :: st) A = exG TB d 38 25 L st A := x_nx (op := o_ifnonnull 25) rfl rfl
theorem x_38_9  : exG TB d 38 9 (some v :: r9) st A = rg v (exG TB d 38 10 (some v :: r9) (v :: st) A) := x_rg (op := o_aload 0 1) rfl rfl
theorem x_38_10  : exG TB d 38 10 L st A = exG TB d 38 13 L (.ref (nx A) :: st) (newo A 29 1 dv29) := x_nx (op := o_new 29 1 dv29) rfl rfl
theorem x_38_13  : exG TB d 38 13 L (v :: st) A = ck (c1 v) (exG TB d 38 14 L (v :: v :: st) A) := x_gd (op := o_dup) rfl rfl
theorem x_38_14  : exG TB d 38 14 (some v :: r9) st A = rg v (exG TB d 38 15 (some v :: r9) (v :: st) A) := x_rg (op := o_aload 0 1) rfl rfl
theorem x_38_15  : exG TB d 38 15 L [b0, .ref p, w0, w1] A = kc0 (evG TB d 103 [.ref p, b0] A) d 38 18 L [w0, w1] := x_c0 (op := o_ci 103 1) rfl rfl x_noh rfl
theorem x_38_18  : exG TB d 38 18 L (v :: v2 :: st) A = ck (c1 v && c1 v2) (exG TB d 38 19 L (v :: v2 :: v :: st) A) := x_gd (op := o_dupx1) rfl rfl
theorem x_38_19  : exG TB d 38 19 L (v :: .ref p :: st) A = ck ((gf A p 32).isSome && okv 0 v) (exG TB d 38 22 L st (setf A p 32 v)) := x_gd (op := o_put 32 0) rfl rfl
theorem x_38_22  : exG TB d 38 22 L st A = exG TB d 38 26 L st A := x_nx (op := o_goto 26) rfl rfl
theorem x_38_25  : exG TB d 38 25 (a0 :: some v :: r9) st A = rg v (exG TB d 38 26 (a0 :: some v :: r9) (v :: st) A) := x_rg (op := o_aload 1 1) rfl rfl
theorem x_38_26  : exG TB d 38 26 L [v] A = ck (okv 0 v) (some (.inl (some v), A)) := x_outg (op := o_ret 0) rfl rfl
theorem e_39 {j1 : Int32} : evG TB (d + 1) 39 [.ref p, .int j1] A = exG TB d 39 0 [some (.ref p), some (.int j1)] [] A := evG_eq TB d 39 _ A
theorem x_39_0  : exG TB d 39 0 (some v :: r9) st A = rg v (exG TB d 39 1 (some v :: r9) (v :: st) A) := x_rg (op := o_aload 0 1) rfl rfl
theorem x_39_1  : exG TB d 39 1 L [.ref p] A = kc0 (evG TB d 1 [.ref p] A) d 39 4 L [] := x_c0 (op := o_ci 1 0) rfl rfl x_noh rfl
theorem x_39_4  : exG TB d 39 4 (a0 :: some (.int i1) :: r9) st A = exG TB d 39 5 (a0 :: some (.int i1) :: r9) (.int i1 :: st) A := x_nx (op := o_iload 1 1) rfl rfl
theorem x_39_5  : exG TB d 39 5 L (.int i1 :: st) A = if i1 ≤ nI 0 then exG TB d 39 19 L st A else exG TB d 39 8 L st A := x_if (op := o_if (fun x => decide (x ≤ 0)) 19) rfl rfl rfl
theorem x_39_8  : exG TB d 39 8 (some v :: r9) st A = rg v (exG TB d 39 9 (some v :: r9) (v :: st) A) := x_rg (op := o_aload 0 1) rfl rfl
theorem x_39_9  : exG TB d 39 9 (a0 :: some (.int i1) :: r9) st A = exG TB d 39 10 (a0 :: some (.int i1) :: r9) (.int i1 :: st) A := x_nx (op := o_iload 1 1) rfl rfl
theorem x_39_10  : exG TB d 39 10 L (.int i1 :: st) A = ck (okn i1) (exG TB d 39 13 L (.ref (nx A) :: st) (newa A (zar 5 i1.toNatClampNeg))) := x_gd (op := o_newa 5 3) rfl rfl
theorem x_39_13  : exG TB d 39 13 L (v :: .ref p :: st) A = ck ((gf A p 19).isSome && okv 0 v) (exG TB d 39 16 L st (setf A p 19 v)) := x_gd (op := o_put 19 0) rfl rfl
theorem x_39_16  : exG TB d 39 16 L st A = exG TB d 39 60 L st A := x_nx (op := o_goto 60) rfl rfl
theorem x_39_19  : exG TB d 39 19 (a0 :: some (.int i1) :: r9) st A = exG TB d 39 20 (a0 :: some (.int i1) :: r9) (.int i1 :: st) A := x_nx (op := o_iload 1 1) rfl rfl
theorem x_39_20  : exG TB d 39 20 L (.int i1 :: st) A = if ¬ i1 = nI 0 then exG TB d 39 33 L st A else exG TB d 39 23 L st A := x_if (op := o_if (fun x => decide (¬ x = 0)) 33) rfl rfl rfl
theorem x_39_23  : exG TB d 39 23 (some v :: r9) st A = rg v (exG TB d 39 24 (some v :: r9) (v :: st) A) := x_rg (op := o_aload 0 1) rfl rfl
theorem x_39_27  : exG TB d 39 27 L (v :: .ref p :: st) A = ck ((gf A p 19).isSome && okv 0 v) (exG TB d 39 30 L st (setf A p 19 v)) := x_gd (op := o_put 19 0) rfl rfl
theorem x_39_30  : exG TB d 39 30 L st A = exG TB d 39 60 L st A := x_nx (op := o_goto 60) rfl rfl
theorem x_39_36  : exG TB d 39 36 L (v :: st) A = ck (c1 v) (exG TB d 39 37 L (v :: v :: st) A) := x_gd (op := o_dup) rfl rfl
theorem x_39_37  : exG TB d 39 37 L st A = exG TB d 39 40 L (.ref (nx A) :: st) (newo A 4 4 dv4) := x_nx (op := o_new 4 4 dv4) rfl rfl
theorem x_39_40  : exG TB d 39 40 L (v :: st) A = ck (c1 v) (exG TB d 39 41 L (v :: v :: st) A) := x_gd (op := o_dup) rfl rfl
theorem x_39_41  : exG TB d 39 41 L [.ref p, w0, w1, w2] A = kc0 (evG TB d 111 [.ref p] A) d 39 44 L [w0, w1, w2] := x_c0 (op := o_ci 111 0) rfl rfl x_noh rfl
theorem x_39_49  : exG TB d 39 49 (a0 :: some (.int i1) :: r9) st A = exG TB d 39 50 (a0 :: some (.int i1) :: r9) (.int i1 :: st) A := x_nx (op := o_iload 1 1) rfl rfl
theorem x_39_53  : exG TB d 39 53 L [.ref p, w0, w1] A = kw (sel (gc A p) [(4, 112)]) [.ref p] d 39 56 L [w0, w1] A := x_cvb (op := o_cv [(4, 112)] 0 3 false none) rfl rfl x_noh rfl
theorem x_39_60  : exG TB d 39 60 L [] A = some (.inl none, A) := x_out (op := o_vret) rfl rfl
theorem e_40  : evG TB (d + 1) 40 [.ref p] A = exG TB d 40 0 [some (.ref p)] [] A := evG_eq TB d 40 _ A
theorem x_40_0  : exG TB d 40 0 L st A = exG TB d 40 3 L (.ref (nx A) :: st) (newo A 7 4 dv7) := x_nx (op := o_new 7 4 dv7) rfl rfl
theorem x_40_3  : exG TB d 40 3 L (v :: st) A = ck (c1 v) (exG TB d 40 4 L (v :: v :: st) A) := x_gd (op := o_dup) rfl rfl
theorem x_40_4  : exG TB d 40 4 (some v :: r9) st A = rg v (exG TB d 40 5 (some v :: r9) (v :: st) A) := x_rg (op := o_aload 0 1) rfl rfl
theorem x_40_5  : exG TB d 40 5 L [b0, .ref p, w0] A = kc0 (evG TB d 49 [.ref p, b0] A) d 40 8 L [w0] := x_c0 (op := o_ci 49 1) rfl rfl x_noh rfl
theorem x_40_8  : exG TB d 40 8 L [v] A = ck (okv 0 v) (some (.inl (some v), A)) := x_outg (op := o_ret 0) rfl rfl
theorem e_41  : evG TB (d + 1) 41 [.ref p] A = exG TB d 41 0 [some (.ref p)] [] A := evG_eq TB d 41 _ A
theorem x_41_0  : exG TB d 41 0 (some v :: r9) st A = rg v (exG TB d 41 1 (some v :: r9) (v :: st) A) := x_rg (op := o_aload 0 1) rfl rfl
theorem x_41_1  : exG TB d 41 1 L (.ref p :: st) A = kv (gf A p 20) d 41 4 L st A := x_bd (op := o_get 20) rfl rfl (fun _ => rfl)
theorem x_41_4  : exG TB d 41 4 L (.int i1 :: st) A = if ¬ i1 = nI 0 then exG TB d 41 11 L st A else exG TB d 41 7 L st A := x_if (op := o_if (fun x => decide (¬ x = 0)) 11) rfl rfl rfl
theorem x_41_7  : exG TB d 41 7 L st A = exG TB d 41 8 L (.int (nI 1) :: st) A := x_nx (op := o_push 1 (.int 1)) rfl rfl
theorem x_41_8  : exG TB d 41 8 L st A = exG TB d 41 12 L st A := x_nx (op := o_goto 12) rfl rfl
theorem x_41_11  : exG TB d 41 11 L st A = exG TB d 41 12 L (.int (nI 0) :: st) A := x_nx (op := o_push 1 (.int 0)) rfl rfl
theorem x_41_12  : exG TB d 41 12 L [v] A = ck (okv 5 v) (some (.inl (some v), A)) := x_outg (op := o_ret 5) rfl rfl
theorem e_42  : evG TB (d + 1) 42 [.ref p] A = exG TB d 42 0 [some (.ref p)] [] A := evG_eq TB d 42 _ A
theorem x_42_0  : exG TB d 42 0 (some v :: r9) st A = rg v (exG TB d 42 1 (some v :: r9) (v :: st) A) := x_rg (op := o_aload 0 1) rfl rfl
theorem x_42_1  : exG TB d 42 1 L (.ref p :: st) A = kv (gf A p 20) d 42 4 L st A := x_bd (op := o_get 20) rfl rfl (fun _ => rfl)
theorem x_42_4  : exG TB d 42 4 L [v] A = ck (okv 1 v) (some (.inl (some v), A)) := x_outg (op := o_ret 1) rfl rfl
theorem e_43  : evG TB (d + 1) 43 [.ref p, b1] A = rg b1 (exG TB d 43 0 [some (.ref p), some (b1)] [] A) := by
  rw [evG_eq]
  show (bif (true && (isR b1 && true)) then exG TB d 43 0 [some (.ref p), some (b1)] [] A else none) = _
  unfold rg
  cases isR b1 <;> rfl
theorem x_43_0  : exG TB d 43 0 (some v :: r9) st A = rg v (exG TB d 43 1 (some v :: r9) (v :: st) A) := x_rg (op := o_aload 0 1) rfl rfl
theorem x_43_1  : exG TB d 43 1 L (v :: st) A = ck (c1 v) (exG TB d 43 2 L (v :: v :: st) A) := x_gd (op := o_dup) rfl rfl
theorem x_43_2  : exG TB d 43 2 L (.ref p :: st) A = kv (gf A p 18) d 43 5 L st A := x_bd (op := o_get 18) rfl rfl (fun _ => rfl)
theorem x_43_5  : exG TB d 43 5 L st A = exG TB d 43 6 L (.int (nI 1) :: st) A := x_nx (op := o_push 1 (.int 1)) rfl rfl
theorem x_43_6  : exG TB d 43 6 L (.int i2 :: .int i1 :: st) A = exG TB d 43 7 L (.int (i1 + i2) :: st) A := x_nx (op := o_iop (fun x y => x + y)) rfl rfl
theorem x_43_7  : exG TB d 43 7 L (v :: .ref p :: st) A = ck ((gf A p 18).isSome && okv 1 v) (exG TB d 43 10 L st (setf A p 18 v)) := x_gd (op := o_put 18 1) rfl rfl
theorem x_43_10  : exG TB d 43 10 (some v :: r9) st A = rg v (exG TB d 43 11 (some v :: r9) (v :: st) A) := x_rg (op := o_aload 0 1) rfl rfl
theorem x_43_11  : exG TB d 43 11 (a0 :: some v :: r9) st A = rg v (exG TB d 43 12 (a0 :: some v :: r9) (v :: st) A) := x_rg (op := o_aload 1 1) rfl rfl
theorem x_43_12  : exG TB d 43 12 (some v :: r9) st A = rg v (exG TB d 43 13 (some v :: r9) (v :: st) A) := x_rg (op := o_aload 0 1) rfl rfl
theorem x_43_13  : exG TB d 43 13 L (.ref p :: st) A = kv (gf A p 19) d 43 16 L st A := x_bd (op := o_get 19) rfl rfl (fun _ => rfl)
theorem x_43_16  : exG TB d 43 16 (some v :: r9) st A = rg v (exG TB d 43 17 (some v :: r9) (v :: st) A) := x_rg (op := o_aload 0 1) rfl rfl
theorem x_43_17  : exG TB d 43 17 L (.ref p :: st) A = kv (gf A p 20) d 43 20 L st A := x_bd (op := o_get 20) rfl rfl (fun _ => rfl)
theorem x_43_20  : exG TB d 43 20 L [b2, b1, b0, .ref p] A = kw0 (sel (gc A p) [(3, 44)]) [.ref p, b0, b1, b2] d 43 23 L [] A := x_c0b (op := o_cv [(3, 44)] 3 3 true none) rfl rfl x_noh rfl
theorem x_43_23  : exG TB d 43 23 L st A = exG TB d 43 24 L (.int (nI 1) :: st) A := x_nx (op := o_push 1 (.int 1)) rfl rfl
theorem x_43_24  : exG TB d 43 24 L [v] A = ck (okv 5 v) (some (.inl (some v), A)) := x_outg (op := o_ret 5) rfl rfl
theorem e_44 {j3 : Int32} : evG TB (d + 1) 44 [.ref p, b1, b2, .int j3] A = rg b1 (rg b2 (exG TB d 44 0 [some (.ref p), some (b1), some (b2), some (.int j3)] [] A)) := by
  rw [evG_eq]
  show (bif (true && (isR b1 && (isR b2 && (true && true)))) then exG TB d 44 0 [some (.ref p), some (b1), some (b2), some (.int j3)] [] A else none) = _
  unfold rg
  cases isR b1 <;> cases isR b2 <;> rfl
theorem x_44_0  : exG TB d 44 0 (a0 :: a1 :: a2 :: some (.int i1) :: r9) st A = exG TB d 44 1 (a0 :: a1 :: a2 :: some (.int i1) :: r9) (.int i1 :: st) A := x_nx (op := o_iload 3 1) rfl rfl
theorem x_44_1  : exG TB d 44 1 (a0 :: a1 :: some v :: r9) st A = rg v (exG TB d 44 2 (a0 :: a1 :: some v :: r9) (v :: st) A) := x_rg (op := o_aload 2 1) rfl rfl
theorem x_44_2  : exG TB d 44 2 L (.ref p :: st) A = ki (aln (ga A p)) d 44 3 L st A := x_bd (op := o_alen) rfl rfl (fun _ => rfl)
theorem x_44_3  : exG TB d 44 3 L (.int i2 :: .int i1 :: st) A = if ¬ i1 = i2 then exG TB d 44 11 L st A else exG TB d 44 6 L st A := x_if (op := o_icmp (fun x y => decide (¬ x = y)) 11) rfl rfl rfl
theorem x_44_6  : exG TB d 44 6 (some v :: r9) st A = rg v (exG TB d 44 7 (some v :: r9) (v :: st) A) := x_rg (op := o_aload 0 1) rfl rfl
theorem x_44_7  : exG TB d 44 7 L [.ref p] A = kw (sel (gc A p) [(3, 45)]) [.ref p] d 44 10 L [] A := x_cvb (op := o_cv [(3, 45)] 0 3 false none) rfl rfl x_noh rfl
theorem x_44_10  : exG TB d 44 10 (a0 :: a1 :: a2 :: r9) (v :: st) A = rg v (exG TB d 44 11 (a0 :: a1 :: some v :: r9) st A) := x_rgt (op := o_astore 2 1) rfl rfl
theorem x_44_11  : exG TB d 44 11 (a0 :: a1 :: some v :: r9) st A = rg v (exG TB d 44 12 (a0 :: a1 :: some v :: r9) (v :: st) A) := x_rg (op := o_aload 2 1) rfl rfl
theorem x_44_12  : exG TB d 44 12 (a0 :: a1 :: a2 :: some (.int i1) :: r9) st A = exG TB d 44 13 (a0 :: a1 :: a2 :: some (.int i1) :: r9) (.int i1 :: st) A := x_nx (op := o_iload 3 1) rfl rfl
theorem x_44_13  : exG TB d 44 13 (a0 :: some v :: r9) st A = rg v (exG TB d 44 14 (a0 :: some v :: r9) (v :: st) A) := x_rg (op := o_aload 1 1) rfl rfl
theorem x_44_14r  : exG TB d 44 14 L (.ref q :: .int i1 :: .ref p :: st) A = ck (atag (ga A p) 5 && okq A [0, 1, 2, 3, 4, 5, 6, 7, 8, 9, 10, 11, 12, 13, 14, 15, 16, 17, 18, 19, 20, 21, 22, 23, 24, 25, 26, 27, 28, 29, 30, 31, 32, 33, 34] (.ref q)) (ka (wrQ (ga A p) i1 (some q)) p d 44 15 L st A) := x_gb (op := o_wrQ 5 [0, 1, 2, 3, 4, 5, 6, 7, 8, 9, 10, 11, 12, 13, 14, 15, 16, 17, 18, 19, 20, 21, 22, 23, 24, 25, 26, 27, 28, 29, 30, 31, 32, 33, 34]) rfl rfl (fun _ => rfl)
theorem x_44_14n  : exG TB d 44 14 L (.null :: .int i1 :: .ref p :: st) A = ck (atag (ga A p) 5 && okq A [0, 1, 2, 3, 4, 5, 6, 7, 8, 9, 10, 11, 12, 13, 14, 15, 16, 17, 18, 19, 20, 21, 22, 23, 24, 25, 26, 27, 28, 29, 30, 31, 32, 33, 34] (.null)) (ka (wrQ (ga A p) i1 none) p d 44 15 L st A) := x_gb (op := o_wrQ 5 [0, 1, 2, 3, 4, 5, 6, 7, 8, 9, 10, 11, 12, 13, 14, 15, 16, 17, 18, 19, 20, 21, 22, 23, 24, 25, 26, 27, 28, 29, 30, 31, 32, 33, 34]) rfl rfl (fun _ => rfl)
theorem x_44_15  : exG TB d 44 15 (some v :: r9) st A = rg v (exG TB d 44 16 (some v :: r9) (v :: st) A) := x_rg (op := o_aload 0 1) rfl rfl
theorem x_44_16  : exG TB d 44 16 (a0 :: a1 :: a2 :: some (.int i1) :: r9) st A = exG TB d 44 17 (a0 :: a1 :: a2 :: some (.int i1) :: r9) (.int i1 :: st) A := x_nx (op := o_iload 3 1) rfl rfl
theorem x_44_17  : exG TB d 44 17 L st A = exG TB d 44 18 L (.int (nI 1) :: st) A := x_nx (op := o_push 1 (.int 1)) rfl rfl
theorem x_44_18  : exG TB d 44 18 L (.int i2 :: .int i1 :: st) A = exG TB d 44 19 L (.int (i1 + i2) :: st) A := x_nx (op := o_iop (fun x y => x + y)) rfl rfl
theorem x_44_19  : exG TB d 44 19 L (v :: .ref p :: st) A = ck ((gf A p 20).isSome && okv 1 v) (exG TB d 44 22 L st (setf A p 20 v)) := x_gd (op := o_put 20 1) rfl rfl
theorem x_44_22  : exG TB d 44 22 L [] A = some (.inl none, A) := x_out (op := o_vret) rfl rfl
theorem e_45  : evG TB (d + 1) 45 [.ref p] A = exG TB d 45 0 [some (.ref p)] [] A := evG_eq TB d 45 _ A
theorem x_45_0  : exG TB d 45 0 (some v :: r9) st A = rg v (exG TB d 45 1 (some v :: r9) (v :: st) A) := x_rg (op := o_aload 0 1) rfl rfl
theorem x_45_1  : exG TB d 45 1 (some v :: r9) st A = rg v (exG TB d 45 2 (some v :: r9) (v :: st) A) := x_rg (op := o_aload 0 1) rfl rfl
theorem x_45_2  : exG TB d 45 2 L (.ref p :: st) A = kv (gf A p 20) d 45 5 L st A := x_bd (op := o_get 20) rfl rfl (fun _ => rfl)
theorem x_45_5  : exG TB d 45 5 L st A = exG TB d 45 6 L (.int (nI 1) :: st) A := x_nx (op := o_push 1 (.int 1)) rfl rfl
theorem x_45_6  : exG TB d 45 6 L (.int i2 :: .int i1 :: st) A = exG TB d 45 7 L (.int (i1 + i2) :: st) A := x_nx (op := o_iop (fun x y => x + y)) rfl rfl
theorem x_45_7  : exG TB d 45 7 L [b0, .ref p] A = kw (sel (gc A p) [(3, 46)]) [.ref p, b0] d 45 10 L [] A := x_cvb (op := o_cv [(3, 46)] 1 3 false none) rfl rfl x_noh rfl
theorem x_45_10  : exG TB d 45 10 L [v] A = ck (okv 0 v) (some (.inl (some v), A)) := x_outg (op := o_ret 0) rfl rfl
theorem e_46 {j1 : Int32} : evG TB (d + 1) 46 [.ref p, .int j1] A = exG TB d 46 0 [some (.ref p), some (.int j1), none, none] [] A := evG_eq TB d 46 _ A
theorem x_46_0  : exG TB d 46 0 (some v :: r9) st A = rg v (exG TB d 46 1 (some v :: r9) (v :: st) A) := x_rg (op := o_aload 0 1) rfl rfl
theorem x_46_1  : exG TB d 46 1 L (.ref p :: st) A = kv (gf A p 19) d 46 4 L st A := x_bd (op := o_get 19) rfl rfl (fun _ => rfl)
theorem x_46_4  : exG TB d 46 4 L (.ref p :: st) A = ki (aln (ga A p)) d 46 5 L st A := x_bd (op := o_alen) rfl rfl (fun _ => rfl)
theorem x_46_5  : exG TB d 46 5 (a0 :: a1 :: a2 :: r9) (.int i1 :: st) A = exG TB d 46 6 (a0 :: a1 :: some (.int i1) :: r9) st A := x_nx (op := o_istore 2 1) rfl rfl
theorem x_46_6  : exG TB d 46 6 (a0 :: a1 :: some (.int i1) :: r9) st A = exG TB d 46 7 (a0 :: a1 :: some (.int i1) :: r9) (.int i1 :: st) A := x_nx (op := o_iload 2 1) rfl rfl
theorem x_46_7  : exG TB d 46 7 L (.int i1 :: st) A = if nI 0 < i1 then exG TB d 46 20 L st A else exG TB d 46 10 L st A := x_if (op := o_if (fun x => decide (0 < x)) 20) rfl rfl rfl
theorem x_46_10  : exG TB d 46 10 (some v :: r9) st A = rg v (exG TB d 46 11 (some v :: r9) (v :: st) A) := x_rg (op := o_aload 0 1) rfl rfl
theorem x_46_11  : exG TB d 46 11 L (.ref p :: st) A = kv (gf A p 19) d 46 14 L st A := x_bd (op := o_get 19) rfl rfl (fun _ => rfl)
theorem x_46_17  : exG TB d 46 17 L (.ref q :: .ref p :: st) A = if p = q then exG TB d 46 45 L st A else exG TB d 46 20 L st A := x_if (op := o_acmp true 45) rfl (ac_t p q) rfl
theorem x_46_17rn  : exG TB d 46 17 L (.null :: .ref p :: st) A = exG TB d 46 20 L st A := x_nx (op := o_acmp true 45) rfl rfl
theorem x_46_17nr  : exG TB d 46 17 L (.ref p :: .null :: st) A = exG TB d 46 20 L st A := x_nx (op := o_acmp true 45) rfl rfl
theorem x_46_17nn  : exG TB d 46 17 L (.null :: .null :: st) A = exG TB d 46 45 L st A := x_nx (op := o_acmp true 45) rfl rfl
theorem x_46_20  : exG TB d 46 20 (a0 :: a1 :: some (.int i1) :: r9) st A = exG TB d 46 21 (a0 :: a1 :: some (.int i1) :: r9) (.int i1 :: st) A := x_nx (op := o_iload 2 1) rfl rfl
theorem x_46_21  : exG TB d 46 21 (a0 :: some (.int i1) :: r9) st A = exG TB d 46 22 (a0 :: some (.int i1) :: r9) (.int i1 :: st) A := x_nx (op := o_iload 1 1) rfl rfl
theorem x_46_22  : exG TB d 46 22 (a0 :: a1 :: some (.int i1) :: r9) st A = exG TB d 46 23 (a0 :: a1 :: some (.int i1) :: r9) (.int i1 :: st) A := x_nx (op := o_iload 2 1) rfl rfl
theorem x_46_23  : exG TB d 46 23 L (.int i2 :: .int i1 :: st) A = exG TB d 46 24 L (.int (i1 - i2) :: st) A := x_nx (op := o_iop (fun x y => x - y)) rfl rfl
theorem x_46_24  : exG TB d 46 24 (a0 :: a1 :: some (.int i1) :: r9) st A = exG TB d 46 25 (a0 :: a1 :: some (.int i1) :: r9) (.int i1 :: st) A := x_nx (op := o_iload 2 1) rfl rfl
theorem x_46_25  : exG TB d 46 25 L st A = exG TB d 46 26 L (.int (nI 1) :: st) A := x_nx (op := o_push 1 (.int 1)) rfl rfl
theorem x_46_26  : exG TB d 46 26 L (.int i2 :: .int i1 :: st) A = exG TB d 46 27 L (.int (i1 >>> (i2 &&& 31)) :: st) A := x_nx (op := o_iop (fun x y => x >>> (y &&& 31))) rfl rfl
theorem x_46_27  : exG TB d 46 27 L [b2, b1, b0] A = kc (evG TB d 2 [b0, b1, b2] A) d 46 30 L [] := x_cv (op := o_cs 2 3 false none) rfl rfl x_noh rfl
theorem x_46_30  : exG TB d 46 30 (a0 :: a1 :: a2 :: a3 :: r9) (.int i1 :: st) A = exG TB d 46 31 (a0 :: a1 :: a2 :: some (.int i1) :: r9) st A := x_nx (op := o_istore 3 1) rfl rfl
theorem x_46_31  : exG TB d 46 31 (some v :: r9) st A = rg v (exG TB d 46 32 (some v :: r9) (v :: st) A) := x_rg (op := o_aload 0 1) rfl rfl
theorem x_46_32  : exG TB d 46 32 (some v :: r9) st A = rg v (exG TB d 46 33 (some v :: r9) (v :: st) A) := x_rg (op := o_aload 0 1) rfl rfl
theorem x_46_33  : exG TB d 46 33 L (.ref p :: st) A = kv (gf A p 19) d 46 36 L st A := x_bd (op := o_get 19) rfl rfl (fun _ => rfl)
theorem x_46_36  : exG TB d 46 36 (a0 :: a1 :: a2 :: some (.int i1) :: r9) st A = exG TB d 46 37 (a0 :: a1 :: a2 :: some (.int i1) :: r9) (.int i1 :: st) A := x_nx (op := o_iload 3 1) rfl rfl
theorem x_46_37  : exG TB d 46 37 L [b1, b0, w0] A = kc (evG TB d 13 [b0, b1] A) d 46 40 L [w0] := x_cv (op := o_cs 13 2 false none) rfl rfl x_noh rfl
theorem x_46_40  : exG TB d 46 40 L (v :: v2 :: st) A = ck (c1 v && c1 v2) (exG TB d 46 41 L (v :: v2 :: v :: st) A) := x_gd (op := o_dupx1) rfl rfl
theorem x_46_41  : exG TB d 46 41 L (v :: .ref p :: st) A = ck ((gf A p 19).isSome && okv 0 v) (exG TB d 46 44 L st (setf A p 19 v)) := x_gd (op := o_put 19 0) rfl rfl
theorem x_46_44  : exG TB d 46 44 L [v] A = ck (okv 0 v) (some (.inl (some v), A)) := x_outg (op := o_ret 0) rfl rfl
theorem x_46_45  : exG TB d 46 45 (some v :: r9) st A = rg v (exG TB d 46 46 (some v :: r9) (v :: st) A) := x_rg (op := o_aload 0 1) rfl rfl
theorem x_46_46  : exG TB d 46 46 L st A = exG TB d 46 48 L (.int (nI 10) :: st) A := x_nx (op := o_push 2 (.int 10)) rfl rfl
theorem x_46_48  : exG TB d 46 48 (a0 :: some (.int i1) :: r9) st A = exG TB d 46 49 (a0 :: some (.int i1) :: r9) (.int i1 :: st) A := x_nx (op := o_iload 1 1) rfl rfl
theorem x_46_49  : exG TB d 46 49 L [b1, b0, w0] A = kc (evG TB d 6 [b0, b1] A) d 46 52 L [w0] := x_cv (op := o_cs 6 2 false none) rfl rfl x_noh rfl
theorem x_46_52  : exG TB d 46 52 L (.int i1 :: st) A = ck (okn i1) (exG TB d 46 55 L (.ref (nx A) :: st) (newa A (zar 5 i1.toNatClampNeg))) := x_gd (op := o_newa 5 3) rfl rfl
theorem x_46_55  : exG TB d 46 55 L (v :: v2 :: st) A = ck (c1 v && c1 v2) (exG TB d 46 56 L (v :: v2 :: v :: st) A) := x_gd (op := o_dupx1) rfl rfl
theorem x_46_56  : exG TB d 46 56 L (v :: .ref p :: st) A = ck ((gf A p 19).isSome && okv 0 v) (exG TB d 46 59 L st (setf A p 19 v)) := x_gd (op := o_put 19 0) rfl rfl
theorem x_46_59  : exG TB d 46 59 L [v] A = ck (okv 0 v) (some (.inl (some v), A)) := x_outg (op := o_ret 0) rfl rfl
theorem e_47 {j1 : Int32} : evG TB (d + 1) 47 [.ref p, .int j1] A = exG TB d 47 0 [some (.ref p), some (.int j1)] [] A := evG_eq TB d 47 _ A
theorem x_47_0  : exG TB d 47 0 (a0 :: some (.int i1) :: r9) st A = exG TB d 47 1 (a0 :: some (.int i1) :: r9) (.int i1 :: st) A := x_nx (op := o_iload 1 1) rfl rfl
theorem x_47_1  : exG TB d 47 1 (some v :: r9) st A = rg v (exG TB d 47 2 (some v :: r9) (v :: st) A) := x_rg (op := o_aload 0 1) rfl rfl
theorem x_47_2  : exG TB d 47 2 L (.ref p :: st) A = kv (gf A p 20) d 47 5 L st A := x_bd (op := o_get 20) rfl rfl (fun _ => rfl)
theorem x_47_5  : exG TB d 47 5 L [b1, b0] A = kc (evG TB d 70 [b0, b1] A) d 47 8 L [] := x_cv (op := o_cs 70 2 false none) rfl rfl x_noh rfl
theorem x_47_8  : exG TB d 47 8 L (v :: st) A = ck (c1 v) (exG TB d 47 9 L st A) := x_gd (op := o_pop) rfl rfl
theorem x_47_9  : exG TB d 47 9 (some v :: r9) st A = rg v (exG TB d 47 10 (some v :: r9) (v :: st) A) := x_rg (op := o_aload 0 1) rfl rfl
theorem x_47_10  : exG TB d 47 10 (a0 :: some (.int i1) :: r9) st A = exG TB d 47 11 (a0 :: some (.int i1) :: r9) (.int i1 :: st) A := x_nx (op := o_iload 1 1) rfl rfl
theorem x_47_11  : exG TB d 47 11 L [b0, .ref p] A = kw (sel (gc A p) [(3, 48)]) [.ref p, b0] d 47 14 L [] A := x_cvb (op := o_cv [(3, 48)] 1 3 false none) rfl rfl x_noh rfl
theorem x_47_14  : exG TB d 47 14 L [v] A = ck (okv 0 v) (some (.inl (some v), A)) := x_outg (op := o_ret 0) rfl rfl
theorem e_48 {j1 : Int32} : evG TB (d + 1) 48 [.ref p, .int j1] A = exG TB d 48 0 [some (.ref p), some (.int j1)] [] A := evG_eq TB d 48 _ A
theorem x_48_0  : exG TB d 48 0 (some v :: r9) st A = rg v (exG TB d 48 1 (some v :: r9) (v :: st) A) := x_rg (op := o_aload 0 1) rfl rfl
theorem x_48_1  : exG TB d 48 1 L (.ref p :: st) A = kv (gf A p 19) d 48 4 L st A := x_bd (op := o_get 19) rfl rfl (fun _ => rfl)
theorem x_48_4  : exG TB d 48 4 (a0 :: some (.int i1) :: r9) st A = exG TB d 48 5 (a0 :: some (.int i1) :: r9) (.int i1 :: st) A := x_nx (op := o_iload 1 1) rfl rfl
theorem x_48_5  : exG TB d 48 5 L (.int i1 :: .ref p :: st) A = kq (rdQ (ga A p) i1) d 48 6 L st A := x_bd (op := o_rdQ) rfl rfl (fun _ => rfl)
theorem x_48_6  : exG TB d 48 6 L [v] A = ck (okv 0 v) (some (.inl (some v), A)) := x_outg (op := o_ret 0) rfl rfl
theorem e_49  : evG TB (d + 1) 49 [.ref p, b1] A = rg b1 (exG TB d 49 0 [some (.ref p), some (b1)] [] A) := by
  rw [evG_eq]
  show (bif (true && (isR b1 && true)) then exG TB d 49 0 [some (.ref p), some (b1)] [] A else none) = _
  unfold rg
  cases isR b1 <;> rfl
theorem x_49_0  : exG TB d 49 0 (some v :: r9) st A = rg v (exG TB d 49 1 (some v :: r9) (v :: st) A) := x_rg (op := o_aload 0 1) rfl rfl
theorem x_49_1  : exG TB d 49 1 (a0 :: some v :: r9) st A = rg v (exG TB d 49 2 (a0 :: some v :: r9) (v :: st) A) := x_rg (op := o_aload 1 1) rfl rfl
theorem x_49_2  : exG TB d 49 2 L (v :: .ref p :: st) A = ck ((gf A p 40).isSome && okv 0 v) (exG TB d 49 5 L st (setf A p 40 v)) := x_gd (op := o_put 40 0) rfl rfl
theorem x_49_5  : exG TB d 49 5 (some v :: r9) st A = rg v (exG TB d 49 6 (some v :: r9) (v :: st) A) := x_rg (op := o_aload 0 1) rfl rfl
theorem x_49_6  : exG TB d 49 6 L [.ref p] A = exG TB d 49 9 L [] A := x_nx (op := o_oi) rfl rfl
theorem x_49_9  : exG TB d 49 9 (some v :: r9) st A = rg v (exG TB d 49 10 (some v :: r9) (v :: st) A) := x_rg (op := o_aload 0 1) rfl rfl
theorem x_49_10  : exG TB d 49 10 L st A = exG TB d 49 11 L (.int nN :: st) A := x_nx (op := o_push 1 (.int (-1))) rfl rfl
theorem x_49_11  : exG TB d 49 11 L (v :: .ref p :: st) A = ck ((gf A p 38).isSome && okv 1 v) (exG TB d 49 14 L st (setf A p 38 v)) := x_gd (op := o_put 38 1) rfl rfl
theorem x_49_14  : exG TB d 49 14 (some v :: r9) st A = rg v (exG TB d 49 15 (some v :: r9) (v :: st) A) := x_rg (op := o_aload 0 1) rfl rfl
theorem x_49_15  : exG TB d 49 15 (some v :: r9) st A = rg v (exG TB d 49 16 (some v :: r9) (v :: st) A) := x_rg (op := o_aload 0 1) rfl rfl
theorem x_49_16  : exG TB d 49 16 L (.ref p :: st) A = kv (gf A p 40) d 49 19 L st A := x_bd (op := o_get 40) rfl rfl (fun _ => rfl)
theorem x_49_19  : exG TB d 49 19 L (.ref p :: st) A = kv (gf A p 18) d 49 22 L st A := x_bd (op := o_get 18) rfl rfl (fun _ => rfl)
theorem x_49_22  : exG TB d 49 22 L (v :: .ref p :: st) A = ck ((gf A p 39).isSome && okv 1 v) (exG TB d 49 25 L st (setf A p 39 v)) := x_gd (op := o_put 39 1) rfl rfl
theorem x_49_25  : exG TB d 49 25 L [] A = some (.inl none, A) := x_out (op := o_vret) rfl rfl
theorem e_50  : evG TB (d + 1) 50 [.ref p] A = exG TB d 50 0 [some (.ref p)] [] A := evG_eq TB d 50 _ A
theorem x_50_0  : exG TB d 50 0 (some v :: r9) st A = rg v (exG TB d 50 1 (some v :: r9) (v :: st) A) := x_rg (op := o_aload 0 1) rfl rfl
theorem x_50_1  : exG TB d 50 1 L (.ref p :: st) A = kv (gf A p 37) d 50 4 L st A := x_bd (op := o_get 37) rfl rfl (fun _ => rfl)
theorem x_50_4  : exG TB d 50 4 (some v :: r9) st A = rg v (exG TB d 50 5 (some v :: r9) (v :: st) A) := x_rg (op := o_aload 0 1) rfl rfl
theorem x_50_5  : exG TB d 50 5 L (.ref p :: st) A = kv (gf A p 40) d 50 8 L st A := x_bd (op := o_get 40) rfl rfl (fun _ => rfl)
theorem x_50_8  : exG TB d 50 8 L (.ref p :: st) A = kv (gf A p 20) d 50 11 L st A := x_bd (op := o_get 20) rfl rfl (fun _ => rfl)
theorem x_50_11  : exG TB d 50 11 L (.int i2 :: .int i1 :: st) A = if i1 = i2 then exG TB d 50 18 L st A else exG TB d 50 14 L st A := x_if (op := o_icmp (fun x y => decide (x = y)) 18) rfl rfl rfl
theorem x_50_14  : exG TB d 50 14 L st A = exG TB d 50 15 L (.int (nI 1) :: st) A := x_nx (op := o_push 1 (.int 1)) rfl rfl
theorem x_50_15  : exG TB d 50 15 L st A = exG TB d 50 19 L st A := x_nx (op := o_goto 19) rfl rfl
theorem x_50_18  : exG TB d 50 18 L st A = exG TB d 50 19 L (.int (nI 0) :: st) A := x_nx (op := o_push 1 (.int 0)) rfl rfl
theorem x_50_19  : exG TB d 50 19 L [v] A = ck (okv 5 v) (some (.inl (some v), A)) := x_outg (op := o_ret 5) rfl rfl
theorem e_51  : evG TB (d + 1) 51 [.ref p] A = exG TB d 51 0 [some (.ref p), none, none] [] A := evG_eq TB d 51 _ A
theorem x_51_0  : exG TB d 51 0 (some v :: r9) st A = rg v (exG TB d 51 1 (some v :: r9) (v :: st) A) := x_rg (op := o_aload 0 1) rfl rfl
theorem x_51_1  : exG TB d 51 1 L [.ref p] A = kw0 (sel (gc A p) [(7, 52)]) [.ref p] d 51 4 L [] A := x_c0b (op := o_cv [(7, 52)] 0 3 true none) rfl rfl x_noh rfl
theorem x_51_4  : exG TB d 51 4 (some v :: r9) st A = rg v (exG TB d 51 5 (some v :: r9) (v :: st) A) := x_rg (op := o_aload 0 1) rfl rfl
theorem x_51_5  : exG TB d 51 5 L (.ref p :: st) A = kv (gf A p 37) d 51 8 L st A := x_bd (op := o_get 37) rfl rfl (fun _ => rfl)
theorem x_51_8  : exG TB d 51 8 (a0 :: a1 :: r9) (.int i1 :: st) A = exG TB d 51 9 (a0 :: some (.int i1) :: r9) st A := x_nx (op := o_istore 1 1) rfl rfl
theorem x_51_9  : exG TB d 51 9 (a0 :: some (.int i1) :: r9) st A = exG TB d 51 10 (a0 :: some (.int i1) :: r9) (.int i1 :: st) A := x_nx (op := o_iload 1 1) rfl rfl
theorem x_51_10  : exG TB d 51 10 (some v :: r9) st A = rg v (exG TB d 51 11 (some v :: r9) (v :: st) A) := x_rg (op := o_aload 0 1) rfl rfl
theorem x_51_11  : exG TB d 51 11 L (.ref p :: st) A = kv (gf A p 40) d 51 14 L st A := x_bd (op := o_get 40) rfl rfl (fun _ => rfl)
theorem x_51_14  : exG TB d 51 14 L (.ref p :: st) A = kv (gf A p 20) d 51 17 L st A := x_bd (op := o_get 20) rfl rfl (fun _ => rfl)
theorem x_51_17  : exG TB d 51 17 L (.int i2 :: .int i1 :: st) A = if i1 < i2 then exG TB d 51 28 L st A else exG TB d 51 20 L st A := x_if (op := o_icmp (fun x y => decide (x < y)) 28) rfl rfl rfl
theorem x_51_23  : exG TB d 51 23 L (v :: st) A = ck (c1 v) (exG TB d 51 24 L (v :: v :: st) A) := x_gd (op := o_dup) rfl rfl
theorem x_51_28  : exG TB d 51 28 (some v :: r9) st A = rg v (exG TB d 51 29 (some v :: r9) (v :: st) A) := x_rg (op := o_aload 0 1) rfl rfl
theorem x_51_29  : exG TB d 51 29 L (.ref p :: st) A = kv (gf A p 40) d 51 32 L st A := x_bd (op := o_get 40) rfl rfl (fun _ => rfl)
theorem x_51_32  : exG TB d 51 32 L (.ref p :: st) A = kv (gf A p 19) d 51 35 L st A := x_bd (op := o_get 19) rfl rfl (fun _ => rfl)
theorem x_51_35  : exG TB d 51 35 (a0 :: a1 :: a2 :: r9) (v :: st) A = rg v (exG TB d 51 36 (a0 :: a1 :: some v :: r9) st A) := x_rgt (op := o_astore 2 1) rfl rfl
theorem x_51_36  : exG TB d 51 36 (a0 :: some (.int i1) :: r9) st A = exG TB d 51 37 (a0 :: some (.int i1) :: r9) (.int i1 :: st) A := x_nx (op := o_iload 1 1) rfl rfl
theorem x_51_37  : exG TB d 51 37 (a0 :: a1 :: some v :: r9) st A = rg v (exG TB d 51 38 (a0 :: a1 :: some v :: r9) (v :: st) A) := x_rg (op := o_aload 2 1) rfl rfl
theorem x_51_38  : exG TB d 51 38 L (.ref p :: st) A = ki (aln (ga A p)) d 51 39 L st A := x_bd (op := o_alen) rfl rfl (fun _ => rfl)
theorem x_51_39  : exG TB d 51 39 L (.int i2 :: .int i1 :: st) A = if i1 < i2 then exG TB d 51 50 L st A else exG TB d 51 42 L st A := x_if (op := o_icmp (fun x y => decide (x < y)) 50) rfl rfl rfl
theorem x_51_45  : exG TB d 51 45 L (v :: st) A = ck (c1 v) (exG TB d 51 46 L (v :: v :: st) A) := x_gd (op := o_dup) rfl rfl
theorem x_51_50  : exG TB d 51 50 (some v :: r9) st A = rg v (exG TB d 51 51 (some v :: r9) (v :: st) A) := x_rg (op := o_aload 0 1) rfl rfl
theorem x_51_51  : exG TB d 51 51 (a0 :: some (.int i1) :: r9) st A = exG TB d 51 52 (a0 :: some (.int i1) :: r9) (.int i1 :: st) A := x_nx (op := o_iload 1 1) rfl rfl
theorem x_51_52  : exG TB d 51 52 L st A = exG TB d 51 53 L (.int (nI 1) :: st) A := x_nx (op := o_push 1 (.int 1)) rfl rfl
theorem x_51_53  : exG TB d 51 53 L (.int i2 :: .int i1 :: st) A = exG TB d 51 54 L (.int (i1 + i2) :: st) A := x_nx (op := o_iop (fun x y => x + y)) rfl rfl
theorem x_51_54  : exG TB d 51 54 L (v :: .ref p :: st) A = ck ((gf A p 37).isSome && okv 1 v) (exG TB d 51 57 L st (setf A p 37 v)) := x_gd (op := o_put 37 1) rfl rfl
theorem x_51_57  : exG TB d 51 57 (a0 :: a1 :: some v :: r9) st A = rg v (exG TB d 51 58 (a0 :: a1 :: some v :: r9) (v :: st) A) := x_rg (op := o_aload 2 1) rfl rfl
theorem x_51_58  : exG TB d 51 58 (some v :: r9) st A = rg v (exG TB d 51 59 (some v :: r9) (v :: st) A) := x_rg (op := o_aload 0 1) rfl rfl
theorem x_51_59  : exG TB d 51 59 (a0 :: some (.int i1) :: r9) st A = exG TB d 51 60 (a0 :: some (.int i1) :: r9) (.int i1 :: st) A := x_nx (op := o_iload 1 1) rfl rfl
theorem x_51_60  : exG TB d 51 60 L (v :: v2 :: st) A = ck (c1 v && c1 v2) (exG TB d 51 61 L (v :: v2 :: v :: st) A) := x_gd (op := o_dupx1) rfl rfl
theorem x_51_61  : exG TB d 51 61 L (v :: .ref p :: st) A = ck ((gf A p 38).isSome && okv 1 v) (exG TB d 51 64 L st (setf A p 38 v)) := x_gd (op := o_put 38 1) rfl rfl
theorem x_51_64  : exG TB d 51 64 L (.int i1 :: .ref p :: st) A = kq (rdQ (ga A p) i1) d 51 65 L st A := x_bd (op := o_rdQ) rfl rfl (fun _ => rfl)
theorem x_51_65  : exG TB d 51 65 L [v] A = ck (okv 0 v) (some (.inl (some v), A)) := x_outg (op := o_ret 0) rfl rfl
theorem e_52  : evG TB (d + 1) 52 [.ref p] A = exG TB d 52 0 [some (.ref p)] [] A := evG_eq TB d 52 _ A
theorem x_52_0  : exG TB d 52 0 (some v :: r9) st A = rg v (exG TB d 52 1 (some v :: r9) (v :: st) A) := x_rg (op := o_aload 0 1) rfl rfl
theorem x_52_1  : exG TB d 52 1 L (.ref p :: st) A = kv (gf A p 40) d 52 4 L st A := x_bd (op := o_get 40) rfl rfl (fun _ => rfl)
theorem x_52_4  : exG TB d 52 4 L (.ref p :: st) A = kv (gf A p 18) d 52 7 L st A := x_bd (op := o_get 18) rfl rfl (fun _ => rfl)
theorem x_52_7  : exG TB d 52 7 (some v :: r9) st A = rg v (exG TB d 52 8 (some v :: r9) (v :: st) A) := x_rg (op := o_aload 0 1) rfl rfl
theorem x_52_8  : exG TB d 52 8 L (.ref p :: st) A = kv (gf A p 39) d 52 11 L st A := x_bd (op := o_get 39) rfl rfl (fun _ => rfl)
theorem x_52_11  : exG TB d 52 11 L (.int i2 :: .int i1 :: st) A = if i1 = i2 then exG TB d 52 22 L st A else exG TB d 52 14 L st A := x_if (op := o_icmp (fun x y => decide (x = y)) 22) rfl rfl rfl
theorem x_52_17  : exG TB d 52 17 L (v :: st) A = ck (c1 v) (exG TB d 52 18 L (v :: v :: st) A) := x_gd (op := o_dup) rfl rfl
theorem x_52_22  : exG TB d 52 22 L [] A = some (.inl none, A) := x_out (op := o_vret) rfl rfl
theorem e_53  : evG TB (d + 1) 53 [b0] A = rg b0 (exG TB d 53 0 [some (b0), none, none] [] A) := by
  rw [evG_eq]
  show (bif (isR b0 && true) then exG TB d 53 0 [some (b0), none, none] [] A else none) = _
  unfold rg
  cases isR b0 <;> rfl
theorem x_53_0  : exG TB d 53 0 (some v :: r9) st A = rg v (exG TB d 53 1 (some v :: r9) (v :: st) A) := x_rg (op := o_aload 0 1) rfl rfl
theorem x_53_1n  : exG TB d 53 1 L (.null :: st) A = exG TB d 53 4 L st A := x_nx (op := o_ifnonnull 6) rfl rfl
theorem x_53_1r  : exG TB d 53 1 L (.ref p :: st) A = exG TB d 53 6 L st A := x_nx (op := o_ifnonnull 6) rfl rfl
theorem x_53_4  : exG TB d 53 4 L st A = exG TB d 53 5 L (.null :: st) A := x_nx (op := o_push 1 .null) rfl rfl
theorem x_53_5  : exG TB d 53 5 L [v] A = ck (okv 0 v) (some (.inl (some v), A)) := x_outg (op := o_ret 0) rfl rfl
theorem x_53_6  : exG TB d 53 6 (some v :: r9) st A = rg v (exG TB d 53 7 (some v :: r9) (v :: st) A) := x_rg (op := o_aload 0 1) rfl rfl
theorem x_53_7  : exG TB d 53 7 L (.ref p :: st) A = kv (gf A p 113) d 53 10 L st A := x_bd (op := o_get 113) rfl rfl (fun _ => rfl)
theorem x_53_10n  : exG TB d 53 10 L (.null :: st) A = exG TB d 53 35 L st A := x_nx (op := o_ifnull 35) rfl rfl
theorem x_53_10r  : exG TB d 53 10 L (.ref p :: st) A = exG TB d 53 13 L st A := x_nx (op := o_ifnull 35) rfl rfl
theorem x_53_13  : exG TB d 53 13 (some v :: r9) st A = rg v (exG TB d 53 14 (some v :: r9) (v :: st) A) := x_rg (op := o_aload 0 1) rfl rfl
theorem x_53_14  : exG TB d 53 14 L (.ref p :: st) A = kv (gf A p 113) d 53 17 L st A := x_bd (op := o_get 113) rfl rfl (fun _ => rfl)
theorem x_53_17  : exG TB d 53 17 (a0 :: a1 :: r9) (v :: st) A = rg v (exG TB d 53 18 (a0 :: some v :: r9) st A) := x_rgt (op := o_astore 1 1) rfl rfl
theorem x_53_18  : exG TB d 53 18 (a0 :: some v :: r9) st A = rg v (exG TB d 53 19 (a0 :: some v :: r9) (v :: st) A) := x_rg (op := o_aload 1 1) rfl rfl
theorem x_53_19  : exG TB d 53 19 L (.ref p :: st) A = kv (gf A p 112) d 53 22 L st A := x_bd (op := o_get 112) rfl rfl (fun _ => rfl)
theorem x_53_22n  : exG TB d 53 22 L (.null :: st) A = exG TB d 53 33 L st A := x_nx (op := o_ifnull 33) rfl rfl
theorem x_53_22r  : exG TB d 53 22 L (.ref p :: st) A = exG TB d 53 25 L st A := x_nx (op := o_ifnull 33) rfl rfl
theorem x_53_25  : exG TB d 53 25 (a0 :: some v :: r9) st A = rg v (exG TB d 53 26 (a0 :: some v :: r9) (v :: st) A) := x_rg (op := o_aload 1 1) rfl rfl
theorem x_53_26  : exG TB d 53 26 L (.ref p :: st) A = kv (gf A p 112) d 53 29 L st A := x_bd (op := o_get 112) rfl rfl (fun _ => rfl)
theorem x_53_29  : exG TB d 53 29 (a0 :: a1 :: r9) (v :: st) A = rg v (exG TB d 53 30 (a0 :: some v :: r9) st A) := x_rgt (op := o_astore 1 1) rfl rfl
theorem x_53_30  : exG TB d 53 30 L st A = exG TB d 53 18 L st A := x_nx (op := o_goto 18) rfl rfl
theorem x_53_33  : exG TB d 53 33 (a0 :: some v :: r9) st A = rg v (exG TB d 53 34 (a0 :: some v :: r9) (v :: st) A) := x_rg (op := o_aload 1 1) rfl rfl
theorem x_53_34  : exG TB d 53 34 L [v] A = ck (okv 0 v) (some (.inl (some v), A)) := x_outg (op := o_ret 0) rfl rfl
theorem x_53_35  : exG TB d 53 35 (some v :: r9) st A = rg v (exG TB d 53 36 (some v :: r9) (v :: st) A) := x_rg (op := o_aload 0 1) rfl rfl
theorem x_53_36  : exG TB d 53 36 L (.ref p :: st) A = kv (gf A p 114) d 53 39 L st A := x_bd (op := o_get 114) rfl rfl (fun _ => rfl)
theorem x_53_39  : exG TB d 53 39 (a0 :: a1 :: r9) (v :: st) A = rg v (exG TB d 53 40 (a0 :: some v :: r9) st A) := x_rgt (op := o_astore 1 1) rfl rfl
theorem x_53_40  : exG TB d 53 40 (some v :: r9) st A = rg v (exG TB d 53 41 (some v :: r9) (v :: st) A) := x_rg (op := o_aload 0 1) rfl rfl
theorem x_53_41  : exG TB d 53 41 (a0 :: a1 :: a2 :: r9) (v :: st) A = rg v (exG TB d 53 42 (a0 :: a1 :: some v :: r9) st A) := x_rgt (op := o_astore 2 1) rfl rfl
theorem x_53_42  : exG TB d 53 42 (a0 :: some v :: r9) st A = rg v (exG TB d 53 43 (a0 :: some v :: r9) (v :: st) A) := x_rg (op := o_aload 1 1) rfl rfl
theorem x_53_43n  : exG TB d 53 43 L (.null :: st) A = exG TB d 53 64 L st A := x_nx (op := o_ifnull 64) rfl rfl
theorem x_53_43r  : exG TB d 53 43 L (.ref p :: st) A = exG TB d 53 46 L st A := x_nx (op := o_ifnull 64) rfl rfl
theorem x_53_46  : exG TB d 53 46 (a0 :: a1 :: some v :: r9) st A = rg v (exG TB d 53 47 (a0 :: a1 :: some v :: r9) (v :: st) A) := x_rg (op := o_aload 2 1) rfl rfl
theorem x_53_47  : exG TB d 53 47 (a0 :: some v :: r9) st A = rg v (exG TB d 53 48 (a0 :: some v :: r9) (v :: st) A) := x_rg (op := o_aload 1 1) rfl rfl
theorem x_53_48  : exG TB d 53 48 L (.ref p :: st) A = kv (gf A p 113) d 53 51 L st A := x_bd (op := o_get 113) rfl rfl (fun _ => rfl)
theorem x_53_51  : exG TB d 53 51 L (.ref q :: .ref p :: st) A = if ¬ p = q then exG TB d 53 64 L st A else exG TB d 53 54 L st A := x_if (op := o_acmp false 64) rfl (ac_f p q) rfl
theorem x_53_51rn  : exG TB d 53 51 L (.null :: .ref p :: st) A = exG TB d 53 64 L st A := x_nx (op := o_acmp false 64) rfl rfl
theorem x_53_51nr  : exG TB d 53 51 L (.ref p :: .null :: st) A = exG TB d 53 64 L st A := x_nx (op := o_acmp false 64) rfl rfl
theorem x_53_51nn  : exG TB d 53 51 L (.null :: .null :: st) A = exG TB d 53 54 L st A := x_nx (op := o_acmp false 64) rfl rfl
theorem x_53_54  : exG TB d 53 54 (a0 :: some v :: r9) st A = rg v (exG TB d 53 55 (a0 :: some v :: r9) (v :: st) A) := x_rg (op := o_aload 1 1) rfl rfl
theorem x_53_55  : exG TB d 53 55 (a0 :: a1 :: a2 :: r9) (v :: st) A = rg v (exG TB d 53 56 (a0 :: a1 :: some v :: r9) st A) := x_rgt (op := o_astore 2 1) rfl rfl
theorem x_53_56  : exG TB d 53 56 (a0 :: some v :: r9) st A = rg v (exG TB d 53 57 (a0 :: some v :: r9) (v :: st) A) := x_rg (op := o_aload 1 1) rfl rfl
theorem x_53_57  : exG TB d 53 57 L (.ref p :: st) A = kv (gf A p 114) d 53 60 L st A := x_bd (op := o_get 114) rfl rfl (fun _ => rfl)
theorem x_53_60  : exG TB d 53 60 (a0 :: a1 :: r9) (v :: st) A = rg v (exG TB d 53 61 (a0 :: some v :: r9) st A) := x_rgt (op := o_astore 1 1) rfl rfl
theorem x_53_61  : exG TB d 53 61 L st A = exG TB d 53 42 L st A := x_nx (op := o_goto 42) rfl rfl
theorem x_53_64  : exG TB d 53 64 (a0 :: some v :: r9) st A = rg v (exG TB d 53 65 (a0 :: some v :: r9) (v :: st) A) := x_rg (op := o_aload 1 1) rfl rfl
theorem x_53_65  : exG TB d 53 65 L [v] A = ck (okv 0 v) (some (.inl (some v), A)) := x_outg (op := o_ret 0) rfl rfl
theorem e_54  : evG TB (d + 1) 54 [.ref p] A = exG TB d 54 0 [some (.ref p)] [] A := evG_eq TB d 54 _ A
theorem x_54_0  : exG TB d 54 0 (some v :: r9) st A = rg v (exG TB d 54 1 (some v :: r9) (v :: st) A) := x_rg (op := o_aload 0 1) rfl rfl
theorem x_54_1  : exG TB d 54 1 L [.ref p] A = kc0 (evG TB d 27 [.ref p] A) d 54 4 L [] := x_c0 (op := o_ci 27 0) rfl rfl x_noh rfl
theorem x_54_4  : exG TB d 54 4 (some v :: r9) st A = rg v (exG TB d 54 5 (some v :: r9) (v :: st) A) := x_rg (op := o_aload 0 1) rfl rfl
theorem x_54_5  : exG TB d 54 5 L st A = exG TB d 54 6 L (.int (nI 0) :: st) A := x_nx (op := o_push 1 (.int 0)) rfl rfl
theorem x_54_6  : exG TB d 54 6 L (v :: .ref p :: st) A = ck ((gf A p 104).isSome && okv 1 v) (exG TB d 54 9 L st (setf A p 104 v)) := x_gd (op := o_put 104 1) rfl rfl
theorem x_54_9  : exG TB d 54 9 (some v :: r9) st A = rg v (exG TB d 54 10 (some v :: r9) (v :: st) A) := x_rg (op := o_aload 0 1) rfl rfl
theorem x_54_10  : exG TB d 54 10 L st A = exG TB d 54 11 L (.int (nI 0) :: st) A := x_nx (op := o_push 1 (.int 0)) rfl rfl
theorem x_54_11  : exG TB d 54 11 L (v :: .ref p :: st) A = ck ((gf A p 105).isSome && okv 1 v) (exG TB d 54 14 L st (setf A p 105 v)) := x_gd (op := o_put 105 1) rfl rfl
theorem x_54_14  : exG TB d 54 14 (some v :: r9) st A = rg v (exG TB d 54 15 (some v :: r9) (v :: st) A) := x_rg (op := o_aload 0 1) rfl rfl
theorem x_54_15  : exG TB d 54 15 L st A = exG TB d 54 16 L (.null :: st) A := x_nx (op := o_push 1 .null) rfl rfl
theorem x_54_16  : exG TB d 54 16 L (v :: .ref p :: st) A = ck ((gf A p 102).isSome && okv 0 v) (exG TB d 54 19 L st (setf A p 102 v)) := x_gd (op := o_put 102 0) rfl rfl
theorem x_54_19  : exG TB d 54 19 L [] A = some (.inl none, A) := x_out (op := o_vret) rfl rfl
theorem e_55  : evG TB (d + 1) 55 [.ref p, b1, b2] A = rg b1 (rg b2 (exG TB d 55 0 [some (.ref p), some (b1), some (b2)] [] A)) := by
  rw [evG_eq]
  show (bif (true && (isR b1 && (isR b2 && true))) then exG TB d 55 0 [some (.ref p), some (b1), some (b2)] [] A else none) = _
  unfold rg
  cases isR b1 <;> cases isR b2 <;> rfl
theorem x_55_0  : exG TB d 55 0 (some v :: r9) st A = rg v (exG TB d 55 1 (some v :: r9) (v :: st) A) := x_rg (op := o_aload 0 1) rfl rfl
theorem x_55_1  : exG TB d 55 1 (a0 :: some v :: r9) st A = rg v (exG TB d 55 2 (a0 :: some v :: r9) (v :: st) A) := x_rg (op := o_aload 1 1) rfl rfl
theorem x_55_2  : exG TB d 55 2 (a0 :: a1 :: some v :: r9) st A = rg v (exG TB d 55 3 (a0 :: a1 :: some v :: r9) (v :: st) A) := x_rg (op := o_aload 2 1) rfl rfl
theorem x_55_3  : exG TB d 55 3 L st A = exG TB d 55 4 L (.int (nI 1) :: st) A := x_nx (op := o_push 1 (.int 1)) rfl rfl
theorem x_55_4  : exG TB d 55 4 L [b2, b1, b0, .ref p] A = kw (sel (gc A p) [(20, 56)]) [.ref p, b0, b1, b2] d 55 7 L [] A := x_cvb (op := o_cv [(20, 56)] 3 3 false none) rfl rfl x_noh rfl
theorem x_55_7  : exG TB d 55 7 L [v] A = ck (okv 0 v) (some (.inl (some v), A)) := x_outg (op := o_ret 0) rfl rfl
theorem e_56 {j3 : Int32} : evG TB (d + 1) 56 [.ref p, b1, b2, .int j3] A = rg b1 (rg b2 (exG TB d 56 0 [some (.ref p), some (b1), some (b2), some (.int j3), none, none, none, none, none, none] [] A)) := by
  rw [evG_eq]
  show (bif (true && (isR b1 && (isR b2 && (true && true)))) then exG TB d 56 0 [some (.ref p), some (b1), some (b2), some (.int j3), none, none, none, none, none, none] [] A else none) = _
  unfold rg
  cases isR b1 <;> cases isR b2 <;> rfl
theorem x_56_0  : exG TB d 56 0 (some v :: r9) st A = rg v (exG TB d 56 1 (some v :: r9) (v :: st) A) := x_rg (op := o_aload 0 1) rfl rfl
theorem x_56_1  : exG TB d 56 1 L (.ref p :: st) A = kv (gf A p 103) d 56 4 L st A := x_bd (op := o_get 103) rfl rfl (fun _ => rfl)
theorem x_56_4  : exG TB d 56 4 (a0 :: a1 :: a2 :: a3 :: a4 :: r9) (v :: st) A = rg v (exG TB d 56 6 (a0 :: a1 :: a2 :: a3 :: some v :: r9) st A) := x_rgt (op := o_astore 4 2) rfl rfl
theorem x_56_6  : exG TB d 56 6 (a0 :: a1 :: a2 :: a3 :: some v :: r9) st A = rg v (exG TB d 56 8 (a0 :: a1 :: a2 :: a3 :: some v :: r9) (v :: st) A) := x_rg (op := o_aload 4 2) rfl rfl
theorem x_56_8n  : exG TB d 56 8 L (.null :: st) A = exG TB d 56 11 L st A := x_nx (op := o_ifnonnull 19) rfl rfl
theorem x_56_8r  : exG TB d 56 8 L (.ref p :: st) A = exG TB d 56 19 L st A := x_nx (op := o_ifnonnull 19) rfl rfl
theorem x_56_11  : exG TB d 56 11 (some v :: r9) st A = rg v (exG TB d 56 12 (some v :: r9) (v :: st) A) := x_rg (op := o_aload 0 1) rfl rfl
theorem x_56_12  : exG TB d 56 12 (a0 :: some v :: r9) st A = rg v (exG TB d 56 13 (a0 :: some v :: r9) (v :: st) A) := x_rg (op := o_aload 1 1) rfl rfl
theorem x_56_13  : exG TB d 56 13 (a0 :: a1 :: some v :: r9) st A = rg v (exG TB d 56 14 (a0 :: a1 :: some v :: r9) (v :: st) A) := x_rg (op := o_aload 2 1) rfl rfl
theorem x_56_14  : exG TB d 56 14 L [b1, b0, .ref p] A = kw0 (sel (gc A p) [(20, 57)]) [.ref p, b0, b1] d 56 17 L [] A := x_c0b (op := o_cv [(20, 57)] 2 3 true none) rfl rfl x_noh rfl
theorem x_56_17  : exG TB d 56 17 L st A = exG TB d 56 18 L (.null :: st) A := x_nx (op := o_push 1 .null) rfl rfl
theorem x_56_18  : exG TB d 56 18 L [v] A = ck (okv 0 v) (some (.inl (some v), A)) := x_outg (op := o_ret 0) rfl rfl
theorem x_56_19  : exG TB d 56 19 (some v :: r9) st A = rg v (exG TB d 56 20 (some v :: r9) (v :: st) A) := x_rg (op := o_aload 0 1) rfl rfl
theorem x_56_20  : exG TB d 56 20 L (.ref p :: st) A = kv (gf A p 102) d 56 23 L st A := x_bd (op := o_get 102) rfl rfl (fun _ => rfl)
theorem x_56_23  : exG TB d 56 23 (a0 :: a1 :: a2 :: a3 :: a4 :: a5 :: a6 :: a7 :: r9) (v :: st) A = rg v (exG TB d 56 25 (a0 :: a1 :: a2 :: a3 :: a4 :: a5 :: a6 :: some v :: r9) st A) := x_rgt (op := o_astore 7 2) rfl rfl
theorem x_56_25  : exG TB d 56 25 (a0 :: a1 :: a2 :: a3 :: a4 :: a5 :: a6 :: some v :: r9) st A = rg v (exG TB d 56 27 (a0 :: a1 :: a2 :: a3 :: a4 :: a5 :: a6 :: some v :: r9) (v :: st) A) := x_rg (op := o_aload 7 2) rfl rfl
theorem x_56_27n  : exG TB d 56 27 L (.null :: st) A = exG TB d 56 112 L st A := x_nx (op := o_ifnull 112) rfl rfl
theorem x_56_27r  : exG TB d 56 27 L (.ref p :: st) A = exG TB d 56 30 L st A := x_nx (op := o_ifnull 112) rfl rfl
theorem x_56_30  : exG TB d 56 30 (a0 :: a1 :: a2 :: a3 :: some v :: r9) st A = rg v (exG TB d 56 32 (a0 :: a1 :: a2 :: a3 :: some v :: r9) (v :: st) A) := x_rg (op := o_aload 4 2) rfl rfl
theorem x_56_32  : exG TB d 56 32 (a0 :: a1 :: a2 :: a3 :: a4 :: a5 :: a6 :: r9) (v :: st) A = rg v (exG TB d 56 34 (a0 :: a1 :: a2 :: a3 :: a4 :: a5 :: some v :: r9) st A) := x_rgt (op := o_astore 6 2) rfl rfl
theorem x_56_34  : exG TB d 56 34 (a0 :: a1 :: a2 :: a3 :: a4 :: a5 :: a6 :: some v :: r9) st A = rg v (exG TB d 56 36 (a0 :: a1 :: a2 :: a3 :: a4 :: a5 :: a6 :: some v :: r9) (v :: st) A) := x_rg (op := o_aload 7 2) rfl rfl
theorem x_56_36  : exG TB d 56 36 (a0 :: some v :: r9) st A = rg v (exG TB d 56 37 (a0 :: some v :: r9) (v :: st) A) := x_rg (op := o_aload 1 1) rfl rfl
theorem x_56_37  : exG TB d 56 37 (a0 :: a1 :: a2 :: a3 :: some v :: r9) st A = rg v (exG TB d 56 39 (a0 :: a1 :: a2 :: a3 :: some v :: r9) (v :: st) A) := x_rg (op := o_aload 4 2) rfl rfl
theorem x_56_39  : exG TB d 56 39 L (.ref p :: st) A = kv (gf A p 110) d 56 42 L st A := x_bd (op := o_get 110) rfl rfl (fun _ => rfl)
theorem x_56_42  : exG TB d 56 42 L [b1, b0, .ref p] A = kw (sel (gc A p) [(19, 239)]) [.ref p, b0, b1] d 56 47 L [] A := x_cvb (op := o_cv [(19, 239)] 2 5 false none) rfl rfl x_noh rfl
theorem x_56_47  : exG TB d 56 47 (a0 :: a1 :: a2 :: a3 :: a4 :: a5 :: r9) (.int i1 :: st) A = exG TB d 56 49 (a0 :: a1 :: a2 :: a3 :: a4 :: some (.int i1) :: r9) st A := x_nx (op := o_istore 5 2) rfl rfl
theorem x_56_49  : exG TB d 56 49 (a0 :: a1 :: a2 :: a3 :: a4 :: some (.int i1) :: r9) st A = exG TB d 56 51 (a0 :: a1 :: a2 :: a3 :: a4 :: some (.int i1) :: r9) (.int i1 :: st) A := x_nx (op := o_iload 5 2) rfl rfl
theorem x_56_51  : exG TB d 56 51 L (.int i1 :: st) A = if nI 0 ≤ i1 then exG TB d 56 64 L st A else exG TB d 56 54 L st A := x_if (op := o_if (fun x => decide (0 ≤ x)) 64) rfl rfl rfl
theorem x_56_54  : exG TB d 56 54 (a0 :: a1 :: a2 :: a3 :: some v :: r9) st A = rg v (exG TB d 56 56 (a0 :: a1 :: a2 :: a3 :: some v :: r9) (v :: st) A) := x_rg (op := o_aload 4 2) rfl rfl
theorem x_56_56  : exG TB d 56 56 L (.ref p :: st) A = kv (gf A p 112) d 56 59 L st A := x_bd (op := o_get 112) rfl rfl (fun _ => rfl)
theorem x_56_59  : exG TB d 56 59 (a0 :: a1 :: a2 :: a3 :: a4 :: r9) (v :: st) A = rg v (exG TB d 56 61 (a0 :: a1 :: a2 :: a3 :: some v :: r9) st A) := x_rgt (op := o_astore 4 2) rfl rfl
theorem x_56_61  : exG TB d 56 61 L st A = exG TB d 56 104 L st A := x_nx (op := o_goto 104) rfl rfl
theorem x_56_64  : exG TB d 56 64 (a0 :: a1 :: a2 :: a3 :: a4 :: some (.int i1) :: r9) st A = exG TB d 56 66 (a0 :: a1 :: a2 :: a3 :: a4 :: some (.int i1) :: r9) (.int i1 :: st) A := x_nx (op := o_iload 5 2) rfl rfl
theorem x_56_66  : exG TB d 56 66 L (.int i1 :: st) A = if i1 ≤ nI 0 then exG TB d 56 79 L st A else exG TB d 56 69 L st A := x_if (op := o_if (fun x => decide (x ≤ 0)) 79) rfl rfl rfl
theorem x_56_69  : exG TB d 56 69 (a0 :: a1 :: a2 :: a3 :: some v :: r9) st A = rg v (exG TB d 56 71 (a0 :: a1 :: a2 :: a3 :: some v :: r9) (v :: st) A) := x_rg (op := o_aload 4 2) rfl rfl
theorem x_56_71  : exG TB d 56 71 L (.ref p :: st) A = kv (gf A p 113) d 56 74 L st A := x_bd (op := o_get 113) rfl rfl (fun _ => rfl)
theorem x_56_74  : exG TB d 56 74 (a0 :: a1 :: a2 :: a3 :: a4 :: r9) (v :: st) A = rg v (exG TB d 56 76 (a0 :: a1 :: a2 :: a3 :: some v :: r9) st A) := x_rgt (op := o_astore 4 2) rfl rfl
theorem x_56_76  : exG TB d 56 76 L st A = exG TB d 56 104 L st A := x_nx (op := o_goto 104) rfl rfl
theorem x_56_79  : exG TB d 56 79 (a0 :: a1 :: a2 :: a3 :: some v :: r9) st A = rg v (exG TB d 56 81 (a0 :: a1 :: a2 :: a3 :: some v :: r9) (v :: st) A) := x_rg (op := o_aload 4 2) rfl rfl
theorem x_56_81  : exG TB d 56 81 L (.ref p :: st) A = kv (gf A p 111) d 56 84 L st A := x_bd (op := o_get 111) rfl rfl (fun _ => rfl)
theorem x_56_84  : exG TB d 56 84 (a0 :: a1 :: a2 :: a3 :: a4 :: a5 :: a6 :: a7 :: a8 :: r9) (v :: st) A = rg v (exG TB d 56 86 (a0 :: a1 :: a2 :: a3 :: a4 :: a5 :: a6 :: a7 :: some v :: r9) st A) := x_rgt (op := o_astore 8 2) rfl rfl
theorem x_56_86  : exG TB d 56 86 (a0 :: a1 :: a2 :: some (.int i1) :: r9) st A = exG TB d 56 87 (a0 :: a1 :: a2 :: some (.int i1) :: r9) (.int i1 :: st) A := x_nx (op := o_iload 3 1) rfl rfl
theorem x_56_87  : exG TB d 56 87 L (.int i1 :: st) A = if ¬ i1 = nI 0 then exG TB d 56 95 L st A else exG TB d 56 90 L st A := x_if (op := o_if (fun x => decide (¬ x = 0)) 95) rfl rfl rfl
theorem x_56_90  : exG TB d 56 90 (a0 :: a1 :: a2 :: a3 :: a4 :: a5 :: a6 :: a7 :: some v :: r9) st A = rg v (exG TB d 56 92 (a0 :: a1 :: a2 :: a3 :: a4 :: a5 :: a6 :: a7 :: some v :: r9) (v :: st) A) := x_rg (op := o_aload 8 2) rfl rfl
theorem x_56_92n  : exG TB d 56 92 L (.null :: st) A = exG TB d 56 95 L st A := x_nx (op := o_ifnonnull 101) rfl rfl
theorem x_56_92r  : exG TB d 56 92 L (.ref p :: st) A = exG TB d 56 101 L st A := x_nx (op := o_ifnonnull 101) rfl rfl
theorem x_56_95  : exG TB d 56 95 (a0 :: a1 :: a2 :: a3 :: some v :: r9) st A = rg v (exG TB d 56 97 (a0 :: a1 :: a2 :: a3 :: some v :: r9) (v :: st) A) := x_rg (op := o_aload 4 2) rfl rfl
theorem x_56_97  : exG TB d 56 97 (a0 :: a1 :: some v :: r9) st A = rg v (exG TB d 56 98 (a0 :: a1 :: some v :: r9) (v :: st) A) := x_rg (op := o_aload 2 1) rfl rfl
theorem x_56_98  : exG TB d 56 98 L (v :: .ref p :: st) A = ck ((gf A p 111).isSome && okv 0 v) (exG TB d 56 101 L st (setf A p 111 v)) := x_gd (op := o_put 111 0) rfl rfl
theorem x_56_101  : exG TB d 56 101 (a0 :: a1 :: a2 :: a3 :: a4 :: a5 :: a6 :: a7 :: some v :: r9) st A = rg v (exG TB d 56 103 (a0 :: a1 :: a2 :: a3 :: a4 :: a5 :: a6 :: a7 :: some v :: r9) (v :: st) A) := x_rg (op := o_aload 8 2) rfl rfl
theorem x_56_103  : exG TB d 56 103 L [v] A = ck (okv 0 v) (some (.inl (some v), A)) := x_outg (op := o_ret 0) rfl rfl
theorem x_56_104  : exG TB d 56 104 (a0 :: a1 :: a2 :: a3 :: some v :: r9) st A = rg v (exG TB d 56 106 (a0 :: a1 :: a2 :: a3 :: some v :: r9) (v :: st) A) := x_rg (op := o_aload 4 2) rfl rfl
theorem x_56_106n  : exG TB d 56 106 L (.null :: st) A = exG TB d 56 109 L st A := x_nx (op := o_ifnonnull 30) rfl rfl
theorem x_56_106r  : exG TB d 56 106 L (.ref p :: st) A = exG TB d 56 30 L st A := x_nx (op := o_ifnonnull 30) rfl rfl
theorem x_56_109  : exG TB d 56 109 L st A = exG TB d 56 201 L st A := x_nx (op := o_goto 201) rfl rfl
theorem x_56_112  : exG TB d 56 112 (a0 :: some v :: r9) st A = rg v (exG TB d 56 113 (a0 :: some v :: r9) (v :: st) A) := x_rg (op := o_aload 1 1) rfl rfl
theorem x_56_113  : exG TB d 56 113 L [b0] A = kc (evG TB d 71 [b0] A) d 56 116 L [] := x_cv (op := o_cs 71 1 false none) rfl rfl x_noh rfl
theorem x_56_116  : exG TB d 56 116 L (v :: st) A = ck (c1 v) (exG TB d 56 117 L st A) := x_gd (op := o_pop) rfl rfl
theorem x_56_117  : exG TB d 56 117 (a0 :: some v :: r9) st A = rg v (exG TB d 56 118 (a0 :: some v :: r9) (v :: st) A) := x_rg (op := o_aload 1 1) rfl rfl
theorem x_56_118n  : exG TB d 56 118 L (.null :: st) A = exG TB d 56 121 L (.null :: st) A := x_nx (op := o_cast [4, 5, 21]) rfl rfl
theorem x_56_118r  : exG TB d 56 118 L (.ref p :: st) A = ck (cin (gcs A p) [4, 5, 21]) (exG TB d 56 121 L (.ref p :: st) A) := x_gd (op := o_cast [4, 5, 21]) rfl rfl
theorem x_56_121  : exG TB d 56 121 (a0 :: a1 :: a2 :: a3 :: a4 :: a5 :: a6 :: a7 :: a8 :: r9) (v :: st) A = rg v (exG TB d 56 123 (a0 :: a1 :: a2 :: a3 :: a4 :: a5 :: a6 :: a7 :: some v :: r9) st A) := x_rgt (op := o_astore 8 2) rfl rfl
theorem x_56_123  : exG TB d 56 123 (a0 :: a1 :: a2 :: a3 :: some v :: r9) st A = rg v (exG TB d 56 125 (a0 :: a1 :: a2 :: a3 :: some v :: r9) (v :: st) A) := x_rg (op := o_aload 4 2) rfl rfl
theorem x_56_125  : exG TB d 56 125 (a0 :: a1 :: a2 :: a3 :: a4 :: a5 :: a6 :: r9) (v :: st) A = rg v (exG TB d 56 127 (a0 :: a1 :: a2 :: a3 :: a4 :: a5 :: some v :: r9) st A) := x_rgt (op := o_astore 6 2) rfl rfl
theorem x_56_127  : exG TB d 56 127 (a0 :: a1 :: a2 :: a3 :: a4 :: a5 :: a6 :: a7 :: some v :: r9) st A = rg v (exG TB d 56 129 (a0 :: a1 :: a2 :: a3 :: a4 :: a5 :: a6 :: a7 :: some v :: r9) (v :: st) A) := x_rg (op := o_aload 8 2) rfl rfl
theorem x_56_129  : exG TB d 56 129 (a0 :: a1 :: a2 :: a3 :: some v :: r9) st A = rg v (exG TB d 56 131 (a0 :: a1 :: a2 :: a3 :: some v :: r9) (v :: st) A) := x_rg (op := o_aload 4 2) rfl rfl
theorem x_56_131  : exG TB d 56 131 L (.ref p :: st) A = kv (gf A p 110) d 56 134 L st A := x_bd (op := o_get 110) rfl rfl (fun _ => rfl)
theorem x_56_134  : exG TB d 56 134 L [b0, .ref p] A = kw (sel (gcs A p) [(21, 22)]) [.ref p, b0] d 56 139 L [] A := x_cvb (op := o_cvs [(21, 22)] 1 5 false) rfl rfl x_noh rfl
theorem x_56_139  : exG TB d 56 139 (a0 :: a1 :: a2 :: a3 :: a4 :: a5 :: r9) (.int i1 :: st) A = exG TB d 56 141 (a0 :: a1 :: a2 :: a3 :: a4 :: some (.int i1) :: r9) st A := x_nx (op := o_istore 5 2) rfl rfl
theorem x_56_141  : exG TB d 56 141 (a0 :: a1 :: a2 :: a3 :: a4 :: some (.int i1) :: r9) st A = exG TB d 56 143 (a0 :: a1 :: a2 :: a3 :: a4 :: some (.int i1) :: r9) (.int i1 :: st) A := x_nx (op := o_iload 5 2) rfl rfl
theorem x_56_143  : exG TB d 56 143 L (.int i1 :: st) A = if nI 0 ≤ i1 then exG TB d 56 156 L st A else exG TB d 56 146 L st A := x_if (op := o_if (fun x => decide (0 ≤ x)) 156) rfl rfl rfl
theorem x_56_146  : exG TB d 56 146 (a0 :: a1 :: a2 :: a3 :: some v :: r9) st A = rg v (exG TB d 56 148 (a0 :: a1 :: a2 :: a3 :: some v :: r9) (v :: st) A) := x_rg (op := o_aload 4 2) rfl rfl
theorem x_56_148  : exG TB d 56 148 L (.ref p :: st) A = kv (gf A p 112) d 56 151 L st A := x_bd (op := o_get 112) rfl rfl (fun _ => rfl)
theorem x_56_151  : exG TB d 56 151 (a0 :: a1 :: a2 :: a3 :: a4 :: r9) (v :: st) A = rg v (exG TB d 56 153 (a0 :: a1 :: a2 :: a3 :: some v :: r9) st A) := x_rgt (op := o_astore 4 2) rfl rfl
theorem x_56_153  : exG TB d 56 153 L st A = exG TB d 56 196 L st A := x_nx (op := o_goto 196) rfl rfl
theorem x_56_156  : exG TB d 56 156 (a0 :: a1 :: a2 :: a3 :: a4 :: some (.int i1) :: r9) st A = exG TB d 56 158 (a0 :: a1 :: a2 :: a3 :: a4 :: some (.int i1) :: r9) (.int i1 :: st) A := x_nx (op := o_iload 5 2) rfl rfl
theorem x_56_158  : exG TB d 56 158 L (.int i1 :: st) A = if i1 ≤ nI 0 then exG TB d 56 171 L st A else exG TB d 56 161 L st A := x_if (op := o_if (fun x => decide (x ≤ 0)) 171) rfl rfl rfl
theorem x_56_161  : exG TB d 56 161 (a0 :: a1 :: a2 :: a3 :: some v :: r9) st A = rg v (exG TB d 56 163 (a0 :: a1 :: a2 :: a3 :: some v :: r9) (v :: st) A) := x_rg (op := o_aload 4 2) rfl rfl
theorem x_56_163  : exG TB d 56 163 L (.ref p :: st) A = kv (gf A p 113) d 56 166 L st A := x_bd (op := o_get 113) rfl rfl (fun _ => rfl)
theorem x_56_166  : exG TB d 56 166 (a0 :: a1 :: a2 :: a3 :: a4 :: r9) (v :: st) A = rg v (exG TB d 56 168 (a0 :: a1 :: a2 :: a3 :: some v :: r9) st A) := x_rgt (op := o_astore 4 2) rfl rfl
theorem x_56_168  : exG TB d 56 168 L st A = exG TB d 56 196 L st A := x_nx (op := o_goto 196) rfl rfl
theorem x_56_171  : exG TB d 56 171 (a0 :: a1 :: a2 :: a3 :: some v :: r9) st A = rg v (exG TB d 56 173 (a0 :: a1 :: a2 :: a3 :: some v :: r9) (v :: st) A) := x_rg (op := o_aload 4 2) rfl rfl
theorem x_56_173  : exG TB d 56 173 L (.ref p :: st) A = kv (gf A p 111) d 56 176 L st A := x_bd (op := o_get 111) rfl rfl (fun _ => rfl)
theorem x_56_176  : exG TB d 56 176 (a0 :: a1 :: a2 :: a3 :: a4 :: a5 :: a6 :: a7 :: a8 :: a9 :: r9) (v :: st) A = rg v (exG TB d 56 178 (a0 :: a1 :: a2 :: a3 :: a4 :: a5 :: a6 :: a7 :: a8 :: some v :: r9) st A) := x_rgt (op := o_astore 9 2) rfl rfl
theorem x_56_178  : exG TB d 56 178 (a0 :: a1 :: a2 :: some (.int i1) :: r9) st A = exG TB d 56 179 (a0 :: a1 :: a2 :: some (.int i1) :: r9) (.int i1 :: st) A := x_nx (op := o_iload 3 1) rfl rfl
theorem x_56_179  : exG TB d 56 179 L (.int i1 :: st) A = if ¬ i1 = nI 0 then exG TB d 56 187 L st A else exG TB d 56 182 L st A := x_if (op := o_if (fun x => decide (¬ x = 0)) 187) rfl rfl rfl
theorem x_56_182  : exG TB d 56 182 (a0 :: a1 :: a2 :: a3 :: a4 :: a5 :: a6 :: a7 :: a8 :: some v :: r9) st A = rg v (exG TB d 56 184 (a0 :: a1 :: a2 :: a3 :: a4 :: a5 :: a6 :: a7 :: a8 :: some v :: r9) (v :: st) A) := x_rg (op := o_aload 9 2) rfl rfl
theorem x_56_184n  : exG TB d 56 184 L (.null :: st) A = exG TB d 56 187 L st A := x_nx (op := o_ifnonnull 193) rfl rfl
theorem x_56_184r  : exG TB d 56 184 L (.ref p :: st) A = exG TB d 56 193 L st A := x_nx (op := o_ifnonnull 193) rfl rfl
theorem x_56_187  : exG TB d 56 187 (a0 :: a1 :: a2 :: a3 :: some v :: r9) st A = rg v (exG TB d 56 189 (a0 :: a1 :: a2 :: a3 :: some v :: r9) (v :: st) A) := x_rg (op := o_aload 4 2) rfl rfl
theorem x_56_189  : exG TB d 56 189 (a0 :: a1 :: some v :: r9) st A = rg v (exG TB d 56 190 (a0 :: a1 :: some v :: r9) (v :: st) A) := x_rg (op := o_aload 2 1) rfl rfl
theorem x_56_190  : exG TB d 56 190 L (v :: .ref p :: st) A = ck ((gf A p 111).isSome && okv 0 v) (exG TB d 56 193 L st (setf A p 111 v)) := x_gd (op := o_put 111 0) rfl rfl
theorem x_56_193  : exG TB d 56 193 (a0 :: a1 :: a2 :: a3 :: a4 :: a5 :: a6 :: a7 :: a8 :: some v :: r9) st A = rg v (exG TB d 56 195 (a0 :: a1 :: a2 :: a3 :: a4 :: a5 :: a6 :: a7 :: a8 :: some v :: r9) (v :: st) A) := x_rg (op := o_aload 9 2) rfl rfl
theorem x_56_195  : exG TB d 56 195 L [v] A = ck (okv 0 v) (some (.inl (some v), A)) := x_outg (op := o_ret 0) rfl rfl
theorem x_56_196  : exG TB d 56 196 (a0 :: a1 :: a2 :: a3 :: some v :: r9) st A = rg v (exG TB d 56 198 (a0 :: a1 :: a2 :: a3 :: some v :: r9) (v :: st) A) := x_rg (op := o_aload 4 2) rfl rfl
theorem x_56_198n  : exG TB d 56 198 L (.null :: st) A = exG TB d 56 201 L st A := x_nx (op := o_ifnonnull 123) rfl rfl
theorem x_56_198r  : exG TB d 56 198 L (.ref p :: st) A = exG TB d 56 123 L st A := x_nx (op := o_ifnonnull 123) rfl rfl
theorem x_56_201  : exG TB d 56 201 (some v :: r9) st A = rg v (exG TB d 56 202 (some v :: r9) (v :: st) A) := x_rg (op := o_aload 0 1) rfl rfl
theorem x_56_202  : exG TB d 56 202 (a0 :: some v :: r9) st A = rg v (exG TB d 56 203 (a0 :: some v :: r9) (v :: st) A) := x_rg (op := o_aload 1 1) rfl rfl
theorem x_56_203  : exG TB d 56 203 (a0 :: a1 :: some v :: r9) st A = rg v (exG TB d 56 204 (a0 :: a1 :: some v :: r9) (v :: st) A) := x_rg (op := o_aload 2 1) rfl rfl
theorem x_56_204  : exG TB d 56 204 (a0 :: a1 :: a2 :: a3 :: a4 :: a5 :: some v :: r9) st A = rg v (exG TB d 56 206 (a0 :: a1 :: a2 :: a3 :: a4 :: a5 :: some v :: r9) (v :: st) A) := x_rg (op := o_aload 6 2) rfl rfl
theorem x_56_206  : exG TB d 56 206 (a0 :: a1 :: a2 :: a3 :: a4 :: some (.int i1) :: r9) st A = exG TB d 56 208 (a0 :: a1 :: a2 :: a3 :: a4 :: some (.int i1) :: r9) (.int i1 :: st) A := x_nx (op := o_iload 5 2) rfl rfl
theorem x_56_208  : exG TB d 56 208 L (.int i1 :: st) A = if nI 0 ≤ i1 then exG TB d 56 215 L st A else exG TB d 56 211 L st A := x_if (op := o_if (fun x => decide (0 ≤ x)) 215) rfl rfl rfl
theorem x_56_211  : exG TB d 56 211 L st A = exG TB d 56 212 L (.int (nI 1) :: st) A := x_nx (op := o_push 1 (.int 1)) rfl rfl
theorem x_56_212  : exG TB d 56 212 L st A = exG TB d 56 216 L st A := x_nx (op := o_goto 216) rfl rfl
theorem x_56_215  : exG TB d 56 215 L st A = exG TB d 56 216 L (.int (nI 0) :: st) A := x_nx (op := o_push 1 (.int 0)) rfl rfl
theorem x_56_216  : exG TB d 56 216 L [b3, b2, b1, b0, .ref p] A = kw0 (sel (gc A p) [(20, 59)]) [.ref p, b0, b1, b2, b3] d 56 219 L [] A := x_c0b (op := o_cv [(20, 59)] 4 3 true none) rfl rfl x_noh rfl
theorem x_56_219  : exG TB d 56 219 L st A = exG TB d 56 220 L (.null :: st) A := x_nx (op := o_push 1 .null) rfl rfl
theorem x_56_220  : exG TB d 56 220 L [v] A = ck (okv 0 v) (some (.inl (some v), A)) := x_outg (op := o_ret 0) rfl rfl
theorem e_57  : evG TB (d + 1) 57 [.ref p, b1, b2] A = rg b1 (rg b2 (exG TB d 57 0 [some (.ref p), some (b1), some (b2)] [] A)) := by
  rw [evG_eq]
  show (bif (true && (isR b1 && (isR b2 && true))) then exG TB d 57 0 [some (.ref p), some (b1), some (b2)] [] A else none) = _
  unfold rg
  cases isR b1 <;> cases isR b2 <;> rfl
theorem x_57_0  : exG TB d 57 0 (some v :: r9) st A = rg v (exG TB d 57 1 (some v :: r9) (v :: st) A) := x_rg (op := o_aload 0 1) rfl rfl
theorem x_57_1  : exG TB d 57 1 (a0 :: some v :: r9) st A = rg v (exG TB d 57 2 (a0 :: some v :: r9) (v :: st) A) := x_rg (op := o_aload 1 1) rfl rfl
theorem x_57_2  : exG TB d 57 2 (a0 :: some v :: r9) st A = rg v (exG TB d 57 3 (a0 :: some v :: r9) (v :: st) A) := x_rg (op := o_aload 1 1) rfl rfl
theorem x_57_3  : exG TB d 57 3 L [b1, b0, .ref p] A = kw (sel (gc A p) [(20, 58)]) [.ref p, b0, b1] d 57 6 L [] A := x_cvb (op := o_cv [(20, 58)] 2 3 false none) rfl rfl x_noh rfl
theorem x_57_6  : exG TB d 57 6 L (v :: st) A = ck (c1 v) (exG TB d 57 7 L st A) := x_gd (op := o_pop) rfl rfl
theorem x_57_7  : exG TB d 57 7 (some v :: r9) st A = rg v (exG TB d 57 8 (some v :: r9) (v :: st) A) := x_rg (op := o_aload 0 1) rfl rfl
theorem x_57_8  : exG TB d 57 8 L st A = exG TB d 57 11 L (.ref (nx A) :: st) (newo A 22 6 dv22) := x_nx (op := o_new 22 6 dv22) rfl rfl
theorem x_57_11  : exG TB d 57 11 L (v :: st) A = ck (c1 v) (exG TB d 57 12 L (v :: v :: st) A) := x_gd (op := o_dup) rfl rfl
theorem x_57_12  : exG TB d 57 12 (a0 :: some v :: r9) st A = rg v (exG TB d 57 13 (a0 :: some v :: r9) (v :: st) A) := x_rg (op := o_aload 1 1) rfl rfl
theorem x_57_13  : exG TB d 57 13 (a0 :: a1 :: some v :: r9) st A = rg v (exG TB d 57 14 (a0 :: a1 :: some v :: r9) (v :: st) A) := x_rg (op := o_aload 2 1) rfl rfl
theorem x_57_14  : exG TB d 57 14 L st A = exG TB d 57 15 L (.null :: st) A := x_nx (op := o_push 1 .null) rfl rfl
theorem x_57_15  : exG TB d 57 15 L [b2, b1, b0, .ref p, w0, w1] A = kc0 (evG TB d 83 [.ref p, b0, b1, b2] A) d 57 18 L [w0, w1] := x_c0 (op := o_ci 83 3) rfl rfl x_noh rfl
theorem x_57_18  : exG TB d 57 18 L (v :: .ref p :: st) A = ck ((gf A p 103).isSome && okv 0 v) (exG TB d 57 21 L st (setf A p 103 v)) := x_gd (op := o_put 103 0) rfl rfl
theorem x_57_21  : exG TB d 57 21 (some v :: r9) st A = rg v (exG TB d 57 22 (some v :: r9) (v :: st) A) := x_rg (op := o_aload 0 1) rfl rfl
theorem x_57_22  : exG TB d 57 22 L st A = exG TB d 57 23 L (.int (nI 1) :: st) A := x_nx (op := o_push 1 (.int 1)) rfl rfl
theorem x_57_23  : exG TB d 57 23 L (v :: .ref p :: st) A = ck ((gf A p 104).isSome && okv 1 v) (exG TB d 57 26 L st (setf A p 104 v)) := x_gd (op := o_put 104 1) rfl rfl
theorem x_57_26  : exG TB d 57 26 (some v :: r9) st A = rg v (exG TB d 57 27 (some v :: r9) (v :: st) A) := x_rg (op := o_aload 0 1) rfl rfl
theorem x_57_27  : exG TB d 57 27 L (v :: st) A = ck (c1 v) (exG TB d 57 28 L (v :: v :: st) A) := x_gd (op := o_dup) rfl rfl
theorem x_57_28  : exG TB d 57 28 L (.ref p :: st) A = kv (gf A p 105) d 57 31 L st A := x_bd (op := o_get 105) rfl rfl (fun _ => rfl)
theorem x_57_31  : exG TB d 57 31 L st A = exG TB d 57 32 L (.int (nI 1) :: st) A := x_nx (op := o_push 1 (.int 1)) rfl rfl
theorem x_57_32  : exG TB d 57 32 L (.int i2 :: .int i1 :: st) A = exG TB d 57 33 L (.int (i1 + i2) :: st) A := x_nx (op := o_iop (fun x y => x + y)) rfl rfl
theorem x_57_33  : exG TB d 57 33 L (v :: .ref p :: st) A = ck ((gf A p 105).isSome && okv 1 v) (exG TB d 57 36 L st (setf A p 105 v)) := x_gd (op := o_put 105 1) rfl rfl
theorem x_57_36  : exG TB d 57 36 L [] A = some (.inl none, A) := x_out (op := o_vret) rfl rfl
theorem e_58  : evG TB (d + 1) 58 [.ref p, b1, b2] A = rg b1 (rg b2 (exG TB d 58 0 [some (.ref p), some (b1), some (b2)] [] A)) := by
  rw [evG_eq]
  show (bif (true && (isR b1 && (isR b2 && true))) then exG TB d 58 0 [some (.ref p), some (b1), some (b2)] [] A else none) = _
  unfold rg
  cases isR b1 <;> cases isR b2 <;> rfl
theorem x_58_0  : exG TB d 58 0 (some v :: r9) st A = rg v (exG TB d 58 1 (some v :: r9) (v :: st) A) := x_rg (op := o_aload 0 1) rfl rfl
theorem x_58_1  : exG TB d 58 1 L (.ref p :: st) A = kv (gf A p 102) d 58 4 L st A := x_bd (op := o_get 102) rfl rfl (fun _ => rfl)
theorem x_58_4n  : exG TB d 58 4 L (.null :: st) A = exG TB d 58 7 L st A := x_nx (op := o_ifnonnull 20) rfl rfl
theorem x_58_4r  : exG TB d 58 4 L (.ref p :: st) A = exG TB d 58 20 L st A := x_nx (op := o_ifnonnull 20) rfl rfl
theorem x_58_7  : exG TB d 58 7 (a0 :: some v :: r9) st A = rg v (exG TB d 58 8 (a0 :: some v :: r9) (v :: st) A) := x_rg (op := o_aload 1 1) rfl rfl
theorem x_58_8n  : exG TB d 58 8 L (.null :: st) A = exG TB d 58 11 L (.null :: st) A := x_nx (op := o_cast [4, 5, 21]) rfl rfl
theorem x_58_8r  : exG TB d 58 8 L (.ref p :: st) A = ck (cin (gcs A p) [4, 5, 21]) (exG TB d 58 11 L (.ref p :: st) A) := x_gd (op := o_cast [4, 5, 21]) rfl rfl
theorem x_58_11  : exG TB d 58 11 (a0 :: a1 :: some v :: r9) st A = rg v (exG TB d 58 12 (a0 :: a1 :: some v :: r9) (v :: st) A) := x_rg (op := o_aload 2 1) rfl rfl
theorem x_58_12  : exG TB d 58 12 L [b0, .ref p] A = kw (sel (gcs A p) [(21, 22)]) [.ref p, b0] d 58 17 L [] A := x_cvb (op := o_cvs [(21, 22)] 1 5 false) rfl rfl x_noh rfl
theorem x_58_17  : exG TB d 58 17 L st A = exG TB d 58 31 L st A := x_nx (op := o_goto 31) rfl rfl
theorem x_58_20  : exG TB d 58 20 (some v :: r9) st A = rg v (exG TB d 58 21 (some v :: r9) (v :: st) A) := x_rg (op := o_aload 0 1) rfl rfl
theorem x_58_21  : exG TB d 58 21 L (.ref p :: st) A = kv (gf A p 102) d 58 24 L st A := x_bd (op := o_get 102) rfl rfl (fun _ => rfl)
theorem x_58_24  : exG TB d 58 24 (a0 :: some v :: r9) st A = rg v (exG TB d 58 25 (a0 :: some v :: r9) (v :: st) A) := x_rg (op := o_aload 1 1) rfl rfl
theorem x_58_25  : exG TB d 58 25 (a0 :: a1 :: some v :: r9) st A = rg v (exG TB d 58 26 (a0 :: a1 :: some v :: r9) (v :: st) A) := x_rg (op := o_aload 2 1) rfl rfl
theorem x_58_26  : exG TB d 58 26 L [b1, b0, .ref p] A = kw (sel (gc A p) [(19, 239)]) [.ref p, b0, b1] d 58 31 L [] A := x_cvb (op := o_cv [(19, 239)] 2 5 false none) rfl rfl x_noh rfl
theorem x_58_31  : exG TB d 58 31 L [v] A = ck (okv 1 v) (some (.inl (some v), A)) := x_outg (op := o_ret 1) rfl rfl
theorem e_59 {j4 : Int32} : evG TB (d + 1) 59 [.ref p, b1, b2, b3, .int j4] A = rg b1 (rg b2 (rg b3 (exG TB d 59 0 [some (.ref p), some (b1), some (b2), some (b3), some (.int j4), none] [] A))) := by
  rw [evG_eq]
  show (bif (true && (isR b1 && (isR b2 && (isR b3 && (true && true))))) then exG TB d 59 0 [some (.ref p), some (b1), some (b2), some (b3), some (.int j4), none] [] A else none) = _
  unfold rg
  cases isR b1 <;> cases isR b2 <;> cases isR b3 <;> rfl
theorem x_59_0  : exG TB d 59 0 L st A = exG TB d 59 3 L (.ref (nx A) :: st) (newo A 22 6 dv22) := x_nx (op := o_new 22 6 dv22) rfl rfl
theorem x_59_3  : exG TB d 59 3 L (v :: st) A = ck (c1 v) (exG TB d 59 4 L (v :: v :: st) A) := x_gd (op := o_dup) rfl rfl
theorem x_59_4  : exG TB d 59 4 (a0 :: some v :: r9) st A = rg v (exG TB d 59 5 (a0 :: some v :: r9) (v :: st) A) := x_rg (op := o_aload 1 1) rfl rfl
theorem x_59_5  : exG TB d 59 5 (a0 :: a1 :: some v :: r9) st A = rg v (exG TB d 59 6 (a0 :: a1 :: some v :: r9) (v :: st) A) := x_rg (op := o_aload 2 1) rfl rfl
theorem x_59_6  : exG TB d 59 6 (a0 :: a1 :: a2 :: some v :: r9) st A = rg v (exG TB d 59 7 (a0 :: a1 :: a2 :: some v :: r9) (v :: st) A) := x_rg (op := o_aload 3 1) rfl rfl
theorem x_59_7  : exG TB d 59 7 L [b2, b1, b0, .ref p, w0] A = kc0 (evG TB d 83 [.ref p, b0, b1, b2] A) d 59 10 L [w0] := x_c0 (op := o_ci 83 3) rfl rfl x_noh rfl
theorem x_59_10  : exG TB d 59 10 (a0 :: a1 :: a2 :: a3 :: a4 :: a5 :: r9) (v :: st) A = rg v (exG TB d 59 12 (a0 :: a1 :: a2 :: a3 :: a4 :: some v :: r9) st A) := x_rgt (op := o_astore 5 2) rfl rfl
theorem x_59_12  : exG TB d 59 12 (a0 :: a1 :: a2 :: a3 :: some (.int i1) :: r9) st A = exG TB d 59 14 (a0 :: a1 :: a2 :: a3 :: some (.int i1) :: r9) (.int i1 :: st) A := x_nx (op := o_iload 4 2) rfl rfl
theorem x_59_14  : exG TB d 59 14 L (.int i1 :: st) A = if i1 = nI 0 then exG TB d 59 26 L st A else exG TB d 59 17 L st A := x_if (op := o_if (fun x => decide (x = 0)) 26) rfl rfl rfl
theorem x_59_17  : exG TB d 59 17 (a0 :: a1 :: a2 :: some v :: r9) st A = rg v (exG TB d 59 18 (a0 :: a1 :: a2 :: some v :: r9) (v :: st) A) := x_rg (op := o_aload 3 1) rfl rfl
theorem x_59_18  : exG TB d 59 18 (a0 :: a1 :: a2 :: a3 :: a4 :: some v :: r9) st A = rg v (exG TB d 59 20 (a0 :: a1 :: a2 :: a3 :: a4 :: some v :: r9) (v :: st) A) := x_rg (op := o_aload 5 2) rfl rfl
theorem x_59_20  : exG TB d 59 20 L (v :: .ref p :: st) A = ck ((gf A p 112).isSome && okv 0 v) (exG TB d 59 23 L st (setf A p 112 v)) := x_gd (op := o_put 112 0) rfl rfl
theorem x_59_23  : exG TB d 59 23 L st A = exG TB d 59 32 L st A := x_nx (op := o_goto 32) rfl rfl
theorem x_59_26  : exG TB d 59 26 (a0 :: a1 :: a2 :: some v :: r9) st A = rg v (exG TB d 59 27 (a0 :: a1 :: a2 :: some v :: r9) (v :: st) A) := x_rg (op := o_aload 3 1) rfl rfl
theorem x_59_27  : exG TB d 59 27 (a0 :: a1 :: a2 :: a3 :: a4 :: some v :: r9) st A = rg v (exG TB d 59 29 (a0 :: a1 :: a2 :: a3 :: a4 :: some v :: r9) (v :: st) A) := x_rg (op := o_aload 5 2) rfl rfl
theorem x_59_29  : exG TB d 59 29 L (v :: .ref p :: st) A = ck ((gf A p 113).isSome && okv 0 v) (exG TB d 59 32 L st (setf A p 113 v)) := x_gd (op := o_put 113 0) rfl rfl
theorem x_59_32  : exG TB d 59 32 (some v :: r9) st A = rg v (exG TB d 59 33 (some v :: r9) (v :: st) A) := x_rg (op := o_aload 0 1) rfl rfl
theorem x_59_33  : exG TB d 59 33 (a0 :: a1 :: a2 :: a3 :: a4 :: some v :: r9) st A = rg v (exG TB d 59 35 (a0 :: a1 :: a2 :: a3 :: a4 :: some v :: r9) (v :: st) A) := x_rg (op := o_aload 5 2) rfl rfl
theorem x_59_35  : exG TB d 59 35 L [b0, .ref p] A = kw0 (sel (gc A p) [(20, 60)]) [.ref p, b0] d 59 38 L [] A := x_c0b (op := o_cv [(20, 60)] 1 3 true none) rfl rfl x_noh rfl
theorem x_59_38  : exG TB d 59 38 (some v :: r9) st A = rg v (exG TB d 59 39 (some v :: r9) (v :: st) A) := x_rg (op := o_aload 0 1) rfl rfl
theorem x_59_39  : exG TB d 59 39 L (v :: st) A = ck (c1 v) (exG TB d 59 40 L (v :: v :: st) A) := x_gd (op := o_dup) rfl rfl
theorem x_59_40  : exG TB d 59 40 L (.ref p :: st) A = kv (gf A p 104) d 59 43 L st A := x_bd (op := o_get 104) rfl rfl (fun _ => rfl)
theorem x_59_43  : exG TB d 59 43 L st A = exG TB d 59 44 L (.int (nI 1) :: st) A := x_nx (op := o_push 1 (.int 1)) rfl rfl
theorem x_59_44  : exG TB d 59 44 L (.int i2 :: .int i1 :: st) A = exG TB d 59 45 L (.int (i1 + i2) :: st) A := x_nx (op := o_iop (fun x y => x + y)) rfl rfl
theorem x_59_45  : exG TB d 59 45 L (v :: .ref p :: st) A = ck ((gf A p 104).isSome && okv 1 v) (exG TB d 59 48 L st (setf A p 104 v)) := x_gd (op := o_put 104 1) rfl rfl
theorem x_59_48  : exG TB d 59 48 (some v :: r9) st A = rg v (exG TB d 59 49 (some v :: r9) (v :: st) A) := x_rg (op := o_aload 0 1) rfl rfl
theorem x_59_49  : exG TB d 59 49 L (v :: st) A = ck (c1 v) (exG TB d 59 50 L (v :: v :: st) A) := x_gd (op := o_dup) rfl rfl
theorem x_59_50  : exG TB d 59 50 L (.ref p :: st) A = kv (gf A p 105) d 59 53 L st A := x_bd (op := o_get 105) rfl rfl (fun _ => rfl)
theorem x_59_53  : exG TB d 59 53 L st A = exG TB d 59 54 L (.int (nI 1) :: st) A := x_nx (op := o_push 1 (.int 1)) rfl rfl
theorem x_59_54  : exG TB d 59 54 L (.int i2 :: .int i1 :: st) A = exG TB d 59 55 L (.int (i1 + i2) :: st) A := x_nx (op := o_iop (fun x y => x + y)) rfl rfl
theorem x_59_55  : exG TB d 59 55 L (v :: .ref p :: st) A = ck ((gf A p 105).isSome && okv 1 v) (exG TB d 59 58 L st (setf A p 105 v)) := x_gd (op := o_put 105 1) rfl rfl
theorem x_59_58  : exG TB d 59 58 L [] A = some (.inl none, A) := x_out (op := o_vret) rfl rfl
theorem e_60  : evG TB (d + 1) 60 [.ref p, b1] A = rg b1 (exG TB d 60 0 [some (.ref p), some (b1), none] [] A) := by
  rw [evG_eq]
  show (bif (true && (isR b1 && true)) then exG TB d 60 0 [some (.ref p), some (b1), none] [] A else none) = _
  unfold rg
  cases isR b1 <;> rfl
theorem x_60_0  : exG TB d 60 0 (a0 :: some v :: r9) st A = rg v (exG TB d 60 1 (a0 :: some v :: r9) (v :: st) A) := x_rg (op := o_aload 1 1) rfl rfl
theorem x_60_1  : exG TB d 60 1 L st A = exG TB d 60 2 L (.int (nI 0) :: st) A := x_nx (op := o_push 1 (.int 0)) rfl rfl
theorem x_60_2  : exG TB d 60 2 L (v :: .ref p :: st) A = ck ((gf A p 115).isSome && okv 5 v) (exG TB d 60 5 L st (setf A p 115 v)) := x_gd (op := o_put 115 5) rfl rfl
theorem x_60_5  : exG TB d 60 5 (a0 :: some v :: r9) st A = rg v (exG TB d 60 6 (a0 :: some v :: r9) (v :: st) A) := x_rg (op := o_aload 1 1) rfl rfl
theorem x_60_6n  : exG TB d 60 6 L (.null :: st) A = exG TB d 60 258 L st A := x_nx (op := o_ifnull 258) rfl rfl
theorem x_60_6r  : exG TB d 60 6 L (.ref p :: st) A = exG TB d 60 9 L st A := x_nx (op := o_ifnull 258) rfl rfl
theorem x_60_9  : exG TB d 60 9 (a0 :: some v :: r9) st A = rg v (exG TB d 60 10 (a0 :: some v :: r9) (v :: st) A) := x_rg (op := o_aload 1 1) rfl rfl
theorem x_60_10  : exG TB d 60 10 (some v :: r9) st A = rg v (exG TB d 60 11 (some v :: r9) (v :: st) A) := x_rg (op := o_aload 0 1) rfl rfl
theorem x_60_11  : exG TB d 60 11 L (.ref p :: st) A = kv (gf A p 103) d 60 14 L st A := x_bd (op := o_get 103) rfl rfl (fun _ => rfl)
theorem x_60_14  : exG TB d 60 14 L (.ref q :: .ref p :: st) A = if p = q then exG TB d 60 258 L st A else exG TB d 60 17 L st A := x_if (op := o_acmp true 258) rfl (ac_t p q) rfl
theorem x_60_14rn  : exG TB d 60 14 L (.null :: .ref p :: st) A = exG TB d 60 17 L st A := x_nx (op := o_acmp true 258) rfl rfl
theorem x_60_14nr  : exG TB d 60 14 L (.ref p :: .null :: st) A = exG TB d 60 17 L st A := x_nx (op := o_acmp true 258) rfl rfl
theorem x_60_14nn  : exG TB d 60 14 L (.null :: .null :: st) A = exG TB d 60 258 L st A := x_nx (op := o_acmp true 258) rfl rfl
theorem x_60_17  : exG TB d 60 17 (a0 :: some v :: r9) st A = rg v (exG TB d 60 18 (a0 :: some v :: r9) (v :: st) A) := x_rg (op := o_aload 1 1) rfl rfl
theorem x_60_18  : exG TB d 60 18 L (.ref p :: st) A = kv (gf A p 114) d 60 21 L st A := x_bd (op := o_get 114) rfl rfl (fun _ => rfl)
theorem x_60_21  : exG TB d 60 21 L (.ref p :: st) A = kv (gf A p 115) d 60 24 L st A := x_bd (op := o_get 115) rfl rfl (fun _ => rfl)
theorem x_60_24  : exG TB d 60 24 L (.int i1 :: st) A = if ¬ i1 = nI 0 then exG TB d 60 258 L st A else exG TB d 60 27 L st A := x_if (op := o_if (fun x => decide (¬ x = 0)) 258) rfl rfl rfl
theorem x_60_27  : exG TB d 60 27 (a0 :: some v :: r9) st A = rg v (exG TB d 60 28 (a0 :: some v :: r9) (v :: st) A) := x_rg (op := o_aload 1 1) rfl rfl
theorem x_60_28  : exG TB d 60 28 L [b0] A = kc (evG TB d 61 [b0] A) d 60 31 L [] := x_cv (op := o_cs 61 1 false none) rfl rfl x_noh rfl
theorem x_60_31  : exG TB d 60 31 (a0 :: some v :: r9) st A = rg v (exG TB d 60 32 (a0 :: some v :: r9) (v :: st) A) := x_rg (op := o_aload 1 1) rfl rfl
theorem x_60_32  : exG TB d 60 32 L [b0, w0] A = kc (evG TB d 61 [b0] A) d 60 35 L [w0] := x_cv (op := o_cs 61 1 false none) rfl rfl x_noh rfl
theorem x_60_35  : exG TB d 60 35 L [b0, w0] A = kc (evG TB d 61 [b0] A) d 60 38 L [w0] := x_cv (op := o_cs 61 1 false none) rfl rfl x_noh rfl
theorem x_60_38  : exG TB d 60 38 L [b0, w0] A = kc (evG TB d 62 [b0] A) d 60 41 L [w0] := x_cv (op := o_cs 62 1 false none) rfl rfl x_noh rfl
theorem x_60_41  : exG TB d 60 41 L (.ref q :: .ref p :: st) A = if ¬ p = q then exG TB d 60 151 L st A else exG TB d 60 44 L st A := x_if (op := o_acmp false 151) rfl (ac_f p q) rfl
theorem x_60_41rn  : exG TB d 60 41 L (.null :: .ref p :: st) A = exG TB d 60 151 L st A := x_nx (op := o_acmp false 151) rfl rfl
theorem x_60_41nr  : exG TB d 60 41 L (.ref p :: .null :: st) A = exG TB d 60 151 L st A := x_nx (op := o_acmp false 151) rfl rfl
theorem x_60_41nn  : exG TB d 60 41 L (.null :: .null :: st) A = exG TB d 60 44 L st A := x_nx (op := o_acmp false 151) rfl rfl
theorem x_60_44  : exG TB d 60 44 (a0 :: some v :: r9) st A = rg v (exG TB d 60 45 (a0 :: some v :: r9) (v :: st) A) := x_rg (op := o_aload 1 1) rfl rfl
theorem x_60_45  : exG TB d 60 45 L [b0] A = kc (evG TB d 61 [b0] A) d 60 48 L [] := x_cv (op := o_cs 61 1 false none) rfl rfl x_noh rfl
theorem x_60_48  : exG TB d 60 48 L [b0] A = kc (evG TB d 61 [b0] A) d 60 51 L [] := x_cv (op := o_cs 61 1 false none) rfl rfl x_noh rfl
theorem x_60_51  : exG TB d 60 51 L [b0] A = kc (evG TB d 63 [b0] A) d 60 54 L [] := x_cv (op := o_cs 63 1 false none) rfl rfl x_noh rfl
theorem x_60_54  : exG TB d 60 54 (a0 :: a1 :: a2 :: r9) (v :: st) A = rg v (exG TB d 60 55 (a0 :: a1 :: some v :: r9) st A) := x_rgt (op := o_astore 2 1) rfl rfl
theorem x_60_55  : exG TB d 60 55 (a0 :: a1 :: some v :: r9) st A = rg v (exG TB d 60 56 (a0 :: a1 :: some v :: r9) (v :: st) A) := x_rg (op := o_aload 2 1) rfl rfl
theorem x_60_56  : exG TB d 60 56 L [b0] A = kc (evG TB d 64 [b0] A) d 60 59 L [] := x_cv (op := o_cs 64 1 false none) rfl rfl x_noh rfl
theorem x_60_59  : exG TB d 60 59 L (.int i1 :: st) A = if ¬ i1 = nI 0 then exG TB d 60 97 L st A else exG TB d 60 62 L st A := x_if (op := o_if (fun x => decide (¬ x = 0)) 97) rfl rfl rfl
theorem x_60_62  : exG TB d 60 62 (a0 :: some v :: r9) st A = rg v (exG TB d 60 63 (a0 :: some v :: r9) (v :: st) A) := x_rg (op := o_aload 1 1) rfl rfl
theorem x_60_63  : exG TB d 60 63 L [b0] A = kc (evG TB d 61 [b0] A) d 60 66 L [] := x_cv (op := o_cs 61 1 false none) rfl rfl x_noh rfl
theorem x_60_66  : exG TB d 60 66 L st A = exG TB d 60 67 L (.int (nI 1) :: st) A := x_nx (op := o_push 1 (.int 1)) rfl rfl
theorem x_60_67  : exG TB d 60 67 L [b1, b0] A = kc0 (evG TB d 65 [b0, b1] A) d 60 70 L [] := x_c0 (op := o_cs 65 2 true none) rfl rfl x_noh rfl
theorem x_60_70  : exG TB d 60 70 (a0 :: a1 :: some v :: r9) st A = rg v (exG TB d 60 71 (a0 :: a1 :: some v :: r9) (v :: st) A) := x_rg (op := o_aload 2 1) rfl rfl
theorem x_60_71  : exG TB d 60 71 L st A = exG TB d 60 72 L (.int (nI 1) :: st) A := x_nx (op := o_push 1 (.int 1)) rfl rfl
theorem x_60_72  : exG TB d 60 72 L [b1, b0] A = kc0 (evG TB d 65 [b0, b1] A) d 60 75 L [] := x_c0 (op := o_cs 65 2 true none) rfl rfl x_noh rfl
theorem x_60_75  : exG TB d 60 75 (a0 :: some v :: r9) st A = rg v (exG TB d 60 76 (a0 :: some v :: r9) (v :: st) A) := x_rg (op := o_aload 1 1) rfl rfl
theorem x_60_76  : exG TB d 60 76 L [b0] A = kc (evG TB d 61 [b0] A) d 60 79 L [] := x_cv (op := o_cs 61 1 false none) rfl rfl x_noh rfl
theorem x_60_79  : exG TB d 60 79 L [b0] A = kc (evG TB d 61 [b0] A) d 60 82 L [] := x_cv (op := o_cs 61 1 false none) rfl rfl x_noh rfl
theorem x_60_82  : exG TB d 60 82 L st A = exG TB d 60 83 L (.int (nI 0) :: st) A := x_nx (op := o_push 1 (.int 0)) rfl rfl
theorem x_60_83  : exG TB d 60 83 L [b1, b0] A = kc0 (evG TB d 65 [b0, b1] A) d 60 86 L [] := x_c0 (op := o_cs 65 2 true none) rfl rfl x_noh rfl
theorem x_60_86  : exG TB d 60 86 (a0 :: some v :: r9) st A = rg v (exG TB d 60 87 (a0 :: some v :: r9) (v :: st) A) := x_rg (op := o_aload 1 1) rfl rfl
theorem x_60_87  : exG TB d 60 87 L [b0] A = kc (evG TB d 61 [b0] A) d 60 90 L [] := x_cv (op := o_cs 61 1 false none) rfl rfl x_noh rfl
theorem x_60_90  : exG TB d 60 90 L [b0] A = kc (evG TB d 61 [b0] A) d 60 93 L [] := x_cv (op := o_cs 61 1 false none) rfl rfl x_noh rfl
theorem x_60_93  : exG TB d 60 93 (a0 :: a1 :: r9) (v :: st) A = rg v (exG TB d 60 94 (a0 :: some v :: r9) st A) := x_rgt (op := o_astore 1 1) rfl rfl
theorem x_60_94  : exG TB d 60 94 L st A = exG TB d 60 148 L st A := x_nx (op := o_goto 148) rfl rfl
theorem x_60_97  : exG TB d 60 97 (a0 :: some v :: r9) st A = rg v (exG TB d 60 98 (a0 :: some v :: r9) (v :: st) A) := x_rg (op := o_aload 1 1) rfl rfl
theorem x_60_98  : exG TB d 60 98 (a0 :: some v :: r9) st A = rg v (exG TB d 60 99 (a0 :: some v :: r9) (v :: st) A) := x_rg (op := o_aload 1 1) rfl rfl
theorem x_60_99  : exG TB d 60 99 L [b0, w0] A = kc (evG TB d 61 [b0] A) d 60 102 L [w0] := x_cv (op := o_cs 61 1 false none) rfl rfl x_noh rfl
theorem x_60_102  : exG TB d 60 102 L [b0, w0] A = kc (evG TB d 63 [b0] A) d 60 105 L [w0] := x_cv (op := o_cs 63 1 false none) rfl rfl x_noh rfl
theorem x_60_105  : exG TB d 60 105 L (.ref q :: .ref p :: st) A = if ¬ p = q then exG TB d 60 118 L st A else exG TB d 60 108 L st A := x_if (op := o_acmp false 118) rfl (ac_f p q) rfl
theorem x_60_105rn  : exG TB d 60 105 L (.null :: .ref p :: st) A = exG TB d 60 118 L st A := x_nx (op := o_acmp false 118) rfl rfl
theorem x_60_105nr  : exG TB d 60 105 L (.ref p :: .null :: st) A = exG TB d 60 118 L st A := x_nx (op := o_acmp false 118) rfl rfl
theorem x_60_105nn  : exG TB d 60 105 L (.null :: .null :: st) A = exG TB d 60 108 L st A := x_nx (op := o_acmp false 118) rfl rfl
theorem x_60_108  : exG TB d 60 108 (a0 :: some v :: r9) st A = rg v (exG TB d 60 109 (a0 :: some v :: r9) (v :: st) A) := x_rg (op := o_aload 1 1) rfl rfl
theorem x_60_109  : exG TB d 60 109 L [b0] A = kc (evG TB d 61 [b0] A) d 60 112 L [] := x_cv (op := o_cs 61 1 false none) rfl rfl x_noh rfl
theorem x_60_112  : exG TB d 60 112 (a0 :: a1 :: r9) (v :: st) A = rg v (exG TB d 60 113 (a0 :: some v :: r9) st A) := x_rgt (op := o_astore 1 1) rfl rfl
theorem x_60_113  : exG TB d 60 113 (some v :: r9) st A = rg v (exG TB d 60 114 (some v :: r9) (v :: st) A) := x_rg (op := o_aload 0 1) rfl rfl
theorem x_60_114  : exG TB d 60 114 (a0 :: some v :: r9) st A = rg v (exG TB d 60 115 (a0 :: some v :: r9) (v :: st) A) := x_rg (op := o_aload 1 1) rfl rfl
theorem x_60_115  : exG TB d 60 115 L [b0, .ref p] A = kw0 (sel (gc A p) [(20, 66)]) [.ref p, b0] d 60 118 L [] A := x_c0b (op := o_cv [(20, 66)] 1 3 true none) rfl rfl x_noh rfl
theorem x_60_118  : exG TB d 60 118 (a0 :: some v :: r9) st A = rg v (exG TB d 60 119 (a0 :: some v :: r9) (v :: st) A) := x_rg (op := o_aload 1 1) rfl rfl
theorem x_60_119  : exG TB d 60 119 L [b0] A = kc (evG TB d 61 [b0] A) d 60 122 L [] := x_cv (op := o_cs 61 1 false none) rfl rfl x_noh rfl
theorem x_60_122  : exG TB d 60 122 L st A = exG TB d 60 123 L (.int (nI 1) :: st) A := x_nx (op := o_push 1 (.int 1)) rfl rfl
theorem x_60_123  : exG TB d 60 123 L [b1, b0] A = kc0 (evG TB d 65 [b0, b1] A) d 60 126 L [] := x_c0 (op := o_cs 65 2 true none) rfl rfl x_noh rfl
theorem x_60_126  : exG TB d 60 126 (a0 :: some v :: r9) st A = rg v (exG TB d 60 127 (a0 :: some v :: r9) (v :: st) A) := x_rg (op := o_aload 1 1) rfl rfl
theorem x_60_127  : exG TB d 60 127 L [b0] A = kc (evG TB d 61 [b0] A) d 60 130 L [] := x_cv (op := o_cs 61 1 false none) rfl rfl x_noh rfl
theorem x_60_130  : exG TB d 60 130 L [b0] A = kc (evG TB d 61 [b0] A) d 60 133 L [] := x_cv (op := o_cs 61 1 false none) rfl rfl x_noh rfl
theorem x_60_133  : exG TB d 60 133 L st A = exG TB d 60 134 L (.int (nI 0) :: st) A := x_nx (op := o_push 1 (.int 0)) rfl rfl
theorem x_60_134  : exG TB d 60 134 L [b1, b0] A = kc0 (evG TB d 65 [b0, b1] A) d 60 137 L [] := x_c0 (op := o_cs 65 2 true none) rfl rfl x_noh rfl
theorem x_60_137  : exG TB d 60 137 (some v :: r9) st A = rg v (exG TB d 60 138 (some v :: r9) (v :: st) A) := x_rg (op := o_aload 0 1) rfl rfl
theorem x_60_138  : exG TB d 60 138 (a0 :: some v :: r9) st A = rg v (exG TB d 60 139 (a0 :: some v :: r9) (v :: st) A) := x_rg (op := o_aload 1 1) rfl rfl
theorem x_60_139  : exG TB d 60 139 L [b0, w0] A = kc (evG TB d 61 [b0] A) d 60 142 L [w0] := x_cv (op := o_cs 61 1 false none) rfl rfl x_noh rfl
theorem x_60_142  : exG TB d 60 142 L [b0, w0] A = kc (evG TB d 61 [b0] A) d 60 145 L [w0] := x_cv (op := o_cs 61 1 false none) rfl rfl x_noh rfl
theorem x_60_145  : exG TB d 60 145 L [b0, .ref p] A = kw0 (sel (gc A p) [(20, 67)]) [.ref p, b0] d 60 148 L [] A := x_c0b (op := o_cv [(20, 67)] 1 3 true none) rfl rfl x_noh rfl
theorem x_60_148  : exG TB d 60 148 L st A = exG TB d 60 5 L st A := x_nx (op := o_goto 5) rfl rfl
theorem x_60_151  : exG TB d 60 151 (a0 :: some v :: r9) st A = rg v (exG TB d 60 152 (a0 :: some v :: r9) (v :: st) A) := x_rg (op := o_aload 1 1) rfl rfl
theorem x_60_152  : exG TB d 60 152 L [b0] A = kc (evG TB d 61 [b0] A) d 60 155 L [] := x_cv (op := o_cs 61 1 false none) rfl rfl x_noh rfl
theorem x_60_155  : exG TB d 60 155 L [b0] A = kc (evG TB d 61 [b0] A) d 60 158 L [] := x_cv (op := o_cs 61 1 false none) rfl rfl x_noh rfl
theorem x_60_158  : exG TB d 60 158 L [b0] A = kc (evG TB d 62 [b0] A) d 60 161 L [] := x_cv (op := o_cs 62 1 false none) rfl rfl x_noh rfl
theorem x_60_161  : exG TB d 60 161 (a0 :: a1 :: a2 :: r9) (v :: st) A = rg v (exG TB d 60 162 (a0 :: a1 :: some v :: r9) st A) := x_rgt (op := o_astore 2 1) rfl rfl
theorem x_60_162  : exG TB d 60 162 (a0 :: a1 :: some v :: r9) st A = rg v (exG TB d 60 163 (a0 :: a1 :: some v :: r9) (v :: st) A) := x_rg (op := o_aload 2 1) rfl rfl
theorem x_60_163  : exG TB d 60 163 L [b0] A = kc (evG TB d 64 [b0] A) d 60 166 L [] := x_cv (op := o_cs 64 1 false none) rfl rfl x_noh rfl
theorem x_60_166  : exG TB d 60 166 L (.int i1 :: st) A = if ¬ i1 = nI 0 then exG TB d 60 204 L st A else exG TB d 60 169 L st A := x_if (op := o_if (fun x => decide (¬ x = 0)) 204) rfl rfl rfl
theorem x_60_169  : exG TB d 60 169 (a0 :: some v :: r9) st A = rg v (exG TB d 60 170 (a0 :: some v :: r9) (v :: st) A) := x_rg (op := o_aload 1 1) rfl rfl
theorem x_60_170  : exG TB d 60 170 L [b0] A = kc (evG TB d 61 [b0] A) d 60 173 L [] := x_cv (op := o_cs 61 1 false none) rfl rfl x_noh rfl
theorem x_60_173  : exG TB d 60 173 L st A = exG TB d 60 174 L (.int (nI 1) :: st) A := x_nx (op := o_push 1 (.int 1)) rfl rfl
theorem x_60_174  : exG TB d 60 174 L [b1, b0] A = kc0 (evG TB d 65 [b0, b1] A) d 60 177 L [] := x_c0 (op := o_cs 65 2 true none) rfl rfl x_noh rfl
theorem x_60_177  : exG TB d 60 177 (a0 :: a1 :: some v :: r9) st A = rg v (exG TB d 60 178 (a0 :: a1 :: some v :: r9) (v :: st) A) := x_rg (op := o_aload 2 1) rfl rfl
theorem x_60_178  : exG TB d 60 178 L st A = exG TB d 60 179 L (.int (nI 1) :: st) A := x_nx (op := o_push 1 (.int 1)) rfl rfl
theorem x_60_179  : exG TB d 60 179 L [b1, b0] A = kc0 (evG TB d 65 [b0, b1] A) d 60 182 L [] := x_c0 (op := o_cs 65 2 true none) rfl rfl x_noh rfl
theorem x_60_182  : exG TB d 60 182 (a0 :: some v :: r9) st A = rg v (exG TB d 60 183 (a0 :: some v :: r9) (v :: st) A) := x_rg (op := o_aload 1 1) rfl rfl
theorem x_60_183  : exG TB d 60 183 L [b0] A = kc (evG TB d 61 [b0] A) d 60 186 L [] := x_cv (op := o_cs 61 1 false none) rfl rfl x_noh rfl
theorem x_60_186  : exG TB d 60 186 L [b0] A = kc (evG TB d 61 [b0] A) d 60 189 L [] := x_cv (op := o_cs 61 1 false none) rfl rfl x_noh rfl
theorem x_60_189  : exG TB d 60 189 L st A = exG TB d 60 190 L (.int (nI 0) :: st) A := x_nx (op := o_push 1 (.int 0)) rfl rfl
theorem x_60_190  : exG TB d 60 190 L [b1, b0] A = kc0 (evG TB d 65 [b0, b1] A) d 60 193 L [] := x_c0 (op := o_cs 65 2 true none) rfl rfl x_noh rfl
theorem x_60_193  : exG TB d 60 193 (a0 :: some v :: r9) st A = rg v (exG TB d 60 194 (a0 :: some v :: r9) (v :: st) A) := x_rg (op := o_aload 1 1) rfl rfl
theorem x_60_194  : exG TB d 60 194 L [b0] A = kc (evG TB d 61 [b0] A) d 60 197 L [] := x_cv (op := o_cs 61 1 false none) rfl rfl x_noh rfl
theorem x_60_197  : exG TB d 60 197 L [b0] A = kc (evG TB d 61 [b0] A) d 60 200 L [] := x_cv (op := o_cs 61 1 false none) rfl rfl x_noh rfl
theorem x_60_200  : exG TB d 60 200 (a0 :: a1 :: r9) (v :: st) A = rg v (exG TB d 60 201 (a0 :: some v :: r9) st A) := x_rgt (op := o_astore 1 1) rfl rfl
theorem x_60_201  : exG TB d 60 201 L st A = exG TB d 60 255 L st A := x_nx (op := o_goto 255) rfl rfl
theorem x_60_204  : exG TB d 60 204 (a0 :: some v :: r9) st A = rg v (exG TB d 60 205 (a0 :: some v :: r9) (v :: st) A) := x_rg (op := o_aload 1 1) rfl rfl
theorem x_60_205  : exG TB d 60 205 (a0 :: some v :: r9) st A = rg v (exG TB d 60 206 (a0 :: some v :: r9) (v :: st) A) := x_rg (op := o_aload 1 1) rfl rfl
theorem x_60_206  : exG TB d 60 206 L [b0, w0] A = kc (evG TB d 61 [b0] A) d 60 209 L [w0] := x_cv (op := o_cs 61 1 false none) rfl rfl x_noh rfl
theorem x_60_209  : exG TB d 60 209 L [b0, w0] A = kc (evG TB d 62 [b0] A) d 60 212 L [w0] := x_cv (op := o_cs 62 1 false none) rfl rfl x_noh rfl
theorem x_60_212  : exG TB d 60 212 L (.ref q :: .ref p :: st) A = if ¬ p = q then exG TB d 60 225 L st A else exG TB d 60 215 L st A := x_if (op := o_acmp false 225) rfl (ac_f p q) rfl
theorem x_60_212rn  : exG TB d 60 212 L (.null :: .ref p :: st) A = exG TB d 60 225 L st A := x_nx (op := o_acmp false 225) rfl rfl
theorem x_60_212nr  : exG TB d 60 212 L (.ref p :: .null :: st) A = exG TB d 60 225 L st A := x_nx (op := o_acmp false 225) rfl rfl
theorem x_60_212nn  : exG TB d 60 212 L (.null :: .null :: st) A = exG TB d 60 215 L st A := x_nx (op := o_acmp false 225) rfl rfl
theorem x_60_215  : exG TB d 60 215 (a0 :: some v :: r9) st A = rg v (exG TB d 60 216 (a0 :: some v :: r9) (v :: st) A) := x_rg (op := o_aload 1 1) rfl rfl
theorem x_60_216  : exG TB d 60 216 L [b0] A = kc (evG TB d 61 [b0] A) d 60 219 L [] := x_cv (op := o_cs 61 1 false none) rfl rfl x_noh rfl
theorem x_60_219  : exG TB d 60 219 (a0 :: a1 :: r9) (v :: st) A = rg v (exG TB d 60 220 (a0 :: some v :: r9) st A) := x_rgt (op := o_astore 1 1) rfl rfl
theorem x_60_220  : exG TB d 60 220 (some v :: r9) st A = rg v (exG TB d 60 221 (some v :: r9) (v :: st) A) := x_rg (op := o_aload 0 1) rfl rfl
theorem x_60_221  : exG TB d 60 221 (a0 :: some v :: r9) st A = rg v (exG TB d 60 222 (a0 :: some v :: r9) (v :: st) A) := x_rg (op := o_aload 1 1) rfl rfl
theorem x_60_222  : exG TB d 60 222 L [b0, .ref p] A = kw0 (sel (gc A p) [(20, 67)]) [.ref p, b0] d 60 225 L [] A := x_c0b (op := o_cv [(20, 67)] 1 3 true none) rfl rfl x_noh rfl
theorem x_60_225  : exG TB d 60 225 (a0 :: some v :: r9) st A = rg v (exG TB d 60 226 (a0 :: some v :: r9) (v :: st) A) := x_rg (op := o_aload 1 1) rfl rfl
theorem x_60_226  : exG TB d 60 226 L [b0] A = kc (evG TB d 61 [b0] A) d 60 229 L [] := x_cv (op := o_cs 61 1 false none) rfl rfl x_noh rfl
theorem x_60_229  : exG TB d 60 229 L st A = exG TB d 60 230 L (.int (nI 1) :: st) A := x_nx (op := o_push 1 (.int 1)) rfl rfl
theorem x_60_230  : exG TB d 60 230 L [b1, b0] A = kc0 (evG TB d 65 [b0, b1] A) d 60 233 L [] := x_c0 (op := o_cs 65 2 true none) rfl rfl x_noh rfl
theorem x_60_233  : exG TB d 60 233 (a0 :: some v :: r9) st A = rg v (exG TB d 60 234 (a0 :: some v :: r9) (v :: st) A) := x_rg (op := o_aload 1 1) rfl rfl
theorem x_60_234  : exG TB d 60 234 L [b0] A = kc (evG TB d 61 [b0] A) d 60 237 L [] := x_cv (op := o_cs 61 1 false none) rfl rfl x_noh rfl
theorem x_60_237  : exG TB d 60 237 L [b0] A = kc (evG TB d 61 [b0] A) d 60 240 L [] := x_cv (op := o_cs 61 1 false none) rfl rfl x_noh rfl
theorem x_60_240  : exG TB d 60 240 L st A = exG TB d 60 241 L (.int (nI 0) :: st) A := x_nx (op := o_push 1 (.int 0)) rfl rfl
theorem x_60_241  : exG TB d 60 241 L [b1, b0] A = kc0 (evG TB d 65 [b0, b1] A) d 60 244 L [] := x_c0 (op := o_cs 65 2 true none) rfl rfl x_noh rfl
theorem x_60_244  : exG TB d 60 244 (some v :: r9) st A = rg v (exG TB d 60 245 (some v :: r9) (v :: st) A) := x_rg (op := o_aload 0 1) rfl rfl
theorem x_60_245  : exG TB d 60 245 (a0 :: some v :: r9) st A = rg v (exG TB d 60 246 (a0 :: some v :: r9) (v :: st) A) := x_rg (op := o_aload 1 1) rfl rfl
theorem x_60_246  : exG TB d 60 246 L [b0, w0] A = kc (evG TB d 61 [b0] A) d 60 249 L [w0] := x_cv (op := o_cs 61 1 false none) rfl rfl x_noh rfl
theorem x_60_249  : exG TB d 60 249 L [b0, w0] A = kc (evG TB d 61 [b0] A) d 60 252 L [w0] := x_cv (op := o_cs 61 1 false none) rfl rfl x_noh rfl
theorem x_60_252  : exG TB d 60 252 L [b0, .ref p] A = kw0 (sel (gc A p) [(20, 66)]) [.ref p, b0] d 60 255 L [] A := x_c0b (op := o_cv [(20, 66)] 1 3 true none) rfl rfl x_noh rfl
theorem x_60_255  : exG TB d 60 255 L st A = exG TB d 60 5 L st A := x_nx (op := o_goto 5) rfl rfl
theorem x_60_258  : exG TB d 60 258 (some v :: r9) st A = rg v (exG TB d 60 259 (some v :: r9) (v :: st) A) := x_rg (op := o_aload 0 1) rfl rfl
theorem x_60_259  : exG TB d 60 259 L (.ref p :: st) A = kv (gf A p 103) d 60 262 L st A := x_bd (op := o_get 103) rfl rfl (fun _ => rfl)
theorem x_60_262  : exG TB d 60 262 L st A = exG TB d 60 263 L (.int (nI 1) :: st) A := x_nx (op := o_push 1 (.int 1)) rfl rfl
theorem x_60_263  : exG TB d 60 263 L (v :: .ref p :: st) A = ck ((gf A p 115).isSome && okv 5 v) (exG TB d 60 266 L st (setf A p 115 v)) := x_gd (op := o_put 115 5) rfl rfl
theorem x_60_266  : exG TB d 60 266 L [] A = some (.inl none, A) := x_out (op := o_vret) rfl rfl
theorem e_61  : evG TB (d + 1) 61 [b0] A = rg b0 (exG TB d 61 0 [some (b0)] [] A) := by
  rw [evG_eq]
  show (bif (isR b0 && true) then exG TB d 61 0 [some (b0)] [] A else none) = _
  unfold rg
  cases isR b0 <;> rfl
theorem x_61_0  : exG TB d 61 0 (some v :: r9) st A = rg v (exG TB d 61 1 (some v :: r9) (v :: st) A) := x_rg (op := o_aload 0 1) rfl rfl
theorem x_61_1n  : exG TB d 61 1 L (.null :: st) A = exG TB d 61 4 L st A := x_nx (op := o_ifnonnull 8) rfl rfl
theorem x_61_1r  : exG TB d 61 1 L (.ref p :: st) A = exG TB d 61 8 L st A := x_nx (op := o_ifnonnull 8) rfl rfl
theorem x_61_4  : exG TB d 61 4 L st A = exG TB d 61 5 L (.null :: st) A := x_nx (op := o_push 1 .null) rfl rfl
theorem x_61_5  : exG TB d 61 5 L st A = exG TB d 61 12 L st A := x_nx (op := o_goto 12) rfl rfl
theorem x_61_8  : exG TB d 61 8 (some v :: r9) st A = rg v (exG TB d 61 9 (some v :: r9) (v :: st) A) := x_rg (op := o_aload 0 1) rfl rfl
theorem x_61_9  : exG TB d 61 9 L (.ref p :: st) A = kv (gf A p 114) d 61 12 L st A := x_bd (op := o_get 114) rfl rfl (fun _ => rfl)
theorem x_61_12  : exG TB d 61 12 L [v] A = ck (okv 0 v) (some (.inl (some v), A)) := x_outg (op := o_ret 0) rfl rfl
theorem e_62  : evG TB (d + 1) 62 [b0] A = rg b0 (exG TB d 62 0 [some (b0)] [] A) := by
  rw [evG_eq]
  show (bif (isR b0 && true) then exG TB d 62 0 [some (b0)] [] A else none) = _
  unfold rg
  cases isR b0 <;> rfl
theorem x_62_0  : exG TB d 62 0 (some v :: r9) st A = rg v (exG TB d 62 1 (some v :: r9) (v :: st) A) := x_rg (op := o_aload 0 1) rfl rfl
theorem x_62_1n  : exG TB d 62 1 L (.null :: st) A = exG TB d 62 4 L st A := x_nx (op := o_ifnonnull 8) rfl rfl
theorem x_62_1r  : exG TB d 62 1 L (.ref p :: st) A = exG TB d 62 8 L st A := x_nx (op := o_ifnonnull 8) rfl rfl
theorem x_62_4  : exG TB d 62 4 L st A = exG TB d 62 5 L (.null :: st) A := x_nx (op := o_push 1 .null) rfl rfl
theorem x_62_5  : exG TB d 62 5 L st A = exG TB d 62 12 L st A := x_nx (op := o_goto 12) rfl rfl
theorem x_62_8  : exG TB d 62 8 (some v :: r9) st A = rg v (exG TB d 62 9 (some v :: r9) (v :: st) A) := x_rg (op := o_aload 0 1) rfl rfl
theorem x_62_9  : exG TB d 62 9 L (.ref p :: st) A = kv (gf A p 112) d 62 12 L st A := x_bd (op := o_get 112) rfl rfl (fun _ => rfl)
theorem x_62_12  : exG TB d 62 12 L [v] A = ck (okv 0 v) (some (.inl (some v), A)) := x_outg (op := o_ret 0) rfl rfl
theorem e_63  : evG TB (d + 1) 63 [b0] A = rg b0 (exG TB d 63 0 [some (b0)] [] A) := by
  rw [evG_eq]
  show (bif (isR b0 && true) then exG TB d 63 0 [some (b0)] [] A else none) = _
  unfold rg
  cases isR b0 <;> rfl
theorem x_63_0  : exG TB d 63 0 (some v :: r9) st A = rg v (exG TB d 63 1 (some v :: r9) (v :: st) A) := x_rg (op := o_aload 0 1) rfl rfl
theorem x_63_1n  : exG TB d 63 1 L (.null :: st) A = exG TB d 63 4 L st A := x_nx (op := o_ifnonnull 8) rfl rfl
theorem x_63_1r  : exG TB d 63 1 L (.ref p :: st) A = exG TB d 63 8 L st A := x_nx (op := o_ifnonnull 8) rfl rfl
theorem x_63_4  : exG TB d 63 4 L st A = exG TB d 63 5 L (.null :: st) A := x_nx (op := o_push 1 .null) rfl rfl
theorem x_63_5  : exG TB d 63 5 L st A = exG TB d 63 12 L st A := x_nx (op := o_goto 12) rfl rfl
theorem x_63_8  : exG TB d 63 8 (some v :: r9) st A = rg v (exG TB d 63 9 (some v :: r9) (v :: st) A) := x_rg (op := o_aload 0 1) rfl rfl
theorem x_63_9  : exG TB d 63 9 L (.ref p :: st) A = kv (gf A p 113) d 63 12 L st A := x_bd (op := o_get 113) rfl rfl (fun _ => rfl)
theorem x_63_12  : exG TB d 63 12 L [v] A = ck (okv 0 v) (some (.inl (some v), A)) := x_outg (op := o_ret 0) rfl rfl
theorem e_64  : evG TB (d + 1) 64 [b0] A = rg b0 (exG TB d 64 0 [some (b0)] [] A) := by
  rw [evG_eq]
  show (bif (isR b0 && true) then exG TB d 64 0 [some (b0)] [] A else none) = _
  unfold rg
  cases isR b0 <;> rfl
theorem x_64_0  : exG TB d 64 0 (some v :: r9) st A = rg v (exG TB d 64 1 (some v :: r9) (v :: st) A) := x_rg (op := o_aload 0 1) rfl rfl
theorem x_64_1n  : exG TB d 64 1 L (.null :: st) A = exG TB d 64 4 L st A := x_nx (op := o_ifnonnull 8) rfl rfl
theorem x_64_1r  : exG TB d 64 1 L (.ref p :: st) A = exG TB d 64 8 L st A := x_nx (op := o_ifnonnull 8) rfl rfl
theorem x_64_4  : exG TB d 64 4 L st A = exG TB d 64 5 L (.int (nI 1) :: st) A := x_nx (op := o_push 1 (.int 1)) rfl rfl
theorem x_64_5  : exG TB d 64 5 L st A = exG TB d 64 12 L st A := x_nx (op := o_goto 12) rfl rfl
theorem x_64_8  : exG TB d 64 8 (some v :: r9) st A = rg v (exG TB d 64 9 (some v :: r9) (v :: st) A) := x_rg (op := o_aload 0 1) rfl rfl
theorem x_64_9  : exG TB d 64 9 L (.ref p :: st) A = kv (gf A p 115) d 64 12 L st A := x_bd (op := o_get 115) rfl rfl (fun _ => rfl)
theorem x_64_12  : exG TB d 64 12 L [v] A = ck (okv 5 v) (some (.inl (some v), A)) := x_outg (op := o_ret 5) rfl rfl
theorem e_65 {j1 : Int32} : evG TB (d + 1) 65 [b0, .int j1] A = rg b0 (exG TB d 65 0 [some (b0), some (.int j1)] [] A) := by
  rw [evG_eq]
  show (bif (isR b0 && (true && true)) then exG TB d 65 0 [some (b0), some (.int j1)] [] A else none) = _
  unfold rg
  cases isR b0 <;> rfl
theorem x_65_0  : exG TB d 65 0 (some v :: r9) st A = rg v (exG TB d 65 1 (some v :: r9) (v :: st) A) := x_rg (op := o_aload 0 1) rfl rfl
theorem x_65_1n  : exG TB d 65 1 L (.null :: st) A = exG TB d 65 9 L st A := x_nx (op := o_ifnull 9) rfl rfl
theorem x_65_1r  : exG TB d 65 1 L (.ref p :: st) A = exG TB d 65 4 L st A := x_nx (op := o_ifnull 9) rfl rfl
theorem x_65_4  : exG TB d 65 4 (some v :: r9) st A = rg v (exG TB d 65 5 (some v :: r9) (v :: st) A) := x_rg (op := o_aload 0 1) rfl rfl
theorem x_65_5  : exG TB d 65 5 (a0 :: some (.int i1) :: r9) st A = exG TB d 65 6 (a0 :: some (.int i1) :: r9) (.int i1 :: st) A := x_nx (op := o_iload 1 1) rfl rfl
theorem x_65_6  : exG TB d 65 6 L (v :: .ref p :: st) A = ck ((gf A p 115).isSome && okv 5 v) (exG TB d 65 9 L st (setf A p 115 v)) := x_gd (op := o_put 115 5) rfl rfl
theorem x_65_9  : exG TB d 65 9 L [] A = some (.inl none, A) := x_out (op := o_vret) rfl rfl
theorem e_66  : evG TB (d + 1) 66 [.ref p, b1] A = rg b1 (exG TB d 66 0 [some (.ref p), some (b1), none] [] A) := by
  rw [evG_eq]
  show (bif (true && (isR b1 && true)) then exG TB d 66 0 [some (.ref p), some (b1), none] [] A else none) = _
  unfold rg
  cases isR b1 <;> rfl
theorem x_66_0  : exG TB d 66 0 (a0 :: some v :: r9) st A = rg v (exG TB d 66 1 (a0 :: some v :: r9) (v :: st) A) := x_rg (op := o_aload 1 1) rfl rfl
theorem x_66_1n  : exG TB d 66 1 L (.null :: st) A = exG TB d 66 95 L st A := x_nx (op := o_ifnull 95) rfl rfl
theorem x_66_1r  : exG TB d 66 1 L (.ref p :: st) A = exG TB d 66 4 L st A := x_nx (op := o_ifnull 95) rfl rfl
theorem x_66_4  : exG TB d 66 4 (a0 :: some v :: r9) st A = rg v (exG TB d 66 5 (a0 :: some v :: r9) (v :: st) A) := x_rg (op := o_aload 1 1) rfl rfl
theorem x_66_5  : exG TB d 66 5 L (.ref p :: st) A = kv (gf A p 113) d 66 8 L st A := x_bd (op := o_get 113) rfl rfl (fun _ => rfl)
theorem x_66_8  : exG TB d 66 8 (a0 :: a1 :: a2 :: r9) (v :: st) A = rg v (exG TB d 66 9 (a0 :: a1 :: some v :: r9) st A) := x_rgt (op := o_astore 2 1) rfl rfl
theorem x_66_9  : exG TB d 66 9 (a0 :: some v :: r9) st A = rg v (exG TB d 66 10 (a0 :: some v :: r9) (v :: st) A) := x_rg (op := o_aload 1 1) rfl rfl
theorem x_66_10  : exG TB d 66 10 (a0 :: a1 :: some v :: r9) st A = rg v (exG TB d 66 11 (a0 :: a1 :: some v :: r9) (v :: st) A) := x_rg (op := o_aload 2 1) rfl rfl
theorem x_66_11  : exG TB d 66 11 L (.ref p :: st) A = kv (gf A p 112) d 66 14 L st A := x_bd (op := o_get 112) rfl rfl (fun _ => rfl)
theorem x_66_14  : exG TB d 66 14 L (v :: .ref p :: st) A = ck ((gf A p 113).isSome && okv 0 v) (exG TB d 66 17 L st (setf A p 113 v)) := x_gd (op := o_put 113 0) rfl rfl
theorem x_66_17  : exG TB d 66 17 (a0 :: a1 :: some v :: r9) st A = rg v (exG TB d 66 18 (a0 :: a1 :: some v :: r9) (v :: st) A) := x_rg (op := o_aload 2 1) rfl rfl
theorem x_66_18  : exG TB d 66 18 L (.ref p :: st) A = kv (gf A p 112) d 66 21 L st A := x_bd (op := o_get 112) rfl rfl (fun _ => rfl)
theorem x_66_21n  : exG TB d 66 21 L (.null :: st) A = exG TB d 66 32 L st A := x_nx (op := o_ifnull 32) rfl rfl
theorem x_66_21r  : exG TB d 66 21 L (.ref p :: st) A = exG TB d 66 24 L st A := x_nx (op := o_ifnull 32) rfl rfl
theorem x_66_24  : exG TB d 66 24 (a0 :: a1 :: some v :: r9) st A = rg v (exG TB d 66 25 (a0 :: a1 :: some v :: r9) (v :: st) A) := x_rg (op := o_aload 2 1) rfl rfl
theorem x_66_25  : exG TB d 66 25 L (.ref p :: st) A = kv (gf A p 112) d 66 28 L st A := x_bd (op := o_get 112) rfl rfl (fun _ => rfl)
theorem x_66_28  : exG TB d 66 28 (a0 :: some v :: r9) st A = rg v (exG TB d 66 29 (a0 :: some v :: r9) (v :: st) A) := x_rg (op := o_aload 1 1) rfl rfl
theorem x_66_29  : exG TB d 66 29 L (v :: .ref p :: st) A = ck ((gf A p 114).isSome && okv 0 v) (exG TB d 66 32 L st (setf A p 114 v)) := x_gd (op := o_put 114 0) rfl rfl
theorem x_66_32  : exG TB d 66 32 (a0 :: a1 :: some v :: r9) st A = rg v (exG TB d 66 33 (a0 :: a1 :: some v :: r9) (v :: st) A) := x_rg (op := o_aload 2 1) rfl rfl
theorem x_66_33  : exG TB d 66 33 (a0 :: some v :: r9) st A = rg v (exG TB d 66 34 (a0 :: some v :: r9) (v :: st) A) := x_rg (op := o_aload 1 1) rfl rfl
theorem x_66_34  : exG TB d 66 34 L (.ref p :: st) A = kv (gf A p 114) d 66 37 L st A := x_bd (op := o_get 114) rfl rfl (fun _ => rfl)
theorem x_66_37  : exG TB d 66 37 L (v :: .ref p :: st) A = ck ((gf A p 114).isSome && okv 0 v) (exG TB d 66 40 L st (setf A p 114 v)) := x_gd (op := o_put 114 0) rfl rfl
theorem x_66_40  : exG TB d 66 40 (a0 :: some v :: r9) st A = rg v (exG TB d 66 41 (a0 :: some v :: r9) (v :: st) A) := x_rg (op := o_aload 1 1) rfl rfl
theorem x_66_41  : exG TB d 66 41 L (.ref p :: st) A = kv (gf A p 114) d 66 44 L st A := x_bd (op := o_get 114) rfl rfl (fun _ => rfl)
theorem x_66_44n  : exG TB d 66 44 L (.null :: st) A = exG TB d 66 47 L st A := x_nx (op := o_ifnonnull 55) rfl rfl
theorem x_66_44r  : exG TB d 66 44 L (.ref p :: st) A = exG TB d 66 55 L st A := x_nx (op := o_ifnonnull 55) rfl rfl
theorem x_66_47  : exG TB d 66 47 (some v :: r9) st A = rg v (exG TB d 66 48 (some v :: r9) (v :: st) A) := x_rg (op := o_aload 0 1) rfl rfl
theorem x_66_48  : exG TB d 66 48 (a0 :: a1 :: some v :: r9) st A = rg v (exG TB d 66 49 (a0 :: a1 :: some v :: r9) (v :: st) A) := x_rg (op := o_aload 2 1) rfl rfl
theorem x_66_49  : exG TB d 66 49 L (v :: .ref p :: st) A = ck ((gf A p 103).isSome && okv 0 v) (exG TB d 66 52 L st (setf A p 103 v)) := x_gd (op := o_put 103 0) rfl rfl
theorem x_66_52  : exG TB d 66 52 L st A = exG TB d 66 85 L st A := x_nx (op := o_goto 85) rfl rfl
theorem x_66_55  : exG TB d 66 55 (a0 :: some v :: r9) st A = rg v (exG TB d 66 56 (a0 :: some v :: r9) (v :: st) A) := x_rg (op := o_aload 1 1) rfl rfl
theorem x_66_56  : exG TB d 66 56 L (.ref p :: st) A = kv (gf A p 114) d 66 59 L st A := x_bd (op := o_get 114) rfl rfl (fun _ => rfl)
theorem x_66_59  : exG TB d 66 59 L (.ref p :: st) A = kv (gf A p 112) d 66 62 L st A := x_bd (op := o_get 112) rfl rfl (fun _ => rfl)
theorem x_66_62  : exG TB d 66 62 (a0 :: some v :: r9) st A = rg v (exG TB d 66 63 (a0 :: some v :: r9) (v :: st) A) := x_rg (op := o_aload 1 1) rfl rfl
theorem x_66_63  : exG TB d 66 63 L (.ref q :: .ref p :: st) A = if ¬ p = q then exG TB d 66 77 L st A else exG TB d 66 66 L st A := x_if (op := o_acmp false 77) rfl (ac_f p q) rfl
theorem x_66_63rn  : exG TB d 66 63 L (.null :: .ref p :: st) A = exG TB d 66 77 L st A := x_nx (op := o_acmp false 77) rfl rfl
theorem x_66_63nr  : exG TB d 66 63 L (.ref p :: .null :: st) A = exG TB d 66 77 L st A := x_nx (op := o_acmp false 77) rfl rfl
theorem x_66_63nn  : exG TB d 66 63 L (.null :: .null :: st) A = exG TB d 66 66 L st A := x_nx (op := o_acmp false 77) rfl rfl
theorem x_66_66  : exG TB d 66 66 (a0 :: some v :: r9) st A = rg v (exG TB d 66 67 (a0 :: some v :: r9) (v :: st) A) := x_rg (op := o_aload 1 1) rfl rfl
theorem x_66_67  : exG TB d 66 67 L (.ref p :: st) A = kv (gf A p 114) d 66 70 L st A := x_bd (op := o_get 114) rfl rfl (fun _ => rfl)
theorem x_66_70  : exG TB d 66 70 (a0 :: a1 :: some v :: r9) st A = rg v (exG TB d 66 71 (a0 :: a1 :: some v :: r9) (v :: st) A) := x_rg (op := o_aload 2 1) rfl rfl
theorem x_66_71  : exG TB d 66 71 L (v :: .ref p :: st) A = ck ((gf A p 112).isSome && okv 0 v) (exG TB d 66 74 L st (setf A p 112 v)) := x_gd (op := o_put 112 0) rfl rfl
theorem x_66_74  : exG TB d 66 74 L st A = exG TB d 66 85 L st A := x_nx (op := o_goto 85) rfl rfl
theorem x_66_77  : exG TB d 66 77 (a0 :: some v :: r9) st A = rg v (exG TB d 66 78 (a0 :: some v :: r9) (v :: st) A) := x_rg (op := o_aload 1 1) rfl rfl
theorem x_66_78  : exG TB d 66 78 L (.ref p :: st) A = kv (gf A p 114) d 66 81 L st A := x_bd (op := o_get 114) rfl rfl (fun _ => rfl)
theorem x_66_81  : exG TB d 66 81 (a0 :: a1 :: some v :: r9) st A = rg v (exG TB d 66 82 (a0 :: a1 :: some v :: r9) (v :: st) A) := x_rg (op := o_aload 2 1) rfl rfl
theorem x_66_82  : exG TB d 66 82 L (v :: .ref p :: st) A = ck ((gf A p 113).isSome && okv 0 v) (exG TB d 66 85 L st (setf A p 113 v)) := x_gd (op := o_put 113 0) rfl rfl
theorem x_66_85  : exG TB d 66 85 (a0 :: a1 :: some v :: r9) st A = rg v (exG TB d 66 86 (a0 :: a1 :: some v :: r9) (v :: st) A) := x_rg (op := o_aload 2 1) rfl rfl
theorem x_66_86  : exG TB d 66 86 (a0 :: some v :: r9) st A = rg v (exG TB d 66 87 (a0 :: some v :: r9) (v :: st) A) := x_rg (op := o_aload 1 1) rfl rfl
theorem x_66_87  : exG TB d 66 87 L (v :: .ref p :: st) A = ck ((gf A p 112).isSome && okv 0 v) (exG TB d 66 90 L st (setf A p 112 v)) := x_gd (op := o_put 112 0) rfl rfl
theorem x_66_90  : exG TB d 66 90 (a0 :: some v :: r9) st A = rg v (exG TB d 66 91 (a0 :: some v :: r9) (v :: st) A) := x_rg (op := o_aload 1 1) rfl rfl
theorem x_66_91  : exG TB d 66 91 (a0 :: a1 :: some v :: r9) st A = rg v (exG TB d 66 92 (a0 :: a1 :: some v :: r9) (v :: st) A) := x_rg (op := o_aload 2 1) rfl rfl
theorem x_66_92  : exG TB d 66 92 L (v :: .ref p :: st) A = ck ((gf A p 114).isSome && okv 0 v) (exG TB d 66 95 L st (setf A p 114 v)) := x_gd (op := o_put 114 0) rfl rfl
theorem x_66_95  : exG TB d 66 95 L [] A = some (.inl none, A) := x_out (op := o_vret) rfl rfl
end
