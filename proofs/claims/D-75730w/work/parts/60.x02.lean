set_option maxRecDepth 100000
/-! what each instruction does, as an equation -/
section
variable {d p q n9 : Nat} {L r9 : Lc} {st : List Value} {A : Hp} {g9 : Nat → Int32} {v v2 v3 w0 w1 w2 w3 w4 w5 w6 w7 w8 w9 w10 w11 b0 b1 b2 b3 b4 b5 b6 b7 b8 b9 b10 b11 : Value} {i1 i2 i3 i4 : Int32} {l1 l2 : Int64} {f1 f2 : UInt32} {d1 d2 : UInt64} {a0 a1 a2 a3 a4 a5 a6 a7 a8 a9 a10 a11 a12 a13 a14 a15 a16 a17 a18 a19 a20 a21 a22 a23 a24 a25 a26 a27 a28 a29 a30 a31 a32 a33 a34 a35 a36 a37 a38 a39 a40 a41 a42 a43 : Option Value}
theorem e_125 {j1 : Int32} : evG TB (d + 1) 125 [b0, .int j1, b2] A = rg b0 (rg b2 (exG TB d 125 0 [some (b0), some (.int j1), some (b2), none] [] A)) := by
  rw [evG_eq]
  show (bif (isR b0 && (true && (isR b2 && true))) then exG TB d 125 0 [some (b0), some (.int j1), some (b2), none] [] A else none) = _
  unfold rg
  cases isR b0 <;> cases isR b2 <;> rfl
theorem x_125_0  : exG TB d 125 0 (a0 :: a1 :: some v :: r9) st A = rg v (exG TB d 125 1 (a0 :: a1 :: some v :: r9) (v :: st) A) := x_rg (op := o_aload 2 1) rfl rfl
theorem x_125_1  : exG TB d 125 1 L st A = exG TB d 125 2 L (.int (nI 0) :: st) A := x_nx (op := o_push 1 (.int 0)) rfl rfl
theorem x_125_2  : exG TB d 125 2 (some v :: r9) st A = rg v (exG TB d 125 3 (some v :: r9) (v :: st) A) := x_rg (op := o_aload 0 1) rfl rfl
theorem x_125_3  : exG TB d 125 3 (a0 :: some (.int i1) :: r9) st A = exG TB d 125 4 (a0 :: some (.int i1) :: r9) (.int i1 :: st) A := x_nx (op := o_iload 1 1) rfl rfl
theorem x_125_4  : exG TB d 125 4 L [b0, .ref p, w0, w1] A = kwh [(33, 12)] (sel (gc A p) [(0, 169)]) [.ref p, b0] d 125 7 L [w0, w1] A := x_cvb (op := o_cv [(0, 169)] 1 3 false (some [(33, 12)])) rfl rfl x_hd rfl
theorem x_125_7  : exG TB d 125 7 L (.int i1 :: st) A = exG TB d 125 8 L (.long i1.toInt64 :: st) A := x_nx (op := o_i2l) rfl rfl
theorem x_125_8  : exG TB d 125 8 L (.long l1 :: .int i1 :: .ref p :: st) A = ka (wrJ (ga A p) i1 l1) p d 125 9 L st A := x_bd (op := o_wrJ) rfl rfl (fun _ => rfl)
theorem x_125_9  : exG TB d 125 9 L st A = exG TB d 125 15 L st A := x_nx (op := o_goto 15) rfl rfl
theorem x_125_12  : exG TB d 125 12 (a0 :: a1 :: a2 :: a3 :: r9) (v :: st) A = rg v (exG TB d 125 13 (a0 :: a1 :: a2 :: some v :: r9) st A) := x_rgt (op := o_astore 3 1) rfl rfl
theorem x_125_13  : exG TB d 125 13 L st A = exG TB d 125 14 L (.int (nI 1) :: st) A := x_nx (op := o_push 1 (.int 1)) rfl rfl
theorem x_125_14  : exG TB d 125 14 L [v] A = ck (okv 1 v) (some (.inl (some v), A)) := x_outg (op := o_ret 1) rfl rfl
theorem x_125_15  : exG TB d 125 15 L st A = exG TB d 125 16 L (.int (nI 0) :: st) A := x_nx (op := o_push 1 (.int 0)) rfl rfl
theorem x_125_16  : exG TB d 125 16 L [v] A = ck (okv 1 v) (some (.inl (some v), A)) := x_outg (op := o_ret 1) rfl rfl
theorem e_126 {j1 : Int32} : evG TB (d + 1) 126 [b0, .int j1, b2] A = rg b0 (rg b2 (exG TB d 126 0 [some (b0), some (.int j1), some (b2), none] [] A)) := by
  rw [evG_eq]
  show (bif (isR b0 && (true && (isR b2 && true))) then exG TB d 126 0 [some (b0), some (.int j1), some (b2), none] [] A else none) = _
  unfold rg
  cases isR b0 <;> cases isR b2 <;> rfl
theorem x_126_0  : exG TB d 126 0 (a0 :: a1 :: some v :: r9) st A = rg v (exG TB d 126 1 (a0 :: a1 :: some v :: r9) (v :: st) A) := x_rg (op := o_aload 2 1) rfl rfl
theorem x_126_1  : exG TB d 126 1 L st A = exG TB d 126 2 L (.int (nI 0) :: st) A := x_nx (op := o_push 1 (.int 0)) rfl rfl
theorem x_126_2  : exG TB d 126 2 (some v :: r9) st A = rg v (exG TB d 126 3 (some v :: r9) (v :: st) A) := x_rg (op := o_aload 0 1) rfl rfl
theorem x_126_3  : exG TB d 126 3 (a0 :: some (.int i1) :: r9) st A = exG TB d 126 4 (a0 :: some (.int i1) :: r9) (.int i1 :: st) A := x_nx (op := o_iload 1 1) rfl rfl
theorem x_126_4  : exG TB d 126 4 L [b0, .ref p, w0, w1] A = kwh [(32, 12)] (sel (gc A p) [(0, 171)]) [.ref p, b0] d 126 7 L [w0, w1] A := x_cvb (op := o_cv [(0, 171)] 1 3 false (some [(32, 12)])) rfl rfl x_hd rfl
theorem x_126_7  : exG TB d 126 7 L (.int i1 :: st) A = exG TB d 126 8 L (.long i1.toInt64 :: st) A := x_nx (op := o_i2l) rfl rfl
theorem x_126_8  : exG TB d 126 8 L (.long l1 :: .int i1 :: .ref p :: st) A = ka (wrJ (ga A p) i1 l1) p d 126 9 L st A := x_bd (op := o_wrJ) rfl rfl (fun _ => rfl)
theorem x_126_9  : exG TB d 126 9 L st A = exG TB d 126 15 L st A := x_nx (op := o_goto 15) rfl rfl
theorem x_126_12  : exG TB d 126 12 (a0 :: a1 :: a2 :: a3 :: r9) (v :: st) A = rg v (exG TB d 126 13 (a0 :: a1 :: a2 :: some v :: r9) st A) := x_rgt (op := o_astore 3 1) rfl rfl
theorem x_126_13  : exG TB d 126 13 L st A = exG TB d 126 14 L (.int (nI 1) :: st) A := x_nx (op := o_push 1 (.int 1)) rfl rfl
theorem x_126_14  : exG TB d 126 14 L [v] A = ck (okv 1 v) (some (.inl (some v), A)) := x_outg (op := o_ret 1) rfl rfl
theorem x_126_15  : exG TB d 126 15 L st A = exG TB d 126 16 L (.int (nI 0) :: st) A := x_nx (op := o_push 1 (.int 0)) rfl rfl
theorem x_126_16  : exG TB d 126 16 L [v] A = ck (okv 1 v) (some (.inl (some v), A)) := x_outg (op := o_ret 1) rfl rfl
theorem e_127 {j1 : Int32} : evG TB (d + 1) 127 [b0, .int j1, b2] A = rg b0 (rg b2 (exG TB d 127 0 [some (b0), some (.int j1), some (b2), none] [] A)) := by
  rw [evG_eq]
  show (bif (isR b0 && (true && (isR b2 && true))) then exG TB d 127 0 [some (b0), some (.int j1), some (b2), none] [] A else none) = _
  unfold rg
  cases isR b0 <;> cases isR b2 <;> rfl
theorem x_127_0  : exG TB d 127 0 (a0 :: a1 :: some v :: r9) st A = rg v (exG TB d 127 1 (a0 :: a1 :: some v :: r9) (v :: st) A) := x_rg (op := o_aload 2 1) rfl rfl
theorem x_127_1  : exG TB d 127 1 L st A = exG TB d 127 2 L (.int (nI 0) :: st) A := x_nx (op := o_push 1 (.int 0)) rfl rfl
theorem x_127_2  : exG TB d 127 2 (some v :: r9) st A = rg v (exG TB d 127 3 (some v :: r9) (v :: st) A) := x_rg (op := o_aload 0 1) rfl rfl
theorem x_127_3  : exG TB d 127 3 (a0 :: some (.int i1) :: r9) st A = exG TB d 127 4 (a0 :: some (.int i1) :: r9) (.int i1 :: st) A := x_nx (op := o_iload 1 1) rfl rfl
theorem x_127_4  : exG TB d 127 4 L [b0, .ref p, w0, w1] A = kwh [(32, 12), (33, 15)] (sel (gc A p) [(0, 173)]) [.ref p, b0] d 127 7 L [w0, w1] A := x_cvb (op := o_cv [(0, 173)] 1 3 false (some [(32, 12), (33, 15)])) rfl rfl x_hd rfl
theorem x_127_7  : exG TB d 127 7 L (.int i1 :: st) A = exG TB d 127 8 L (.long i1.toInt64 :: st) A := x_nx (op := o_i2l) rfl rfl
theorem x_127_8  : exG TB d 127 8 L (.long l1 :: .int i1 :: .ref p :: st) A = ka (wrJ (ga A p) i1 l1) p d 127 9 L st A := x_bd (op := o_wrJ) rfl rfl (fun _ => rfl)
theorem x_127_9  : exG TB d 127 9 L st A = exG TB d 127 18 L st A := x_nx (op := o_goto 18) rfl rfl
theorem x_127_12  : exG TB d 127 12 (a0 :: a1 :: a2 :: a3 :: r9) (v :: st) A = rg v (exG TB d 127 13 (a0 :: a1 :: a2 :: some v :: r9) st A) := x_rgt (op := o_astore 3 1) rfl rfl
theorem x_127_13  : exG TB d 127 13 L st A = exG TB d 127 14 L (.int (nI 1) :: st) A := x_nx (op := o_push 1 (.int 1)) rfl rfl
theorem x_127_14  : exG TB d 127 14 L [v] A = ck (okv 1 v) (some (.inl (some v), A)) := x_outg (op := o_ret 1) rfl rfl
theorem x_127_15  : exG TB d 127 15 (a0 :: a1 :: a2 :: a3 :: r9) (v :: st) A = rg v (exG TB d 127 16 (a0 :: a1 :: a2 :: some v :: r9) st A) := x_rgt (op := o_astore 3 1) rfl rfl
theorem x_127_16  : exG TB d 127 16 L st A = exG TB d 127 17 L (.int (nI 2) :: st) A := x_nx (op := o_push 1 (.int 2)) rfl rfl
theorem x_127_17  : exG TB d 127 17 L [v] A = ck (okv 1 v) (some (.inl (some v), A)) := x_outg (op := o_ret 1) rfl rfl
theorem x_127_18  : exG TB d 127 18 L st A = exG TB d 127 19 L (.int (nI 0) :: st) A := x_nx (op := o_push 1 (.int 0)) rfl rfl
theorem x_127_19  : exG TB d 127 19 L [v] A = ck (okv 1 v) (some (.inl (some v), A)) := x_outg (op := o_ret 1) rfl rfl
theorem e_128 {j1 : Int32} {j2 : Int32} {j3 : Int32} {j4 : Int32} : evG TB (d + 1) 128 [b0, .int j1, .int j2, .int j3, .int j4, b5] A = rg b0 (rg b5 (exG TB d 128 0 [some (b0), some (.int j1), some (.int j2), some (.int j3), some (.int j4), some (b5), none] [] A)) := by
  rw [evG_eq]
  show (bif (isR b0 && (true && (true && (true && (true && (isR b5 && true)))))) then exG TB d 128 0 [some (b0), some (.int j1), some (.int j2), some (.int j3), some (.int j4), some (b5), none] [] A else none) = _
  unfold rg
  cases isR b0 <;> cases isR b5 <;> rfl
theorem x_128_0  : exG TB d 128 0 (a0 :: a1 :: a2 :: a3 :: a4 :: some v :: r9) st A = rg v (exG TB d 128 2 (a0 :: a1 :: a2 :: a3 :: a4 :: some v :: r9) (v :: st) A) := x_rg (op := o_aload 5 2) rfl rfl
theorem x_128_2  : exG TB d 128 2 L st A = exG TB d 128 3 L (.int (nI 0) :: st) A := x_nx (op := o_push 1 (.int 0)) rfl rfl
theorem x_128_3  : exG TB d 128 3 (some v :: r9) st A = rg v (exG TB d 128 4 (some v :: r9) (v :: st) A) := x_rg (op := o_aload 0 1) rfl rfl
theorem x_128_4  : exG TB d 128 4 (a0 :: some (.int i1) :: r9) st A = exG TB d 128 5 (a0 :: some (.int i1) :: r9) (.int i1 :: st) A := x_nx (op := o_iload 1 1) rfl rfl
theorem x_128_5  : exG TB d 128 5 (a0 :: a1 :: some (.int i1) :: r9) st A = exG TB d 128 6 (a0 :: a1 :: some (.int i1) :: r9) (.int i1 :: st) A := x_nx (op := o_iload 2 1) rfl rfl
theorem x_128_6  : exG TB d 128 6 (a0 :: a1 :: a2 :: some (.int i1) :: r9) st A = exG TB d 128 7 (a0 :: a1 :: a2 :: some (.int i1) :: r9) (.int i1 :: st) A := x_nx (op := o_iload 3 1) rfl rfl
theorem x_128_7  : exG TB d 128 7 (a0 :: a1 :: a2 :: a3 :: some (.int i1) :: r9) st A = exG TB d 128 9 (a0 :: a1 :: a2 :: a3 :: some (.int i1) :: r9) (.int i1 :: st) A := x_nx (op := o_iload 4 2) rfl rfl
theorem x_128_9  : exG TB d 128 9 L [b3, b2, b1, b0, .ref p, w0, w1] A = kwh [(31, 17), (32, 21), (33, 25)] (sel (gc A p) [(0, 174)]) [.ref p, b0, b1, b2, b3] d 128 12 L [w0, w1] A := x_cvb (op := o_cv [(0, 174)] 4 3 false (some [(31, 17), (32, 21), (33, 25)])) rfl rfl x_hd rfl
theorem x_128_12  : exG TB d 128 12 L (.int i1 :: st) A = exG TB d 128 13 L (.long i1.toInt64 :: st) A := x_nx (op := o_i2l) rfl rfl
theorem x_128_13  : exG TB d 128 13 L (.long l1 :: .int i1 :: .ref p :: st) A = ka (wrJ (ga A p) i1 l1) p d 128 14 L st A := x_bd (op := o_wrJ) rfl rfl (fun _ => rfl)
theorem x_128_14  : exG TB d 128 14 L st A = exG TB d 128 29 L st A := x_nx (op := o_goto 29) rfl rfl
theorem x_128_17  : exG TB d 128 17 (a0 :: a1 :: a2 :: a3 :: a4 :: a5 :: a6 :: r9) (v :: st) A = rg v (exG TB d 128 19 (a0 :: a1 :: a2 :: a3 :: a4 :: a5 :: some v :: r9) st A) := x_rgt (op := o_astore 6 2) rfl rfl
theorem x_128_19  : exG TB d 128 19 L st A = exG TB d 128 20 L (.int (nI 1) :: st) A := x_nx (op := o_push 1 (.int 1)) rfl rfl
theorem x_128_20  : exG TB d 128 20 L [v] A = ck (okv 1 v) (some (.inl (some v), A)) := x_outg (op := o_ret 1) rfl rfl
theorem x_128_21  : exG TB d 128 21 (a0 :: a1 :: a2 :: a3 :: a4 :: a5 :: a6 :: r9) (v :: st) A = rg v (exG TB d 128 23 (a0 :: a1 :: a2 :: a3 :: a4 :: a5 :: some v :: r9) st A) := x_rgt (op := o_astore 6 2) rfl rfl
theorem x_128_23  : exG TB d 128 23 L st A = exG TB d 128 24 L (.int (nI 2) :: st) A := x_nx (op := o_push 1 (.int 2)) rfl rfl
theorem x_128_24  : exG TB d 128 24 L [v] A = ck (okv 1 v) (some (.inl (some v), A)) := x_outg (op := o_ret 1) rfl rfl
theorem x_128_25  : exG TB d 128 25 (a0 :: a1 :: a2 :: a3 :: a4 :: a5 :: a6 :: r9) (v :: st) A = rg v (exG TB d 128 27 (a0 :: a1 :: a2 :: a3 :: a4 :: a5 :: some v :: r9) st A) := x_rgt (op := o_astore 6 2) rfl rfl
theorem x_128_27  : exG TB d 128 27 L st A = exG TB d 128 28 L (.int (nI 3) :: st) A := x_nx (op := o_push 1 (.int 3)) rfl rfl
theorem x_128_28  : exG TB d 128 28 L [v] A = ck (okv 1 v) (some (.inl (some v), A)) := x_outg (op := o_ret 1) rfl rfl
theorem x_128_29  : exG TB d 128 29 L st A = exG TB d 128 30 L (.int (nI 0) :: st) A := x_nx (op := o_push 1 (.int 0)) rfl rfl
theorem x_128_30  : exG TB d 128 30 L [v] A = ck (okv 1 v) (some (.inl (some v), A)) := x_outg (op := o_ret 1) rfl rfl
theorem e_129 {j1 : Int32} {j2 : Int32} {j3 : Int32} : evG TB (d + 1) 129 [b0, .int j1, .int j2, .int j3, b4] A = rg b0 (rg b4 (exG TB d 129 0 [some (b0), some (.int j1), some (.int j2), some (.int j3), some (b4), none] [] A)) := by
  rw [evG_eq]
  show (bif (isR b0 && (true && (true && (true && (isR b4 && true))))) then exG TB d 129 0 [some (b0), some (.int j1), some (.int j2), some (.int j3), some (b4), none] [] A else none) = _
  unfold rg
  cases isR b0 <;> cases isR b4 <;> rfl
theorem x_129_0  : exG TB d 129 0 (a0 :: a1 :: a2 :: a3 :: some v :: r9) st A = rg v (exG TB d 129 2 (a0 :: a1 :: a2 :: a3 :: some v :: r9) (v :: st) A) := x_rg (op := o_aload 4 2) rfl rfl
theorem x_129_2  : exG TB d 129 2 L st A = exG TB d 129 3 L (.int (nI 0) :: st) A := x_nx (op := o_push 1 (.int 0)) rfl rfl
theorem x_129_3  : exG TB d 129 3 (some v :: r9) st A = rg v (exG TB d 129 4 (some v :: r9) (v :: st) A) := x_rg (op := o_aload 0 1) rfl rfl
theorem x_129_4  : exG TB d 129 4 (a0 :: some (.int i1) :: r9) st A = exG TB d 129 5 (a0 :: some (.int i1) :: r9) (.int i1 :: st) A := x_nx (op := o_iload 1 1) rfl rfl
theorem x_129_5  : exG TB d 129 5 (a0 :: a1 :: some (.int i1) :: r9) st A = exG TB d 129 6 (a0 :: a1 :: some (.int i1) :: r9) (.int i1 :: st) A := x_nx (op := o_iload 2 1) rfl rfl
theorem x_129_6  : exG TB d 129 6 (a0 :: a1 :: a2 :: some (.int i1) :: r9) st A = exG TB d 129 7 (a0 :: a1 :: a2 :: some (.int i1) :: r9) (.int i1 :: st) A := x_nx (op := o_iload 3 1) rfl rfl
theorem x_129_7  : exG TB d 129 7 L [b2, b1, b0, .ref p, w0, w1] A = kwh [(32, 15), (33, 19)] (sel (gc A p) [(0, 177)]) [.ref p, b0, b1, b2] d 129 10 L [w0, w1] A := x_cvb (op := o_cv [(0, 177)] 3 3 false (some [(32, 15), (33, 19)])) rfl rfl x_hd rfl
theorem x_129_10  : exG TB d 129 10 L (.int i1 :: st) A = exG TB d 129 11 L (.long i1.toInt64 :: st) A := x_nx (op := o_i2l) rfl rfl
theorem x_129_11  : exG TB d 129 11 L (.long l1 :: .int i1 :: .ref p :: st) A = ka (wrJ (ga A p) i1 l1) p d 129 12 L st A := x_bd (op := o_wrJ) rfl rfl (fun _ => rfl)
theorem x_129_12  : exG TB d 129 12 L st A = exG TB d 129 23 L st A := x_nx (op := o_goto 23) rfl rfl
theorem x_129_15  : exG TB d 129 15 (a0 :: a1 :: a2 :: a3 :: a4 :: a5 :: r9) (v :: st) A = rg v (exG TB d 129 17 (a0 :: a1 :: a2 :: a3 :: a4 :: some v :: r9) st A) := x_rgt (op := o_astore 5 2) rfl rfl
theorem x_129_17  : exG TB d 129 17 L st A = exG TB d 129 18 L (.int (nI 1) :: st) A := x_nx (op := o_push 1 (.int 1)) rfl rfl
theorem x_129_18  : exG TB d 129 18 L [v] A = ck (okv 1 v) (some (.inl (some v), A)) := x_outg (op := o_ret 1) rfl rfl
theorem x_129_19  : exG TB d 129 19 (a0 :: a1 :: a2 :: a3 :: a4 :: a5 :: r9) (v :: st) A = rg v (exG TB d 129 21 (a0 :: a1 :: a2 :: a3 :: a4 :: some v :: r9) st A) := x_rgt (op := o_astore 5 2) rfl rfl
theorem x_129_21  : exG TB d 129 21 L st A = exG TB d 129 22 L (.int (nI 2) :: st) A := x_nx (op := o_push 1 (.int 2)) rfl rfl
theorem x_129_22  : exG TB d 129 22 L [v] A = ck (okv 1 v) (some (.inl (some v), A)) := x_outg (op := o_ret 1) rfl rfl
theorem x_129_23  : exG TB d 129 23 L st A = exG TB d 129 24 L (.int (nI 0) :: st) A := x_nx (op := o_push 1 (.int 0)) rfl rfl
theorem x_129_24  : exG TB d 129 24 L [v] A = ck (okv 1 v) (some (.inl (some v), A)) := x_outg (op := o_ret 1) rfl rfl
theorem e_130 {j1 : Int32} {j2 : Int32} : evG TB (d + 1) 130 [b0, .int j1, .int j2, b3] A = rg b0 (rg b3 (exG TB d 130 0 [some (b0), some (.int j1), some (.int j2), some (b3), none] [] A)) := by
  rw [evG_eq]
  show (bif (isR b0 && (true && (true && (isR b3 && true)))) then exG TB d 130 0 [some (b0), some (.int j1), some (.int j2), some (b3), none] [] A else none) = _
  unfold rg
  cases isR b0 <;> cases isR b3 <;> rfl
theorem x_130_0  : exG TB d 130 0 (a0 :: a1 :: a2 :: some v :: r9) st A = rg v (exG TB d 130 1 (a0 :: a1 :: a2 :: some v :: r9) (v :: st) A) := x_rg (op := o_aload 3 1) rfl rfl
theorem x_130_1  : exG TB d 130 1 L st A = exG TB d 130 2 L (.int (nI 0) :: st) A := x_nx (op := o_push 1 (.int 0)) rfl rfl
theorem x_130_2  : exG TB d 130 2 (some v :: r9) st A = rg v (exG TB d 130 3 (some v :: r9) (v :: st) A) := x_rg (op := o_aload 0 1) rfl rfl
theorem x_130_3  : exG TB d 130 3 (a0 :: some (.int i1) :: r9) st A = exG TB d 130 4 (a0 :: some (.int i1) :: r9) (.int i1 :: st) A := x_nx (op := o_iload 1 1) rfl rfl
theorem x_130_4  : exG TB d 130 4 (a0 :: a1 :: some (.int i1) :: r9) st A = exG TB d 130 5 (a0 :: a1 :: some (.int i1) :: r9) (.int i1 :: st) A := x_nx (op := o_iload 2 1) rfl rfl
theorem x_130_5  : exG TB d 130 5 L [b1, b0, .ref p, w0, w1] A = kwh [(31, 13), (32, 17), (33, 21)] (sel (gc A p) [(0, 178)]) [.ref p, b0, b1] d 130 8 L [w0, w1] A := x_cvb (op := o_cv [(0, 178)] 2 3 false (some [(31, 13), (32, 17), (33, 21)])) rfl rfl x_hd rfl
theorem x_130_8  : exG TB d 130 8 L (.int i1 :: st) A = exG TB d 130 9 L (.long i1.toInt64 :: st) A := x_nx (op := o_i2l) rfl rfl
theorem x_130_9  : exG TB d 130 9 L (.long l1 :: .int i1 :: .ref p :: st) A = ka (wrJ (ga A p) i1 l1) p d 130 10 L st A := x_bd (op := o_wrJ) rfl rfl (fun _ => rfl)
theorem x_130_10  : exG TB d 130 10 L st A = exG TB d 130 25 L st A := x_nx (op := o_goto 25) rfl rfl
theorem x_130_13  : exG TB d 130 13 (a0 :: a1 :: a2 :: a3 :: a4 :: r9) (v :: st) A = rg v (exG TB d 130 15 (a0 :: a1 :: a2 :: a3 :: some v :: r9) st A) := x_rgt (op := o_astore 4 2) rfl rfl
theorem x_130_15  : exG TB d 130 15 L st A = exG TB d 130 16 L (.int (nI 1) :: st) A := x_nx (op := o_push 1 (.int 1)) rfl rfl
theorem x_130_16  : exG TB d 130 16 L [v] A = ck (okv 1 v) (some (.inl (some v), A)) := x_outg (op := o_ret 1) rfl rfl
theorem x_130_17  : exG TB d 130 17 (a0 :: a1 :: a2 :: a3 :: a4 :: r9) (v :: st) A = rg v (exG TB d 130 19 (a0 :: a1 :: a2 :: a3 :: some v :: r9) st A) := x_rgt (op := o_astore 4 2) rfl rfl
theorem x_130_19  : exG TB d 130 19 L st A = exG TB d 130 20 L (.int (nI 2) :: st) A := x_nx (op := o_push 1 (.int 2)) rfl rfl
theorem x_130_20  : exG TB d 130 20 L [v] A = ck (okv 1 v) (some (.inl (some v), A)) := x_outg (op := o_ret 1) rfl rfl
theorem x_130_21  : exG TB d 130 21 (a0 :: a1 :: a2 :: a3 :: a4 :: r9) (v :: st) A = rg v (exG TB d 130 23 (a0 :: a1 :: a2 :: a3 :: some v :: r9) st A) := x_rgt (op := o_astore 4 2) rfl rfl
theorem x_130_23  : exG TB d 130 23 L st A = exG TB d 130 24 L (.int (nI 3) :: st) A := x_nx (op := o_push 1 (.int 3)) rfl rfl
theorem x_130_24  : exG TB d 130 24 L [v] A = ck (okv 1 v) (some (.inl (some v), A)) := x_outg (op := o_ret 1) rfl rfl
theorem x_130_25  : exG TB d 130 25 L st A = exG TB d 130 26 L (.int (nI 0) :: st) A := x_nx (op := o_push 1 (.int 0)) rfl rfl
theorem x_130_26  : exG TB d 130 26 L [v] A = ck (okv 1 v) (some (.inl (some v), A)) := x_outg (op := o_ret 1) rfl rfl
theorem e_131 {j1 : Int32} {j2 : Int32} : evG TB (d + 1) 131 [b0, .int j1, .int j2, b3] A = rg b0 (rg b3 (exG TB d 131 0 [some (b0), some (.int j1), some (.int j2), some (b3), none] [] A)) := by
  rw [evG_eq]
  show (bif (isR b0 && (true && (true && (isR b3 && true)))) then exG TB d 131 0 [some (b0), some (.int j1), some (.int j2), some (b3), none] [] A else none) = _
  unfold rg
  cases isR b0 <;> cases isR b3 <;> rfl
theorem x_131_0  : exG TB d 131 0 (a0 :: a1 :: a2 :: some v :: r9) st A = rg v (exG TB d 131 1 (a0 :: a1 :: a2 :: some v :: r9) (v :: st) A) := x_rg (op := o_aload 3 1) rfl rfl
theorem x_131_1  : exG TB d 131 1 L st A = exG TB d 131 2 L (.int (nI 0) :: st) A := x_nx (op := o_push 1 (.int 0)) rfl rfl
theorem x_131_2  : exG TB d 131 2 (some v :: r9) st A = rg v (exG TB d 131 3 (some v :: r9) (v :: st) A) := x_rg (op := o_aload 0 1) rfl rfl
theorem x_131_3  : exG TB d 131 3 (a0 :: some (.int i1) :: r9) st A = exG TB d 131 4 (a0 :: some (.int i1) :: r9) (.int i1 :: st) A := x_nx (op := o_iload 1 1) rfl rfl
theorem x_131_4  : exG TB d 131 4 (a0 :: a1 :: some (.int i1) :: r9) st A = exG TB d 131 5 (a0 :: a1 :: some (.int i1) :: r9) (.int i1 :: st) A := x_nx (op := o_iload 2 1) rfl rfl
theorem x_131_5  : exG TB d 131 5 L [b1, b0, .ref p, w0, w1] A = kwh [(32, 13)] (sel (gc A p) [(0, 180)]) [.ref p, b0, b1] d 131 8 L [w0, w1] A := x_cvb (op := o_cv [(0, 180)] 2 3 false (some [(32, 13)])) rfl rfl x_hd rfl
theorem x_131_8  : exG TB d 131 8 L (.int i1 :: st) A = exG TB d 131 9 L (.long i1.toInt64 :: st) A := x_nx (op := o_i2l) rfl rfl
theorem x_131_9  : exG TB d 131 9 L (.long l1 :: .int i1 :: .ref p :: st) A = ka (wrJ (ga A p) i1 l1) p d 131 10 L st A := x_bd (op := o_wrJ) rfl rfl (fun _ => rfl)
theorem x_131_10  : exG TB d 131 10 L st A = exG TB d 131 17 L st A := x_nx (op := o_goto 17) rfl rfl
theorem x_131_13  : exG TB d 131 13 (a0 :: a1 :: a2 :: a3 :: a4 :: r9) (v :: st) A = rg v (exG TB d 131 15 (a0 :: a1 :: a2 :: a3 :: some v :: r9) st A) := x_rgt (op := o_astore 4 2) rfl rfl
theorem x_131_15  : exG TB d 131 15 L st A = exG TB d 131 16 L (.int (nI 1) :: st) A := x_nx (op := o_push 1 (.int 1)) rfl rfl
theorem x_131_16  : exG TB d 131 16 L [v] A = ck (okv 1 v) (some (.inl (some v), A)) := x_outg (op := o_ret 1) rfl rfl
theorem x_131_17  : exG TB d 131 17 L st A = exG TB d 131 18 L (.int (nI 0) :: st) A := x_nx (op := o_push 1 (.int 0)) rfl rfl
theorem x_131_18  : exG TB d 131 18 L [v] A = ck (okv 1 v) (some (.inl (some v), A)) := x_outg (op := o_ret 1) rfl rfl
theorem e_132 {j1 : Int32} : evG TB (d + 1) 132 [b0, .int j1, b2] A = rg b0 (rg b2 (exG TB d 132 0 [some (b0), some (.int j1), some (b2), none] [] A)) := by
  rw [evG_eq]
  show (bif (isR b0 && (true && (isR b2 && true))) then exG TB d 132 0 [some (b0), some (.int j1), some (b2), none] [] A else none) = _
  unfold rg
  cases isR b0 <;> cases isR b2 <;> rfl
theorem x_132_0  : exG TB d 132 0 (a0 :: a1 :: some v :: r9) st A = rg v (exG TB d 132 1 (a0 :: a1 :: some v :: r9) (v :: st) A) := x_rg (op := o_aload 2 1) rfl rfl
theorem x_132_1  : exG TB d 132 1 L st A = exG TB d 132 2 L (.int (nI 0) :: st) A := x_nx (op := o_push 1 (.int 0)) rfl rfl
theorem x_132_2  : exG TB d 132 2 (some v :: r9) st A = rg v (exG TB d 132 3 (some v :: r9) (v :: st) A) := x_rg (op := o_aload 0 1) rfl rfl
theorem x_132_3  : exG TB d 132 3 (a0 :: some (.int i1) :: r9) st A = exG TB d 132 4 (a0 :: some (.int i1) :: r9) (.int i1 :: st) A := x_nx (op := o_iload 1 1) rfl rfl
theorem x_132_4  : exG TB d 132 4 L [b0, .ref p, w0, w1] A = kwh [(32, 12)] (sel (gc A p) [(0, 181)]) [.ref p, b0] d 132 7 L [w0, w1] A := x_cvb (op := o_cv [(0, 181)] 1 3 false (some [(32, 12)])) rfl rfl x_hd rfl
theorem x_132_7  : exG TB d 132 7 L (.int i1 :: st) A = exG TB d 132 8 L (.long i1.toInt64 :: st) A := x_nx (op := o_i2l) rfl rfl
theorem x_132_8  : exG TB d 132 8 L (.long l1 :: .int i1 :: .ref p :: st) A = ka (wrJ (ga A p) i1 l1) p d 132 9 L st A := x_bd (op := o_wrJ) rfl rfl (fun _ => rfl)
theorem x_132_9  : exG TB d 132 9 L st A = exG TB d 132 15 L st A := x_nx (op := o_goto 15) rfl rfl
theorem x_132_12  : exG TB d 132 12 (a0 :: a1 :: a2 :: a3 :: r9) (v :: st) A = rg v (exG TB d 132 13 (a0 :: a1 :: a2 :: some v :: r9) st A) := x_rgt (op := o_astore 3 1) rfl rfl
theorem x_132_13  : exG TB d 132 13 L st A = exG TB d 132 14 L (.int (nI 1) :: st) A := x_nx (op := o_push 1 (.int 1)) rfl rfl
theorem x_132_14  : exG TB d 132 14 L [v] A = ck (okv 1 v) (some (.inl (some v), A)) := x_outg (op := o_ret 1) rfl rfl
theorem x_132_15  : exG TB d 132 15 L st A = exG TB d 132 16 L (.int (nI 0) :: st) A := x_nx (op := o_push 1 (.int 0)) rfl rfl
theorem x_132_16  : exG TB d 132 16 L [v] A = ck (okv 1 v) (some (.inl (some v), A)) := x_outg (op := o_ret 1) rfl rfl
theorem e_133 {j1 : Int32} {j2 : Int32} : evG TB (d + 1) 133 [b0, .int j1, .int j2, b3] A = rg b0 (rg b3 (exG TB d 133 0 [some (b0), some (.int j1), some (.int j2), some (b3), none] [] A)) := by
  rw [evG_eq]
  show (bif (isR b0 && (true && (true && (isR b3 && true)))) then exG TB d 133 0 [some (b0), some (.int j1), some (.int j2), some (b3), none] [] A else none) = _
  unfold rg
  cases isR b0 <;> cases isR b3 <;> rfl
theorem x_133_0  : exG TB d 133 0 (a0 :: a1 :: a2 :: some v :: r9) st A = rg v (exG TB d 133 1 (a0 :: a1 :: a2 :: some v :: r9) (v :: st) A) := x_rg (op := o_aload 3 1) rfl rfl
theorem x_133_1  : exG TB d 133 1 L st A = exG TB d 133 2 L (.int (nI 0) :: st) A := x_nx (op := o_push 1 (.int 0)) rfl rfl
theorem x_133_2  : exG TB d 133 2 (some v :: r9) st A = rg v (exG TB d 133 3 (some v :: r9) (v :: st) A) := x_rg (op := o_aload 0 1) rfl rfl
theorem x_133_3  : exG TB d 133 3 (a0 :: some (.int i1) :: r9) st A = exG TB d 133 4 (a0 :: some (.int i1) :: r9) (.int i1 :: st) A := x_nx (op := o_iload 1 1) rfl rfl
theorem x_133_4  : exG TB d 133 4 (a0 :: a1 :: some (.int i1) :: r9) st A = exG TB d 133 5 (a0 :: a1 :: some (.int i1) :: r9) (.int i1 :: st) A := x_nx (op := o_iload 2 1) rfl rfl
theorem x_133_5  : exG TB d 133 5 L [b1, b0, .ref p, w0, w1] A = kwh [(31, 13), (32, 17)] (sel (gc A p) [(0, 184)]) [.ref p, b0, b1] d 133 8 L [w0, w1] A := x_cvb (op := o_cv [(0, 184)] 2 3 false (some [(31, 13), (32, 17)])) rfl rfl x_hd rfl
theorem x_133_8  : exG TB d 133 8 L (.int i1 :: st) A = exG TB d 133 9 L (.long i1.toInt64 :: st) A := x_nx (op := o_i2l) rfl rfl
theorem x_133_9  : exG TB d 133 9 L (.long l1 :: .int i1 :: .ref p :: st) A = ka (wrJ (ga A p) i1 l1) p d 133 10 L st A := x_bd (op := o_wrJ) rfl rfl (fun _ => rfl)
theorem x_133_10  : exG TB d 133 10 L st A = exG TB d 133 21 L st A := x_nx (op := o_goto 21) rfl rfl
theorem x_133_13  : exG TB d 133 13 (a0 :: a1 :: a2 :: a3 :: a4 :: r9) (v :: st) A = rg v (exG TB d 133 15 (a0 :: a1 :: a2 :: a3 :: some v :: r9) st A) := x_rgt (op := o_astore 4 2) rfl rfl
theorem x_133_15  : exG TB d 133 15 L st A = exG TB d 133 16 L (.int (nI 1) :: st) A := x_nx (op := o_push 1 (.int 1)) rfl rfl
theorem x_133_16  : exG TB d 133 16 L [v] A = ck (okv 1 v) (some (.inl (some v), A)) := x_outg (op := o_ret 1) rfl rfl
theorem x_133_17  : exG TB d 133 17 (a0 :: a1 :: a2 :: a3 :: a4 :: r9) (v :: st) A = rg v (exG TB d 133 19 (a0 :: a1 :: a2 :: a3 :: some v :: r9) st A) := x_rgt (op := o_astore 4 2) rfl rfl
theorem x_133_19  : exG TB d 133 19 L st A = exG TB d 133 20 L (.int (nI 2) :: st) A := x_nx (op := o_push 1 (.int 2)) rfl rfl
theorem x_133_20  : exG TB d 133 20 L [v] A = ck (okv 1 v) (some (.inl (some v), A)) := x_outg (op := o_ret 1) rfl rfl
theorem x_133_21  : exG TB d 133 21 L st A = exG TB d 133 22 L (.int (nI 0) :: st) A := x_nx (op := o_push 1 (.int 0)) rfl rfl
theorem x_133_22  : exG TB d 133 22 L [v] A = ck (okv 1 v) (some (.inl (some v), A)) := x_outg (op := o_ret 1) rfl rfl
theorem e_134 {j1 : Int32} {j2 : Int32} : evG TB (d + 1) 134 [b0, .int j1, .int j2, b3] A = rg b0 (rg b3 (exG TB d 134 0 [some (b0), some (.int j1), some (.int j2), some (b3), none] [] A)) := by
  rw [evG_eq]
  show (bif (isR b0 && (true && (true && (isR b3 && true)))) then exG TB d 134 0 [some (b0), some (.int j1), some (.int j2), some (b3), none] [] A else none) = _
  unfold rg
  cases isR b0 <;> cases isR b3 <;> rfl
theorem x_134_0  : exG TB d 134 0 (a0 :: a1 :: a2 :: some v :: r9) st A = rg v (exG TB d 134 1 (a0 :: a1 :: a2 :: some v :: r9) (v :: st) A) := x_rg (op := o_aload 3 1) rfl rfl
theorem x_134_1  : exG TB d 134 1 L st A = exG TB d 134 2 L (.int (nI 0) :: st) A := x_nx (op := o_push 1 (.int 0)) rfl rfl
theorem x_134_2  : exG TB d 134 2 (some v :: r9) st A = rg v (exG TB d 134 3 (some v :: r9) (v :: st) A) := x_rg (op := o_aload 0 1) rfl rfl
theorem x_134_3  : exG TB d 134 3 (a0 :: some (.int i1) :: r9) st A = exG TB d 134 4 (a0 :: some (.int i1) :: r9) (.int i1 :: st) A := x_nx (op := o_iload 1 1) rfl rfl
theorem x_134_4  : exG TB d 134 4 (a0 :: a1 :: some (.int i1) :: r9) st A = exG TB d 134 5 (a0 :: a1 :: some (.int i1) :: r9) (.int i1 :: st) A := x_nx (op := o_iload 2 1) rfl rfl
theorem x_134_5  : exG TB d 134 5 L [b1, b0, .ref p, w0, w1] A = kwh [(31, 13), (32, 17)] (sel (gc A p) [(0, 186)]) [.ref p, b0, b1] d 134 8 L [w0, w1] A := x_cvb (op := o_cv [(0, 186)] 2 3 false (some [(31, 13), (32, 17)])) rfl rfl x_hd rfl
theorem x_134_8  : exG TB d 134 8 L (.int i1 :: st) A = exG TB d 134 9 L (.long i1.toInt64 :: st) A := x_nx (op := o_i2l) rfl rfl
theorem x_134_9  : exG TB d 134 9 L (.long l1 :: .int i1 :: .ref p :: st) A = ka (wrJ (ga A p) i1 l1) p d 134 10 L st A := x_bd (op := o_wrJ) rfl rfl (fun _ => rfl)
theorem x_134_10  : exG TB d 134 10 L st A = exG TB d 134 21 L st A := x_nx (op := o_goto 21) rfl rfl
theorem x_134_13  : exG TB d 134 13 (a0 :: a1 :: a2 :: a3 :: a4 :: r9) (v :: st) A = rg v (exG TB d 134 15 (a0 :: a1 :: a2 :: a3 :: some v :: r9) st A) := x_rgt (op := o_astore 4 2) rfl rfl
theorem x_134_15  : exG TB d 134 15 L st A = exG TB d 134 16 L (.int (nI 1) :: st) A := x_nx (op := o_push 1 (.int 1)) rfl rfl
theorem x_134_16  : exG TB d 134 16 L [v] A = ck (okv 1 v) (some (.inl (some v), A)) := x_outg (op := o_ret 1) rfl rfl
theorem x_134_17  : exG TB d 134 17 (a0 :: a1 :: a2 :: a3 :: a4 :: r9) (v :: st) A = rg v (exG TB d 134 19 (a0 :: a1 :: a2 :: a3 :: some v :: r9) st A) := x_rgt (op := o_astore 4 2) rfl rfl
theorem x_134_19  : exG TB d 134 19 L st A = exG TB d 134 20 L (.int (nI 2) :: st) A := x_nx (op := o_push 1 (.int 2)) rfl rfl
theorem x_134_20  : exG TB d 134 20 L [v] A = ck (okv 1 v) (some (.inl (some v), A)) := x_outg (op := o_ret 1) rfl rfl
theorem x_134_21  : exG TB d 134 21 L st A = exG TB d 134 22 L (.int (nI 0) :: st) A := x_nx (op := o_push 1 (.int 0)) rfl rfl
theorem x_134_22  : exG TB d 134 22 L [v] A = ck (okv 1 v) (some (.inl (some v), A)) := x_outg (op := o_ret 1) rfl rfl
theorem e_135 {j1 : Int32} {j2 : Int32} : evG TB (d + 1) 135 [b0, .int j1, .int j2, b3] A = rg b0 (rg b3 (exG TB d 135 0 [some (b0), some (.int j1), some (.int j2), some (b3), none] [] A)) := by
  rw [evG_eq]
  show (bif (isR b0 && (true && (true && (isR b3 && true)))) then exG TB d 135 0 [some (b0), some (.int j1), some (.int j2), some (b3), none] [] A else none) = _
  unfold rg
  cases isR b0 <;> cases isR b3 <;> rfl
theorem x_135_0  : exG TB d 135 0 (a0 :: a1 :: a2 :: some v :: r9) st A = rg v (exG TB d 135 1 (a0 :: a1 :: a2 :: some v :: r9) (v :: st) A) := x_rg (op := o_aload 3 1) rfl rfl
theorem x_135_1  : exG TB d 135 1 L st A = exG TB d 135 2 L (.int (nI 0) :: st) A := x_nx (op := o_push 1 (.int 0)) rfl rfl
theorem x_135_2  : exG TB d 135 2 (some v :: r9) st A = rg v (exG TB d 135 3 (some v :: r9) (v :: st) A) := x_rg (op := o_aload 0 1) rfl rfl
theorem x_135_3  : exG TB d 135 3 (a0 :: some (.int i1) :: r9) st A = exG TB d 135 4 (a0 :: some (.int i1) :: r9) (.int i1 :: st) A := x_nx (op := o_iload 1 1) rfl rfl
theorem x_135_4  : exG TB d 135 4 (a0 :: a1 :: some (.int i1) :: r9) st A = exG TB d 135 5 (a0 :: a1 :: some (.int i1) :: r9) (.int i1 :: st) A := x_nx (op := o_iload 2 1) rfl rfl
theorem x_135_5  : exG TB d 135 5 L [b1, b0, .ref p, w0, w1] A = kwh [(31, 13), (32, 17)] (sel (gc A p) [(0, 187)]) [.ref p, b0, b1] d 135 8 L [w0, w1] A := x_cvb (op := o_cv [(0, 187)] 2 3 false (some [(31, 13), (32, 17)])) rfl rfl x_hd rfl
theorem x_135_8  : exG TB d 135 8 L (.int i1 :: st) A = exG TB d 135 9 L (.long i1.toInt64 :: st) A := x_nx (op := o_i2l) rfl rfl
theorem x_135_9  : exG TB d 135 9 L (.long l1 :: .int i1 :: .ref p :: st) A = ka (wrJ (ga A p) i1 l1) p d 135 10 L st A := x_bd (op := o_wrJ) rfl rfl (fun _ => rfl)
theorem x_135_10  : exG TB d 135 10 L st A = exG TB d 135 21 L st A := x_nx (op := o_goto 21) rfl rfl
theorem x_135_13  : exG TB d 135 13 (a0 :: a1 :: a2 :: a3 :: a4 :: r9) (v :: st) A = rg v (exG TB d 135 15 (a0 :: a1 :: a2 :: a3 :: some v :: r9) st A) := x_rgt (op := o_astore 4 2) rfl rfl
theorem x_135_15  : exG TB d 135 15 L st A = exG TB d 135 16 L (.int (nI 1) :: st) A := x_nx (op := o_push 1 (.int 1)) rfl rfl
theorem x_135_16  : exG TB d 135 16 L [v] A = ck (okv 1 v) (some (.inl (some v), A)) := x_outg (op := o_ret 1) rfl rfl
theorem x_135_17  : exG TB d 135 17 (a0 :: a1 :: a2 :: a3 :: a4 :: r9) (v :: st) A = rg v (exG TB d 135 19 (a0 :: a1 :: a2 :: a3 :: some v :: r9) st A) := x_rgt (op := o_astore 4 2) rfl rfl
theorem x_135_19  : exG TB d 135 19 L st A = exG TB d 135 20 L (.int (nI 2) :: st) A := x_nx (op := o_push 1 (.int 2)) rfl rfl
theorem x_135_20  : exG TB d 135 20 L [v] A = ck (okv 1 v) (some (.inl (some v), A)) := x_outg (op := o_ret 1) rfl rfl
theorem x_135_21  : exG TB d 135 21 L st A = exG TB d 135 22 L (.int (nI 0) :: st) A := x_nx (op := o_push 1 (.int 0)) rfl rfl
theorem x_135_22  : exG TB d 135 22 L [v] A = ck (okv 1 v) (some (.inl (some v), A)) := x_outg (op := o_ret 1) rfl rfl
theorem e_136 {j1 : Int32} {j2 : Int32} : evG TB (d + 1) 136 [b0, .int j1, .int j2, b3] A = rg b0 (rg b3 (exG TB d 136 0 [some (b0), some (.int j1), some (.int j2), some (b3), none] [] A)) := by
  rw [evG_eq]
  show (bif (isR b0 && (true && (true && (isR b3 && true)))) then exG TB d 136 0 [some (b0), some (.int j1), some (.int j2), some (b3), none] [] A else none) = _
  unfold rg
  cases isR b0 <;> cases isR b3 <;> rfl
theorem x_136_0  : exG TB d 136 0 (a0 :: a1 :: a2 :: some v :: r9) st A = rg v (exG TB d 136 1 (a0 :: a1 :: a2 :: some v :: r9) (v :: st) A) := x_rg (op := o_aload 3 1) rfl rfl
theorem x_136_1  : exG TB d 136 1 L st A = exG TB d 136 2 L (.int (nI 0) :: st) A := x_nx (op := o_push 1 (.int 0)) rfl rfl
theorem x_136_2  : exG TB d 136 2 (some v :: r9) st A = rg v (exG TB d 136 3 (some v :: r9) (v :: st) A) := x_rg (op := o_aload 0 1) rfl rfl
theorem x_136_3  : exG TB d 136 3 (a0 :: some (.int i1) :: r9) st A = exG TB d 136 4 (a0 :: some (.int i1) :: r9) (.int i1 :: st) A := x_nx (op := o_iload 1 1) rfl rfl
theorem x_136_4  : exG TB d 136 4 (a0 :: a1 :: some (.int i1) :: r9) st A = exG TB d 136 5 (a0 :: a1 :: some (.int i1) :: r9) (.int i1 :: st) A := x_nx (op := o_iload 2 1) rfl rfl
theorem x_136_5  : exG TB d 136 5 L [b1, b0, .ref p, w0, w1] A = kwh [(31, 13)] (sel (gc A p) [(0, 189)]) [.ref p, b0, b1] d 136 8 L [w0, w1] A := x_cvb (op := o_cv [(0, 189)] 2 3 false (some [(31, 13)])) rfl rfl x_hd rfl
theorem x_136_8  : exG TB d 136 8 L (.int i1 :: st) A = exG TB d 136 9 L (.long i1.toInt64 :: st) A := x_nx (op := o_i2l) rfl rfl
theorem x_136_9  : exG TB d 136 9 L (.long l1 :: .int i1 :: .ref p :: st) A = ka (wrJ (ga A p) i1 l1) p d 136 10 L st A := x_bd (op := o_wrJ) rfl rfl (fun _ => rfl)
theorem x_136_10  : exG TB d 136 10 L st A = exG TB d 136 17 L st A := x_nx (op := o_goto 17) rfl rfl
theorem x_136_13  : exG TB d 136 13 (a0 :: a1 :: a2 :: a3 :: a4 :: r9) (v :: st) A = rg v (exG TB d 136 15 (a0 :: a1 :: a2 :: a3 :: some v :: r9) st A) := x_rgt (op := o_astore 4 2) rfl rfl
theorem x_136_15  : exG TB d 136 15 L st A = exG TB d 136 16 L (.int (nI 1) :: st) A := x_nx (op := o_push 1 (.int 1)) rfl rfl
theorem x_136_16  : exG TB d 136 16 L [v] A = ck (okv 1 v) (some (.inl (some v), A)) := x_outg (op := o_ret 1) rfl rfl
theorem x_136_17  : exG TB d 136 17 L st A = exG TB d 136 18 L (.int (nI 0) :: st) A := x_nx (op := o_push 1 (.int 0)) rfl rfl
theorem x_136_18  : exG TB d 136 18 L [v] A = ck (okv 1 v) (some (.inl (some v), A)) := x_outg (op := o_ret 1) rfl rfl
theorem e_137 {j1 : Int32} {j2 : Int32} {j3 : Int32} {j4 : Int32} : evG TB (d + 1) 137 [b0, .int j1, .int j2, .int j3, .int j4, b5] A = rg b0 (rg b5 (exG TB d 137 0 [some (b0), some (.int j1), some (.int j2), some (.int j3), some (.int j4), some (b5), none] [] A)) := by
  rw [evG_eq]
  show (bif (isR b0 && (true && (true && (true && (true && (isR b5 && true)))))) then exG TB d 137 0 [some (b0), some (.int j1), some (.int j2), some (.int j3), some (.int j4), some (b5), none] [] A else none) = _
  unfold rg
  cases isR b0 <;> cases isR b5 <;> rfl
theorem x_137_0  : exG TB d 137 0 (a0 :: a1 :: a2 :: a3 :: a4 :: some v :: r9) st A = rg v (exG TB d 137 2 (a0 :: a1 :: a2 :: a3 :: a4 :: some v :: r9) (v :: st) A) := x_rg (op := o_aload 5 2) rfl rfl
theorem x_137_2  : exG TB d 137 2 L st A = exG TB d 137 3 L (.int (nI 0) :: st) A := x_nx (op := o_push 1 (.int 0)) rfl rfl
theorem x_137_3  : exG TB d 137 3 (some v :: r9) st A = rg v (exG TB d 137 4 (some v :: r9) (v :: st) A) := x_rg (op := o_aload 0 1) rfl rfl
theorem x_137_4  : exG TB d 137 4 (a0 :: some (.int i1) :: r9) st A = exG TB d 137 5 (a0 :: some (.int i1) :: r9) (.int i1 :: st) A := x_nx (op := o_iload 1 1) rfl rfl
theorem x_137_5  : exG TB d 137 5 (a0 :: a1 :: some (.int i1) :: r9) st A = exG TB d 137 6 (a0 :: a1 :: some (.int i1) :: r9) (.int i1 :: st) A := x_nx (op := o_iload 2 1) rfl rfl
theorem x_137_6  : exG TB d 137 6 (a0 :: a1 :: a2 :: some (.int i1) :: r9) st A = exG TB d 137 7 (a0 :: a1 :: a2 :: some (.int i1) :: r9) (.int i1 :: st) A := x_nx (op := o_iload 3 1) rfl rfl
theorem x_137_7  : exG TB d 137 7 (a0 :: a1 :: a2 :: a3 :: some (.int i1) :: r9) st A = exG TB d 137 9 (a0 :: a1 :: a2 :: a3 :: some (.int i1) :: r9) (.int i1 :: st) A := x_nx (op := o_iload 4 2) rfl rfl
theorem x_137_9  : exG TB d 137 9 L [b3, b2, b1, b0, .ref p, w0, w1] A = kwh [(31, 17), (32, 21)] (sel (gc A p) [(0, 190)]) [.ref p, b0, b1, b2, b3] d 137 12 L [w0, w1] A := x_cvb (op := o_cv [(0, 190)] 4 3 false (some [(31, 17), (32, 21)])) rfl rfl x_hd rfl
theorem x_137_12  : exG TB d 137 12 L (.int i1 :: st) A = exG TB d 137 13 L (.long i1.toInt64 :: st) A := x_nx (op := o_i2l) rfl rfl
theorem x_137_13  : exG TB d 137 13 L (.long l1 :: .int i1 :: .ref p :: st) A = ka (wrJ (ga A p) i1 l1) p d 137 14 L st A := x_bd (op := o_wrJ) rfl rfl (fun _ => rfl)
theorem x_137_14  : exG TB d 137 14 L st A = exG TB d 137 25 L st A := x_nx (op := o_goto 25) rfl rfl
theorem x_137_17  : exG TB d 137 17 (a0 :: a1 :: a2 :: a3 :: a4 :: a5 :: a6 :: r9) (v :: st) A = rg v (exG TB d 137 19 (a0 :: a1 :: a2 :: a3 :: a4 :: a5 :: some v :: r9) st A) := x_rgt (op := o_astore 6 2) rfl rfl
theorem x_137_19  : exG TB d 137 19 L st A = exG TB d 137 20 L (.int (nI 1) :: st) A := x_nx (op := o_push 1 (.int 1)) rfl rfl
theorem x_137_20  : exG TB d 137 20 L [v] A = ck (okv 1 v) (some (.inl (some v), A)) := x_outg (op := o_ret 1) rfl rfl
theorem x_137_21  : exG TB d 137 21 (a0 :: a1 :: a2 :: a3 :: a4 :: a5 :: a6 :: r9) (v :: st) A = rg v (exG TB d 137 23 (a0 :: a1 :: a2 :: a3 :: a4 :: a5 :: some v :: r9) st A) := x_rgt (op := o_astore 6 2) rfl rfl
theorem x_137_23  : exG TB d 137 23 L st A = exG TB d 137 24 L (.int (nI 2) :: st) A := x_nx (op := o_push 1 (.int 2)) rfl rfl
theorem x_137_24  : exG TB d 137 24 L [v] A = ck (okv 1 v) (some (.inl (some v), A)) := x_outg (op := o_ret 1) rfl rfl
theorem x_137_25  : exG TB d 137 25 L st A = exG TB d 137 26 L (.int (nI 0) :: st) A := x_nx (op := o_push 1 (.int 0)) rfl rfl
theorem x_137_26  : exG TB d 137 26 L [v] A = ck (okv 1 v) (some (.inl (some v), A)) := x_outg (op := o_ret 1) rfl rfl
theorem e_138 {j1 : Int32} {j2 : Int32} {j3 : Int32} {j4 : Int32} : evG TB (d + 1) 138 [b0, .int j1, .int j2, .int j3, .int j4, b5] A = rg b0 (rg b5 (exG TB d 138 0 [some (b0), some (.int j1), some (.int j2), some (.int j3), some (.int j4), some (b5), none] [] A)) := by
  rw [evG_eq]
  show (bif (isR b0 && (true && (true && (true && (true && (isR b5 && true)))))) then exG TB d 138 0 [some (b0), some (.int j1), some (.int j2), some (.int j3), some (.int j4), some (b5), none] [] A else none) = _
  unfold rg
  cases isR b0 <;> cases isR b5 <;> rfl
theorem x_138_0  : exG TB d 138 0 (a0 :: a1 :: a2 :: a3 :: a4 :: some v :: r9) st A = rg v (exG TB d 138 2 (a0 :: a1 :: a2 :: a3 :: a4 :: some v :: r9) (v :: st) A) := x_rg (op := o_aload 5 2) rfl rfl
theorem x_138_2  : exG TB d 138 2 L st A = exG TB d 138 3 L (.int (nI 0) :: st) A := x_nx (op := o_push 1 (.int 0)) rfl rfl
theorem x_138_3  : exG TB d 138 3 (some v :: r9) st A = rg v (exG TB d 138 4 (some v :: r9) (v :: st) A) := x_rg (op := o_aload 0 1) rfl rfl
theorem x_138_4  : exG TB d 138 4 (a0 :: some (.int i1) :: r9) st A = exG TB d 138 5 (a0 :: some (.int i1) :: r9) (.int i1 :: st) A := x_nx (op := o_iload 1 1) rfl rfl
theorem x_138_5  : exG TB d 138 5 (a0 :: a1 :: some (.int i1) :: r9) st A = exG TB d 138 6 (a0 :: a1 :: some (.int i1) :: r9) (.int i1 :: st) A := x_nx (op := o_iload 2 1) rfl rfl
theorem x_138_6  : exG TB d 138 6 (a0 :: a1 :: a2 :: some (.int i1) :: r9) st A = exG TB d 138 7 (a0 :: a1 :: a2 :: some (.int i1) :: r9) (.int i1 :: st) A := x_nx (op := o_iload 3 1) rfl rfl
theorem x_138_7  : exG TB d 138 7 (a0 :: a1 :: a2 :: a3 :: some (.int i1) :: r9) st A = exG TB d 138 9 (a0 :: a1 :: a2 :: a3 :: some (.int i1) :: r9) (.int i1 :: st) A := x_nx (op := o_iload 4 2) rfl rfl
theorem x_138_9  : exG TB d 138 9 L [b3, b2, b1, b0, .ref p, w0, w1] A = kwh [(31, 17), (32, 21)] (sel (gc A p) [(0, 193)]) [.ref p, b0, b1, b2, b3] d 138 12 L [w0, w1] A := x_cvb (op := o_cv [(0, 193)] 4 3 false (some [(31, 17), (32, 21)])) rfl rfl x_hd rfl
theorem x_138_12  : exG TB d 138 12 L (.int i1 :: st) A = exG TB d 138 13 L (.long i1.toInt64 :: st) A := x_nx (op := o_i2l) rfl rfl
theorem x_138_13  : exG TB d 138 13 L (.long l1 :: .int i1 :: .ref p :: st) A = ka (wrJ (ga A p) i1 l1) p d 138 14 L st A := x_bd (op := o_wrJ) rfl rfl (fun _ => rfl)
theorem x_138_14  : exG TB d 138 14 L st A = exG TB d 138 25 L st A := x_nx (op := o_goto 25) rfl rfl
theorem x_138_17  : exG TB d 138 17 (a0 :: a1 :: a2 :: a3 :: a4 :: a5 :: a6 :: r9) (v :: st) A = rg v (exG TB d 138 19 (a0 :: a1 :: a2 :: a3 :: a4 :: a5 :: some v :: r9) st A) := x_rgt (op := o_astore 6 2) rfl rfl
theorem x_138_19  : exG TB d 138 19 L st A = exG TB d 138 20 L (.int (nI 1) :: st) A := x_nx (op := o_push 1 (.int 1)) rfl rfl
theorem x_138_20  : exG TB d 138 20 L [v] A = ck (okv 1 v) (some (.inl (some v), A)) := x_outg (op := o_ret 1) rfl rfl
theorem x_138_21  : exG TB d 138 21 (a0 :: a1 :: a2 :: a3 :: a4 :: a5 :: a6 :: r9) (v :: st) A = rg v (exG TB d 138 23 (a0 :: a1 :: a2 :: a3 :: a4 :: a5 :: some v :: r9) st A) := x_rgt (op := o_astore 6 2) rfl rfl
theorem x_138_23  : exG TB d 138 23 L st A = exG TB d 138 24 L (.int (nI 2) :: st) A := x_nx (op := o_push 1 (.int 2)) rfl rfl
theorem x_138_24  : exG TB d 138 24 L [v] A = ck (okv 1 v) (some (.inl (some v), A)) := x_outg (op := o_ret 1) rfl rfl
theorem x_138_25  : exG TB d 138 25 L st A = exG TB d 138 26 L (.int (nI 0) :: st) A := x_nx (op := o_push 1 (.int 0)) rfl rfl
theorem x_138_26  : exG TB d 138 26 L [v] A = ck (okv 1 v) (some (.inl (some v), A)) := x_outg (op := o_ret 1) rfl rfl
theorem e_139 {j1 : Int32} {j2 : Int32} : evG TB (d + 1) 139 [b0, .int j1, .int j2, b3] A = rg b0 (rg b3 (exG TB d 139 0 [some (b0), some (.int j1), some (.int j2), some (b3), none] [] A)) := by
  rw [evG_eq]
  show (bif (isR b0 && (true && (true && (isR b3 && true)))) then exG TB d 139 0 [some (b0), some (.int j1), some (.int j2), some (b3), none] [] A else none) = _
  unfold rg
  cases isR b0 <;> cases isR b3 <;> rfl
theorem x_139_0  : exG TB d 139 0 (a0 :: a1 :: a2 :: some v :: r9) st A = rg v (exG TB d 139 1 (a0 :: a1 :: a2 :: some v :: r9) (v :: st) A) := x_rg (op := o_aload 3 1) rfl rfl
theorem x_139_1  : exG TB d 139 1 L st A = exG TB d 139 2 L (.int (nI 0) :: st) A := x_nx (op := o_push 1 (.int 0)) rfl rfl
theorem x_139_2  : exG TB d 139 2 (some v :: r9) st A = rg v (exG TB d 139 3 (some v :: r9) (v :: st) A) := x_rg (op := o_aload 0 1) rfl rfl
theorem x_139_3  : exG TB d 139 3 (a0 :: some (.int i1) :: r9) st A = exG TB d 139 4 (a0 :: some (.int i1) :: r9) (.int i1 :: st) A := x_nx (op := o_iload 1 1) rfl rfl
theorem x_139_4  : exG TB d 139 4 (a0 :: a1 :: some (.int i1) :: r9) st A = exG TB d 139 5 (a0 :: a1 :: some (.int i1) :: r9) (.int i1 :: st) A := x_nx (op := o_iload 2 1) rfl rfl
theorem x_139_5  : exG TB d 139 5 L [b1, b0, .ref p, w0, w1] A = kwh [(31, 13)] (sel (gc A p) [(0, 194)]) [.ref p, b0, b1] d 139 8 L [w0, w1] A := x_cvb (op := o_cv [(0, 194)] 2 3 false (some [(31, 13)])) rfl rfl x_hd rfl
theorem x_139_8  : exG TB d 139 8 L (.int i1 :: st) A = exG TB d 139 9 L (.long i1.toInt64 :: st) A := x_nx (op := o_i2l) rfl rfl
theorem x_139_9  : exG TB d 139 9 L (.long l1 :: .int i1 :: .ref p :: st) A = ka (wrJ (ga A p) i1 l1) p d 139 10 L st A := x_bd (op := o_wrJ) rfl rfl (fun _ => rfl)
theorem x_139_10  : exG TB d 139 10 L st A = exG TB d 139 17 L st A := x_nx (op := o_goto 17) rfl rfl
theorem x_139_13  : exG TB d 139 13 (a0 :: a1 :: a2 :: a3 :: a4 :: r9) (v :: st) A = rg v (exG TB d 139 15 (a0 :: a1 :: a2 :: a3 :: some v :: r9) st A) := x_rgt (op := o_astore 4 2) rfl rfl
theorem x_139_15  : exG TB d 139 15 L st A = exG TB d 139 16 L (.int (nI 1) :: st) A := x_nx (op := o_push 1 (.int 1)) rfl rfl
theorem x_139_16  : exG TB d 139 16 L [v] A = ck (okv 1 v) (some (.inl (some v), A)) := x_outg (op := o_ret 1) rfl rfl
theorem x_139_17  : exG TB d 139 17 L st A = exG TB d 139 18 L (.int (nI 0) :: st) A := x_nx (op := o_push 1 (.int 0)) rfl rfl
theorem x_139_18  : exG TB d 139 18 L [v] A = ck (okv 1 v) (some (.inl (some v), A)) := x_outg (op := o_ret 1) rfl rfl
theorem e_140 {j1 : Int32} {j2 : Int32} {j3 : Int32} : evG TB (d + 1) 140 [b0, .int j1, .int j2, .int j3, b4] A = rg b0 (rg b4 (exG TB d 140 0 [some (b0), some (.int j1), some (.int j2), some (.int j3), some (b4), none] [] A)) := by
  rw [evG_eq]
  show (bif (isR b0 && (true && (true && (true && (isR b4 && true))))) then exG TB d 140 0 [some (b0), some (.int j1), some (.int j2), some (.int j3), some (b4), none] [] A else none) = _
  unfold rg
  cases isR b0 <;> cases isR b4 <;> rfl
theorem x_140_0  : exG TB d 140 0 (a0 :: a1 :: a2 :: a3 :: some v :: r9) st A = rg v (exG TB d 140 2 (a0 :: a1 :: a2 :: a3 :: some v :: r9) (v :: st) A) := x_rg (op := o_aload 4 2) rfl rfl
theorem x_140_2  : exG TB d 140 2 L st A = exG TB d 140 3 L (.int (nI 0) :: st) A := x_nx (op := o_push 1 (.int 0)) rfl rfl
theorem x_140_3  : exG TB d 140 3 (some v :: r9) st A = rg v (exG TB d 140 4 (some v :: r9) (v :: st) A) := x_rg (op := o_aload 0 1) rfl rfl
theorem x_140_4  : exG TB d 140 4 (a0 :: some (.int i1) :: r9) st A = exG TB d 140 5 (a0 :: some (.int i1) :: r9) (.int i1 :: st) A := x_nx (op := o_iload 1 1) rfl rfl
theorem x_140_5  : exG TB d 140 5 (a0 :: a1 :: some (.int i1) :: r9) st A = exG TB d 140 6 (a0 :: a1 :: some (.int i1) :: r9) (.int i1 :: st) A := x_nx (op := o_iload 2 1) rfl rfl
theorem x_140_6  : exG TB d 140 6 (a0 :: a1 :: a2 :: some (.int i1) :: r9) st A = exG TB d 140 7 (a0 :: a1 :: a2 :: some (.int i1) :: r9) (.int i1 :: st) A := x_nx (op := o_iload 3 1) rfl rfl
theorem x_140_7  : exG TB d 140 7 L [b2, b1, b0, .ref p, w0, w1] A = kwh [(31, 15), (32, 19), (33, 23)] (sel (gc A p) [(0, 195)]) [.ref p, b0, b1, b2] d 140 10 L [w0, w1] A := x_cvb (op := o_cv [(0, 195)] 3 3 false (some [(31, 15), (32, 19), (33, 23)])) rfl rfl x_hd rfl
theorem x_140_10  : exG TB d 140 10 L (.int i1 :: st) A = exG TB d 140 11 L (.long i1.toInt64 :: st) A := x_nx (op := o_i2l) rfl rfl
theorem x_140_11  : exG TB d 140 11 L (.long l1 :: .int i1 :: .ref p :: st) A = ka (wrJ (ga A p) i1 l1) p d 140 12 L st A := x_bd (op := o_wrJ) rfl rfl (fun _ => rfl)
theorem x_140_12  : exG TB d 140 12 L st A = exG TB d 140 27 L st A := x_nx (op := o_goto 27) rfl rfl
theorem x_140_15  : exG TB d 140 15 (a0 :: a1 :: a2 :: a3 :: a4 :: a5 :: r9) (v :: st) A = rg v (exG TB d 140 17 (a0 :: a1 :: a2 :: a3 :: a4 :: some v :: r9) st A) := x_rgt (op := o_astore 5 2) rfl rfl
theorem x_140_17  : exG TB d 140 17 L st A = exG TB d 140 18 L (.int (nI 1) :: st) A := x_nx (op := o_push 1 (.int 1)) rfl rfl
theorem x_140_18  : exG TB d 140 18 L [v] A = ck (okv 1 v) (some (.inl (some v), A)) := x_outg (op := o_ret 1) rfl rfl
theorem x_140_19  : exG TB d 140 19 (a0 :: a1 :: a2 :: a3 :: a4 :: a5 :: r9) (v :: st) A = rg v (exG TB d 140 21 (a0 :: a1 :: a2 :: a3 :: a4 :: some v :: r9) st A) := x_rgt (op := o_astore 5 2) rfl rfl
theorem x_140_21  : exG TB d 140 21 L st A = exG TB d 140 22 L (.int (nI 2) :: st) A := x_nx (op := o_push 1 (.int 2)) rfl rfl
theorem x_140_22  : exG TB d 140 22 L [v] A = ck (okv 1 v) (some (.inl (some v), A)) := x_outg (op := o_ret 1) rfl rfl
theorem x_140_23  : exG TB d 140 23 (a0 :: a1 :: a2 :: a3 :: a4 :: a5 :: r9) (v :: st) A = rg v (exG TB d 140 25 (a0 :: a1 :: a2 :: a3 :: a4 :: some v :: r9) st A) := x_rgt (op := o_astore 5 2) rfl rfl
theorem x_140_25  : exG TB d 140 25 L st A = exG TB d 140 26 L (.int (nI 3) :: st) A := x_nx (op := o_push 1 (.int 3)) rfl rfl
theorem x_140_26  : exG TB d 140 26 L [v] A = ck (okv 1 v) (some (.inl (some v), A)) := x_outg (op := o_ret 1) rfl rfl
theorem x_140_27  : exG TB d 140 27 L st A = exG TB d 140 28 L (.int (nI 0) :: st) A := x_nx (op := o_push 1 (.int 0)) rfl rfl
theorem x_140_28  : exG TB d 140 28 L [v] A = ck (okv 1 v) (some (.inl (some v), A)) := x_outg (op := o_ret 1) rfl rfl
theorem e_141 {j1 : Int32} {j2 : Int32} {j3 : Int32} {j4 : Int32} : evG TB (d + 1) 141 [b0, .int j1, .int j2, .int j3, .int j4, b5] A = rg b0 (rg b5 (exG TB d 141 0 [some (b0), some (.int j1), some (.int j2), some (.int j3), some (.int j4), some (b5), none] [] A)) := by
  rw [evG_eq]
  show (bif (isR b0 && (true && (true && (true && (true && (isR b5 && true)))))) then exG TB d 141 0 [some (b0), some (.int j1), some (.int j2), some (.int j3), some (.int j4), some (b5), none] [] A else none) = _
  unfold rg
  cases isR b0 <;> cases isR b5 <;> rfl
theorem x_141_0  : exG TB d 141 0 (a0 :: a1 :: a2 :: a3 :: a4 :: some v :: r9) st A = rg v (exG TB d 141 2 (a0 :: a1 :: a2 :: a3 :: a4 :: some v :: r9) (v :: st) A) := x_rg (op := o_aload 5 2) rfl rfl
theorem x_141_2  : exG TB d 141 2 L st A = exG TB d 141 3 L (.int (nI 0) :: st) A := x_nx (op := o_push 1 (.int 0)) rfl rfl
theorem x_141_3  : exG TB d 141 3 (some v :: r9) st A = rg v (exG TB d 141 4 (some v :: r9) (v :: st) A) := x_rg (op := o_aload 0 1) rfl rfl
theorem x_141_4  : exG TB d 141 4 (a0 :: some (.int i1) :: r9) st A = exG TB d 141 5 (a0 :: some (.int i1) :: r9) (.int i1 :: st) A := x_nx (op := o_iload 1 1) rfl rfl
theorem x_141_5  : exG TB d 141 5 (a0 :: a1 :: some (.int i1) :: r9) st A = exG TB d 141 6 (a0 :: a1 :: some (.int i1) :: r9) (.int i1 :: st) A := x_nx (op := o_iload 2 1) rfl rfl
theorem x_141_6  : exG TB d 141 6 (a0 :: a1 :: a2 :: some (.int i1) :: r9) st A = exG TB d 141 7 (a0 :: a1 :: a2 :: some (.int i1) :: r9) (.int i1 :: st) A := x_nx (op := o_iload 3 1) rfl rfl
theorem x_141_7  : exG TB d 141 7 (a0 :: a1 :: a2 :: a3 :: some (.int i1) :: r9) st A = exG TB d 141 9 (a0 :: a1 :: a2 :: a3 :: some (.int i1) :: r9) (.int i1 :: st) A := x_nx (op := o_iload 4 2) rfl rfl
theorem x_141_9  : exG TB d 141 9 L [b3, b2, b1, b0, .ref p, w0, w1] A = kwh [(31, 17), (32, 21), (33, 25)] (sel (gc A p) [(0, 196)]) [.ref p, b0, b1, b2, b3] d 141 12 L [w0, w1] A := x_cvb (op := o_cv [(0, 196)] 4 3 false (some [(31, 17), (32, 21), (33, 25)])) rfl rfl x_hd rfl
theorem x_141_12  : exG TB d 141 12 L (.int i1 :: st) A = exG TB d 141 13 L (.long i1.toInt64 :: st) A := x_nx (op := o_i2l) rfl rfl
theorem x_141_13  : exG TB d 141 13 L (.long l1 :: .int i1 :: .ref p :: st) A = ka (wrJ (ga A p) i1 l1) p d 141 14 L st A := x_bd (op := o_wrJ) rfl rfl (fun _ => rfl)
theorem x_141_14  : exG TB d 141 14 L st A = exG TB d 141 29 L st A := x_nx (op := o_goto 29) rfl rfl
theorem x_141_17  : exG TB d 141 17 (a0 :: a1 :: a2 :: a3 :: a4 :: a5 :: a6 :: r9) (v :: st) A = rg v (exG TB d 141 19 (a0 :: a1 :: a2 :: a3 :: a4 :: a5 :: some v :: r9) st A) := x_rgt (op := o_astore 6 2) rfl rfl
theorem x_141_19  : exG TB d 141 19 L st A = exG TB d 141 20 L (.int (nI 1) :: st) A := x_nx (op := o_push 1 (.int 1)) rfl rfl
theorem x_141_20  : exG TB d 141 20 L [v] A = ck (okv 1 v) (some (.inl (some v), A)) := x_outg (op := o_ret 1) rfl rfl
theorem x_141_21  : exG TB d 141 21 (a0 :: a1 :: a2 :: a3 :: a4 :: a5 :: a6 :: r9) (v :: st) A = rg v (exG TB d 141 23 (a0 :: a1 :: a2 :: a3 :: a4 :: a5 :: some v :: r9) st A) := x_rgt (op := o_astore 6 2) rfl rfl
theorem x_141_23  : exG TB d 141 23 L st A = exG TB d 141 24 L (.int (nI 2) :: st) A := x_nx (op := o_push 1 (.int 2)) rfl rfl
theorem x_141_24  : exG TB d 141 24 L [v] A = ck (okv 1 v) (some (.inl (some v), A)) := x_outg (op := o_ret 1) rfl rfl
theorem x_141_25  : exG TB d 141 25 (a0 :: a1 :: a2 :: a3 :: a4 :: a5 :: a6 :: r9) (v :: st) A = rg v (exG TB d 141 27 (a0 :: a1 :: a2 :: a3 :: a4 :: a5 :: some v :: r9) st A) := x_rgt (op := o_astore 6 2) rfl rfl
theorem x_141_27  : exG TB d 141 27 L st A = exG TB d 141 28 L (.int (nI 3) :: st) A := x_nx (op := o_push 1 (.int 3)) rfl rfl
theorem x_141_28  : exG TB d 141 28 L [v] A = ck (okv 1 v) (some (.inl (some v), A)) := x_outg (op := o_ret 1) rfl rfl
theorem x_141_29  : exG TB d 141 29 L st A = exG TB d 141 30 L (.int (nI 0) :: st) A := x_nx (op := o_push 1 (.int 0)) rfl rfl
theorem x_141_30  : exG TB d 141 30 L [v] A = ck (okv 1 v) (some (.inl (some v), A)) := x_outg (op := o_ret 1) rfl rfl
theorem e_142 {j1 : Int32} {j2 : Int32} : evG TB (d + 1) 142 [b0, .int j1, .int j2, b3] A = rg b0 (rg b3 (exG TB d 142 0 [some (b0), some (.int j1), some (.int j2), some (b3), none] [] A)) := by
  rw [evG_eq]
  show (bif (isR b0 && (true && (true && (isR b3 && true)))) then exG TB d 142 0 [some (b0), some (.int j1), some (.int j2), some (b3), none] [] A else none) = _
  unfold rg
  cases isR b0 <;> cases isR b3 <;> rfl
theorem x_142_0  : exG TB d 142 0 (a0 :: a1 :: a2 :: some v :: r9) st A = rg v (exG TB d 142 1 (a0 :: a1 :: a2 :: some v :: r9) (v :: st) A) := x_rg (op := o_aload 3 1) rfl rfl
theorem x_142_1  : exG TB d 142 1 L st A = exG TB d 142 2 L (.int (nI 0) :: st) A := x_nx (op := o_push 1 (.int 0)) rfl rfl
theorem x_142_2  : exG TB d 142 2 (some v :: r9) st A = rg v (exG TB d 142 3 (some v :: r9) (v :: st) A) := x_rg (op := o_aload 0 1) rfl rfl
theorem x_142_3  : exG TB d 142 3 (a0 :: some (.int i1) :: r9) st A = exG TB d 142 4 (a0 :: some (.int i1) :: r9) (.int i1 :: st) A := x_nx (op := o_iload 1 1) rfl rfl
theorem x_142_4  : exG TB d 142 4 (a0 :: a1 :: some (.int i1) :: r9) st A = exG TB d 142 5 (a0 :: a1 :: some (.int i1) :: r9) (.int i1 :: st) A := x_nx (op := o_iload 2 1) rfl rfl
theorem x_142_5  : exG TB d 142 5 L [b1, b0, .ref p, w0, w1] A = kwh [(31, 13), (32, 17)] (sel (gc A p) [(0, 197)]) [.ref p, b0, b1] d 142 8 L [w0, w1] A := x_cvb (op := o_cv [(0, 197)] 2 3 false (some [(31, 13), (32, 17)])) rfl rfl x_hd rfl
theorem x_142_8  : exG TB d 142 8 L (.int i1 :: st) A = exG TB d 142 9 L (.long i1.toInt64 :: st) A := x_nx (op := o_i2l) rfl rfl
theorem x_142_9  : exG TB d 142 9 L (.long l1 :: .int i1 :: .ref p :: st) A = ka (wrJ (ga A p) i1 l1) p d 142 10 L st A := x_bd (op := o_wrJ) rfl rfl (fun _ => rfl)
theorem x_142_10  : exG TB d 142 10 L st A = exG TB d 142 21 L st A := x_nx (op := o_goto 21) rfl rfl
theorem x_142_13  : exG TB d 142 13 (a0 :: a1 :: a2 :: a3 :: a4 :: r9) (v :: st) A = rg v (exG TB d 142 15 (a0 :: a1 :: a2 :: a3 :: some v :: r9) st A) := x_rgt (op := o_astore 4 2) rfl rfl
theorem x_142_15  : exG TB d 142 15 L st A = exG TB d 142 16 L (.int (nI 1) :: st) A := x_nx (op := o_push 1 (.int 1)) rfl rfl
theorem x_142_16  : exG TB d 142 16 L [v] A = ck (okv 1 v) (some (.inl (some v), A)) := x_outg (op := o_ret 1) rfl rfl
theorem x_142_17  : exG TB d 142 17 (a0 :: a1 :: a2 :: a3 :: a4 :: r9) (v :: st) A = rg v (exG TB d 142 19 (a0 :: a1 :: a2 :: a3 :: some v :: r9) st A) := x_rgt (op := o_astore 4 2) rfl rfl
theorem x_142_19  : exG TB d 142 19 L st A = exG TB d 142 20 L (.int (nI 2) :: st) A := x_nx (op := o_push 1 (.int 2)) rfl rfl
theorem x_142_20  : exG TB d 142 20 L [v] A = ck (okv 1 v) (some (.inl (some v), A)) := x_outg (op := o_ret 1) rfl rfl
theorem x_142_21  : exG TB d 142 21 L st A = exG TB d 142 22 L (.int (nI 0) :: st) A := x_nx (op := o_push 1 (.int 0)) rfl rfl
theorem x_142_22  : exG TB d 142 22 L [v] A = ck (okv 1 v) (some (.inl (some v), A)) := x_outg (op := o_ret 1) rfl rfl
theorem e_143 {j1 : Int32} : evG TB (d + 1) 143 [b0, .int j1, b2] A = rg b0 (rg b2 (exG TB d 143 0 [some (b0), some (.int j1), some (b2), none] [] A)) := by
  rw [evG_eq]
  show (bif (isR b0 && (true && (isR b2 && true))) then exG TB d 143 0 [some (b0), some (.int j1), some (b2), none] [] A else none) = _
  unfold rg
  cases isR b0 <;> cases isR b2 <;> rfl
theorem x_143_0  : exG TB d 143 0 (a0 :: a1 :: some v :: r9) st A = rg v (exG TB d 143 1 (a0 :: a1 :: some v :: r9) (v :: st) A) := x_rg (op := o_aload 2 1) rfl rfl
theorem x_143_1  : exG TB d 143 1 L st A = exG TB d 143 2 L (.int (nI 0) :: st) A := x_nx (op := o_push 1 (.int 0)) rfl rfl
theorem x_143_2  : exG TB d 143 2 (some v :: r9) st A = rg v (exG TB d 143 3 (some v :: r9) (v :: st) A) := x_rg (op := o_aload 0 1) rfl rfl
theorem x_143_3  : exG TB d 143 3 (a0 :: some (.int i1) :: r9) st A = exG TB d 143 4 (a0 :: some (.int i1) :: r9) (.int i1 :: st) A := x_nx (op := o_iload 1 1) rfl rfl
theorem x_143_4  : exG TB d 143 4 L [b0, .ref p, w0, w1] A = kwh [(31, 12)] (sel (gc A p) [(0, 199)]) [.ref p, b0] d 143 7 L [w0, w1] A := x_cvb (op := o_cv [(0, 199)] 1 3 false (some [(31, 12)])) rfl rfl x_hd rfl
theorem x_143_7  : exG TB d 143 7 L (.int i1 :: st) A = exG TB d 143 8 L (.long i1.toInt64 :: st) A := x_nx (op := o_i2l) rfl rfl
theorem x_143_8  : exG TB d 143 8 L (.long l1 :: .int i1 :: .ref p :: st) A = ka (wrJ (ga A p) i1 l1) p d 143 9 L st A := x_bd (op := o_wrJ) rfl rfl (fun _ => rfl)
theorem x_143_9  : exG TB d 143 9 L st A = exG TB d 143 15 L st A := x_nx (op := o_goto 15) rfl rfl
theorem x_143_12  : exG TB d 143 12 (a0 :: a1 :: a2 :: a3 :: r9) (v :: st) A = rg v (exG TB d 143 13 (a0 :: a1 :: a2 :: some v :: r9) st A) := x_rgt (op := o_astore 3 1) rfl rfl
theorem x_143_13  : exG TB d 143 13 L st A = exG TB d 143 14 L (.int (nI 1) :: st) A := x_nx (op := o_push 1 (.int 1)) rfl rfl
theorem x_143_14  : exG TB d 143 14 L [v] A = ck (okv 1 v) (some (.inl (some v), A)) := x_outg (op := o_ret 1) rfl rfl
theorem x_143_15  : exG TB d 143 15 L st A = exG TB d 143 16 L (.int (nI 0) :: st) A := x_nx (op := o_push 1 (.int 0)) rfl rfl
theorem x_143_16  : exG TB d 143 16 L [v] A = ck (okv 1 v) (some (.inl (some v), A)) := x_outg (op := o_ret 1) rfl rfl
theorem e_144 {j1 : Int32} : evG TB (d + 1) 144 [b0, .int j1, b2] A = rg b0 (rg b2 (exG TB d 144 0 [some (b0), some (.int j1), some (b2), none] [] A)) := by
  rw [evG_eq]
  show (bif (isR b0 && (true && (isR b2 && true))) then exG TB d 144 0 [some (b0), some (.int j1), some (b2), none] [] A else none) = _
  unfold rg
  cases isR b0 <;> cases isR b2 <;> rfl
theorem x_144_0  : exG TB d 144 0 (a0 :: a1 :: some v :: r9) st A = rg v (exG TB d 144 1 (a0 :: a1 :: some v :: r9) (v :: st) A) := x_rg (op := o_aload 2 1) rfl rfl
theorem x_144_1  : exG TB d 144 1 L st A = exG TB d 144 2 L (.int (nI 0) :: st) A := x_nx (op := o_push 1 (.int 0)) rfl rfl
theorem x_144_2  : exG TB d 144 2 (some v :: r9) st A = rg v (exG TB d 144 3 (some v :: r9) (v :: st) A) := x_rg (op := o_aload 0 1) rfl rfl
theorem x_144_3  : exG TB d 144 3 (a0 :: some (.int i1) :: r9) st A = exG TB d 144 4 (a0 :: some (.int i1) :: r9) (.int i1 :: st) A := x_nx (op := o_iload 1 1) rfl rfl
theorem x_144_4  : exG TB d 144 4 L [b0, .ref p, w0, w1] A = kwh [(31, 12), (33, 15)] (sel (gc A p) [(0, 201)]) [.ref p, b0] d 144 7 L [w0, w1] A := x_cvb (op := o_cv [(0, 201)] 1 3 false (some [(31, 12), (33, 15)])) rfl rfl x_hd rfl
theorem x_144_7  : exG TB d 144 7 L (.int i1 :: st) A = exG TB d 144 8 L (.long i1.toInt64 :: st) A := x_nx (op := o_i2l) rfl rfl
theorem x_144_8  : exG TB d 144 8 L (.long l1 :: .int i1 :: .ref p :: st) A = ka (wrJ (ga A p) i1 l1) p d 144 9 L st A := x_bd (op := o_wrJ) rfl rfl (fun _ => rfl)
theorem x_144_9  : exG TB d 144 9 L st A = exG TB d 144 18 L st A := x_nx (op := o_goto 18) rfl rfl
theorem x_144_12  : exG TB d 144 12 (a0 :: a1 :: a2 :: a3 :: r9) (v :: st) A = rg v (exG TB d 144 13 (a0 :: a1 :: a2 :: some v :: r9) st A) := x_rgt (op := o_astore 3 1) rfl rfl
theorem x_144_13  : exG TB d 144 13 L st A = exG TB d 144 14 L (.int (nI 1) :: st) A := x_nx (op := o_push 1 (.int 1)) rfl rfl
theorem x_144_14  : exG TB d 144 14 L [v] A = ck (okv 1 v) (some (.inl (some v), A)) := x_outg (op := o_ret 1) rfl rfl
theorem x_144_15  : exG TB d 144 15 (a0 :: a1 :: a2 :: a3 :: r9) (v :: st) A = rg v (exG TB d 144 16 (a0 :: a1 :: a2 :: some v :: r9) st A) := x_rgt (op := o_astore 3 1) rfl rfl
theorem x_144_16  : exG TB d 144 16 L st A = exG TB d 144 17 L (.int (nI 2) :: st) A := x_nx (op := o_push 1 (.int 2)) rfl rfl
theorem x_144_17  : exG TB d 144 17 L [v] A = ck (okv 1 v) (some (.inl (some v), A)) := x_outg (op := o_ret 1) rfl rfl
theorem x_144_18  : exG TB d 144 18 L st A = exG TB d 144 19 L (.int (nI 0) :: st) A := x_nx (op := o_push 1 (.int 0)) rfl rfl
theorem x_144_19  : exG TB d 144 19 L [v] A = ck (okv 1 v) (some (.inl (some v), A)) := x_outg (op := o_ret 1) rfl rfl
theorem e_145 {j1 : Int32} {j2 : Int32} : evG TB (d + 1) 145 [b0, .int j1, .int j2, b3] A = rg b0 (rg b3 (exG TB d 145 0 [some (b0), some (.int j1), some (.int j2), some (b3), none] [] A)) := by
  rw [evG_eq]
  show (bif (isR b0 && (true && (true && (isR b3 && true)))) then exG TB d 145 0 [some (b0), some (.int j1), some (.int j2), some (b3), none] [] A else none) = _
  unfold rg
  cases isR b0 <;> cases isR b3 <;> rfl
theorem x_145_0  : exG TB d 145 0 (a0 :: a1 :: a2 :: some v :: r9) st A = rg v (exG TB d 145 1 (a0 :: a1 :: a2 :: some v :: r9) (v :: st) A) := x_rg (op := o_aload 3 1) rfl rfl
theorem x_145_1  : exG TB d 145 1 L st A = exG TB d 145 2 L (.int (nI 0) :: st) A := x_nx (op := o_push 1 (.int 0)) rfl rfl
theorem x_145_2  : exG TB d 145 2 (some v :: r9) st A = rg v (exG TB d 145 3 (some v :: r9) (v :: st) A) := x_rg (op := o_aload 0 1) rfl rfl
theorem x_145_3  : exG TB d 145 3 (a0 :: some (.int i1) :: r9) st A = exG TB d 145 4 (a0 :: some (.int i1) :: r9) (.int i1 :: st) A := x_nx (op := o_iload 1 1) rfl rfl
theorem x_145_4  : exG TB d 145 4 (a0 :: a1 :: some (.int i1) :: r9) st A = exG TB d 145 5 (a0 :: a1 :: some (.int i1) :: r9) (.int i1 :: st) A := x_nx (op := o_iload 2 1) rfl rfl
theorem x_145_5  : exG TB d 145 5 L [b1, b0, .ref p, w0, w1] A = kwh [(31, 13), (33, 17)] (sel (gc A p) [(0, 202)]) [.ref p, b0, b1] d 145 8 L [w0, w1] A := x_cvb (op := o_cv [(0, 202)] 2 3 false (some [(31, 13), (33, 17)])) rfl rfl x_hd rfl
theorem x_145_8  : exG TB d 145 8 L (.int i1 :: st) A = exG TB d 145 9 L (.long i1.toInt64 :: st) A := x_nx (op := o_i2l) rfl rfl
theorem x_145_9  : exG TB d 145 9 L (.long l1 :: .int i1 :: .ref p :: st) A = ka (wrJ (ga A p) i1 l1) p d 145 10 L st A := x_bd (op := o_wrJ) rfl rfl (fun _ => rfl)
theorem x_145_10  : exG TB d 145 10 L st A = exG TB d 145 21 L st A := x_nx (op := o_goto 21) rfl rfl
theorem x_145_13  : exG TB d 145 13 (a0 :: a1 :: a2 :: a3 :: a4 :: r9) (v :: st) A = rg v (exG TB d 145 15 (a0 :: a1 :: a2 :: a3 :: some v :: r9) st A) := x_rgt (op := o_astore 4 2) rfl rfl
theorem x_145_15  : exG TB d 145 15 L st A = exG TB d 145 16 L (.int (nI 1) :: st) A := x_nx (op := o_push 1 (.int 1)) rfl rfl
theorem x_145_16  : exG TB d 145 16 L [v] A = ck (okv 1 v) (some (.inl (some v), A)) := x_outg (op := o_ret 1) rfl rfl
theorem x_145_17  : exG TB d 145 17 (a0 :: a1 :: a2 :: a3 :: a4 :: r9) (v :: st) A = rg v (exG TB d 145 19 (a0 :: a1 :: a2 :: a3 :: some v :: r9) st A) := x_rgt (op := o_astore 4 2) rfl rfl
theorem x_145_19  : exG TB d 145 19 L st A = exG TB d 145 20 L (.int (nI 2) :: st) A := x_nx (op := o_push 1 (.int 2)) rfl rfl
theorem x_145_20  : exG TB d 145 20 L [v] A = ck (okv 1 v) (some (.inl (some v), A)) := x_outg (op := o_ret 1) rfl rfl
theorem x_145_21  : exG TB d 145 21 L st A = exG TB d 145 22 L (.int (nI 0) :: st) A := x_nx (op := o_push 1 (.int 0)) rfl rfl
theorem x_145_22  : exG TB d 145 22 L [v] A = ck (okv 1 v) (some (.inl (some v), A)) := x_outg (op := o_ret 1) rfl rfl
theorem e_146 {j1 : Int32} : evG TB (d + 1) 146 [b0, .int j1, b2] A = rg b0 (rg b2 (exG TB d 146 0 [some (b0), some (.int j1), some (b2), none] [] A)) := by
  rw [evG_eq]
  show (bif (isR b0 && (true && (isR b2 && true))) then exG TB d 146 0 [some (b0), some (.int j1), some (b2), none] [] A else none) = _
  unfold rg
  cases isR b0 <;> cases isR b2 <;> rfl
theorem x_146_0  : exG TB d 146 0 (a0 :: a1 :: some v :: r9) st A = rg v (exG TB d 146 1 (a0 :: a1 :: some v :: r9) (v :: st) A) := x_rg (op := o_aload 2 1) rfl rfl
theorem x_146_1  : exG TB d 146 1 L st A = exG TB d 146 2 L (.int (nI 0) :: st) A := x_nx (op := o_push 1 (.int 0)) rfl rfl
theorem x_146_2  : exG TB d 146 2 (some v :: r9) st A = rg v (exG TB d 146 3 (some v :: r9) (v :: st) A) := x_rg (op := o_aload 0 1) rfl rfl
theorem x_146_3  : exG TB d 146 3 (a0 :: some (.int i1) :: r9) st A = exG TB d 146 4 (a0 :: some (.int i1) :: r9) (.int i1 :: st) A := x_nx (op := o_iload 1 1) rfl rfl
theorem x_146_4  : exG TB d 146 4 L [b0, .ref p, w0, w1] A = kwh [(31, 12)] (sel (gc A p) [(0, 203)]) [.ref p, b0] d 146 7 L [w0, w1] A := x_cvb (op := o_cv [(0, 203)] 1 3 false (some [(31, 12)])) rfl rfl x_hd rfl
theorem x_146_7  : exG TB d 146 7 L (.int i1 :: st) A = exG TB d 146 8 L (.long i1.toInt64 :: st) A := x_nx (op := o_i2l) rfl rfl
theorem x_146_8  : exG TB d 146 8 L (.long l1 :: .int i1 :: .ref p :: st) A = ka (wrJ (ga A p) i1 l1) p d 146 9 L st A := x_bd (op := o_wrJ) rfl rfl (fun _ => rfl)
theorem x_146_9  : exG TB d 146 9 L st A = exG TB d 146 15 L st A := x_nx (op := o_goto 15) rfl rfl
theorem x_146_12  : exG TB d 146 12 (a0 :: a1 :: a2 :: a3 :: r9) (v :: st) A = rg v (exG TB d 146 13 (a0 :: a1 :: a2 :: some v :: r9) st A) := x_rgt (op := o_astore 3 1) rfl rfl
theorem x_146_13  : exG TB d 146 13 L st A = exG TB d 146 14 L (.int (nI 1) :: st) A := x_nx (op := o_push 1 (.int 1)) rfl rfl
theorem x_146_14  : exG TB d 146 14 L [v] A = ck (okv 1 v) (some (.inl (some v), A)) := x_outg (op := o_ret 1) rfl rfl
theorem x_146_15  : exG TB d 146 15 L st A = exG TB d 146 16 L (.int (nI 0) :: st) A := x_nx (op := o_push 1 (.int 0)) rfl rfl
theorem x_146_16  : exG TB d 146 16 L [v] A = ck (okv 1 v) (some (.inl (some v), A)) := x_outg (op := o_ret 1) rfl rfl
theorem e_147 {j1 : Int32} {j2 : Int32} {j3 : Int32} : evG TB (d + 1) 147 [b0, .int j1, .int j2, .int j3, b4] A = rg b0 (rg b4 (exG TB d 147 0 [some (b0), some (.int j1), some (.int j2), some (.int j3), some (b4), none] [] A)) := by
  rw [evG_eq]
  show (bif (isR b0 && (true && (true && (true && (isR b4 && true))))) then exG TB d 147 0 [some (b0), some (.int j1), some (.int j2), some (.int j3), some (b4), none] [] A else none) = _
  unfold rg
  cases isR b0 <;> cases isR b4 <;> rfl
theorem x_147_0  : exG TB d 147 0 (a0 :: a1 :: a2 :: a3 :: some v :: r9) st A = rg v (exG TB d 147 2 (a0 :: a1 :: a2 :: a3 :: some v :: r9) (v :: st) A) := x_rg (op := o_aload 4 2) rfl rfl
theorem x_147_2  : exG TB d 147 2 L st A = exG TB d 147 3 L (.int (nI 0) :: st) A := x_nx (op := o_push 1 (.int 0)) rfl rfl
theorem x_147_3  : exG TB d 147 3 (some v :: r9) st A = rg v (exG TB d 147 4 (some v :: r9) (v :: st) A) := x_rg (op := o_aload 0 1) rfl rfl
theorem x_147_4  : exG TB d 147 4 (a0 :: some (.int i1) :: r9) st A = exG TB d 147 5 (a0 :: some (.int i1) :: r9) (.int i1 :: st) A := x_nx (op := o_iload 1 1) rfl rfl
theorem x_147_5  : exG TB d 147 5 (a0 :: a1 :: some (.int i1) :: r9) st A = exG TB d 147 6 (a0 :: a1 :: some (.int i1) :: r9) (.int i1 :: st) A := x_nx (op := o_iload 2 1) rfl rfl
theorem x_147_6  : exG TB d 147 6 (a0 :: a1 :: a2 :: some (.int i1) :: r9) st A = exG TB d 147 7 (a0 :: a1 :: a2 :: some (.int i1) :: r9) (.int i1 :: st) A := x_nx (op := o_iload 3 1) rfl rfl
theorem x_147_7  : exG TB d 147 7 L [b2, b1, b0, .ref p, w0, w1] A = kwh [(31, 15), (32, 19)] (sel (gc A p) [(0, 204)]) [.ref p, b0, b1, b2] d 147 10 L [w0, w1] A := x_cvb (op := o_cv [(0, 204)] 3 3 false (some [(31, 15), (32, 19)])) rfl rfl x_hd rfl
theorem x_147_10  : exG TB d 147 10 L (.int i1 :: st) A = exG TB d 147 11 L (.long i1.toInt64 :: st) A := x_nx (op := o_i2l) rfl rfl
theorem x_147_11  : exG TB d 147 11 L (.long l1 :: .int i1 :: .ref p :: st) A = ka (wrJ (ga A p) i1 l1) p d 147 12 L st A := x_bd (op := o_wrJ) rfl rfl (fun _ => rfl)
theorem x_147_12  : exG TB d 147 12 L st A = exG TB d 147 23 L st A := x_nx (op := o_goto 23) rfl rfl
theorem x_147_15  : exG TB d 147 15 (a0 :: a1 :: a2 :: a3 :: a4 :: a5 :: r9) (v :: st) A = rg v (exG TB d 147 17 (a0 :: a1 :: a2 :: a3 :: a4 :: some v :: r9) st A) := x_rgt (op := o_astore 5 2) rfl rfl
theorem x_147_17  : exG TB d 147 17 L st A = exG TB d 147 18 L (.int (nI 1) :: st) A := x_nx (op := o_push 1 (.int 1)) rfl rfl
theorem x_147_18  : exG TB d 147 18 L [v] A = ck (okv 1 v) (some (.inl (some v), A)) := x_outg (op := o_ret 1) rfl rfl
theorem x_147_19  : exG TB d 147 19 (a0 :: a1 :: a2 :: a3 :: a4 :: a5 :: r9) (v :: st) A = rg v (exG TB d 147 21 (a0 :: a1 :: a2 :: a3 :: a4 :: some v :: r9) st A) := x_rgt (op := o_astore 5 2) rfl rfl
theorem x_147_21  : exG TB d 147 21 L st A = exG TB d 147 22 L (.int (nI 2) :: st) A := x_nx (op := o_push 1 (.int 2)) rfl rfl
theorem x_147_22  : exG TB d 147 22 L [v] A = ck (okv 1 v) (some (.inl (some v), A)) := x_outg (op := o_ret 1) rfl rfl
theorem x_147_23  : exG TB d 147 23 L st A = exG TB d 147 24 L (.int (nI 0) :: st) A := x_nx (op := o_push 1 (.int 0)) rfl rfl
theorem x_147_24  : exG TB d 147 24 L [v] A = ck (okv 1 v) (some (.inl (some v), A)) := x_outg (op := o_ret 1) rfl rfl
theorem e_148 {j1 : Int32} {j2 : Int32} {j3 : Int32} : evG TB (d + 1) 148 [b0, .int j1, .int j2, .int j3, b4] A = rg b0 (rg b4 (exG TB d 148 0 [some (b0), some (.int j1), some (.int j2), some (.int j3), some (b4), none] [] A)) := by
  rw [evG_eq]
  show (bif (isR b0 && (true && (true && (true && (isR b4 && true))))) then exG TB d 148 0 [some (b0), some (.int j1), some (.int j2), some (.int j3), some (b4), none] [] A else none) = _
  unfold rg
  cases isR b0 <;> cases isR b4 <;> rfl
theorem x_148_0  : exG TB d 148 0 (a0 :: a1 :: a2 :: a3 :: some v :: r9) st A = rg v (exG TB d 148 2 (a0 :: a1 :: a2 :: a3 :: some v :: r9) (v :: st) A) := x_rg (op := o_aload 4 2) rfl rfl
theorem x_148_2  : exG TB d 148 2 L st A = exG TB d 148 3 L (.int (nI 0) :: st) A := x_nx (op := o_push 1 (.int 0)) rfl rfl
theorem x_148_3  : exG TB d 148 3 (some v :: r9) st A = rg v (exG TB d 148 4 (some v :: r9) (v :: st) A) := x_rg (op := o_aload 0 1) rfl rfl
theorem x_148_4  : exG TB d 148 4 (a0 :: some (.int i1) :: r9) st A = exG TB d 148 5 (a0 :: some (.int i1) :: r9) (.int i1 :: st) A := x_nx (op := o_iload 1 1) rfl rfl
theorem x_148_5  : exG TB d 148 5 (a0 :: a1 :: some (.int i1) :: r9) st A = exG TB d 148 6 (a0 :: a1 :: some (.int i1) :: r9) (.int i1 :: st) A := x_nx (op := o_iload 2 1) rfl rfl
theorem x_148_6  : exG TB d 148 6 (a0 :: a1 :: a2 :: some (.int i1) :: r9) st A = exG TB d 148 7 (a0 :: a1 :: a2 :: some (.int i1) :: r9) (.int i1 :: st) A := x_nx (op := o_iload 3 1) rfl rfl
theorem x_148_7  : exG TB d 148 7 L [b2, b1, b0, .ref p, w0, w1] A = kwh [(31, 15)] (sel (gc A p) [(0, 206)]) [.ref p, b0, b1, b2] d 148 10 L [w0, w1] A := x_cvb (op := o_cv [(0, 206)] 3 3 false (some [(31, 15)])) rfl rfl x_hd rfl
theorem x_148_10  : exG TB d 148 10 L (.int i1 :: st) A = exG TB d 148 11 L (.long i1.toInt64 :: st) A := x_nx (op := o_i2l) rfl rfl
theorem x_148_11  : exG TB d 148 11 L (.long l1 :: .int i1 :: .ref p :: st) A = ka (wrJ (ga A p) i1 l1) p d 148 12 L st A := x_bd (op := o_wrJ) rfl rfl (fun _ => rfl)
theorem x_148_12  : exG TB d 148 12 L st A = exG TB d 148 19 L st A := x_nx (op := o_goto 19) rfl rfl
theorem x_148_15  : exG TB d 148 15 (a0 :: a1 :: a2 :: a3 :: a4 :: a5 :: r9) (v :: st) A = rg v (exG TB d 148 17 (a0 :: a1 :: a2 :: a3 :: a4 :: some v :: r9) st A) := x_rgt (op := o_astore 5 2) rfl rfl
theorem x_148_17  : exG TB d 148 17 L st A = exG TB d 148 18 L (.int (nI 1) :: st) A := x_nx (op := o_push 1 (.int 1)) rfl rfl
theorem x_148_18  : exG TB d 148 18 L [v] A = ck (okv 1 v) (some (.inl (some v), A)) := x_outg (op := o_ret 1) rfl rfl
theorem x_148_19  : exG TB d 148 19 L st A = exG TB d 148 20 L (.int (nI 0) :: st) A := x_nx (op := o_push 1 (.int 0)) rfl rfl
theorem x_148_20  : exG TB d 148 20 L [v] A = ck (okv 1 v) (some (.inl (some v), A)) := x_outg (op := o_ret 1) rfl rfl
theorem e_149 {j1 : Int32} {j2 : Int32} : evG TB (d + 1) 149 [b0, .int j1, .int j2, b3] A = rg b0 (rg b3 (exG TB d 149 0 [some (b0), some (.int j1), some (.int j2), some (b3), none] [] A)) := by
  rw [evG_eq]
  show (bif (isR b0 && (true && (true && (isR b3 && true)))) then exG TB d 149 0 [some (b0), some (.int j1), some (.int j2), some (b3), none] [] A else none) = _
  unfold rg
  cases isR b0 <;> cases isR b3 <;> rfl
theorem x_149_0  : exG TB d 149 0 (a0 :: a1 :: a2 :: some v :: r9) st A = rg v (exG TB d 149 1 (a0 :: a1 :: a2 :: some v :: r9) (v :: st) A) := x_rg (op := o_aload 3 1) rfl rfl
theorem x_149_1  : exG TB d 149 1 L st A = exG TB d 149 2 L (.int (nI 0) :: st) A := x_nx (op := o_push 1 (.int 0)) rfl rfl
theorem x_149_2  : exG TB d 149 2 (some v :: r9) st A = rg v (exG TB d 149 3 (some v :: r9) (v :: st) A) := x_rg (op := o_aload 0 1) rfl rfl
theorem x_149_3  : exG TB d 149 3 (a0 :: some (.int i1) :: r9) st A = exG TB d 149 4 (a0 :: some (.int i1) :: r9) (.int i1 :: st) A := x_nx (op := o_iload 1 1) rfl rfl
theorem x_149_4  : exG TB d 149 4 (a0 :: a1 :: some (.int i1) :: r9) st A = exG TB d 149 5 (a0 :: a1 :: some (.int i1) :: r9) (.int i1 :: st) A := x_nx (op := o_iload 2 1) rfl rfl
theorem x_149_5  : exG TB d 149 5 L [b1, b0, .ref p, w0, w1] A = kwh [(31, 13), (32, 17)] (sel (gc A p) [(0, 207)]) [.ref p, b0, b1] d 149 8 L [w0, w1] A := x_cvb (op := o_cv [(0, 207)] 2 3 false (some [(31, 13), (32, 17)])) rfl rfl x_hd rfl
theorem x_149_8  : exG TB d 149 8 L (.int i1 :: st) A = exG TB d 149 9 L (.long i1.toInt64 :: st) A := x_nx (op := o_i2l) rfl rfl
theorem x_149_9  : exG TB d 149 9 L (.long l1 :: .int i1 :: .ref p :: st) A = ka (wrJ (ga A p) i1 l1) p d 149 10 L st A := x_bd (op := o_wrJ) rfl rfl (fun _ => rfl)
theorem x_149_10  : exG TB d 149 10 L st A = exG TB d 149 21 L st A := x_nx (op := o_goto 21) rfl rfl
theorem x_149_13  : exG TB d 149 13 (a0 :: a1 :: a2 :: a3 :: a4 :: r9) (v :: st) A = rg v (exG TB d 149 15 (a0 :: a1 :: a2 :: a3 :: some v :: r9) st A) := x_rgt (op := o_astore 4 2) rfl rfl
theorem x_149_15  : exG TB d 149 15 L st A = exG TB d 149 16 L (.int (nI 1) :: st) A := x_nx (op := o_push 1 (.int 1)) rfl rfl
theorem x_149_16  : exG TB d 149 16 L [v] A = ck (okv 1 v) (some (.inl (some v), A)) := x_outg (op := o_ret 1) rfl rfl
theorem x_149_17  : exG TB d 149 17 (a0 :: a1 :: a2 :: a3 :: a4 :: r9) (v :: st) A = rg v (exG TB d 149 19 (a0 :: a1 :: a2 :: a3 :: some v :: r9) st A) := x_rgt (op := o_astore 4 2) rfl rfl
theorem x_149_19  : exG TB d 149 19 L st A = exG TB d 149 20 L (.int (nI 2) :: st) A := x_nx (op := o_push 1 (.int 2)) rfl rfl
theorem x_149_20  : exG TB d 149 20 L [v] A = ck (okv 1 v) (some (.inl (some v), A)) := x_outg (op := o_ret 1) rfl rfl
theorem x_149_21  : exG TB d 149 21 L st A = exG TB d 149 22 L (.int (nI 0) :: st) A := x_nx (op := o_push 1 (.int 0)) rfl rfl
theorem x_149_22  : exG TB d 149 22 L [v] A = ck (okv 1 v) (some (.inl (some v), A)) := x_outg (op := o_ret 1) rfl rfl
theorem e_150 {j1 : Int32} : evG TB (d + 1) 150 [b0, .int j1, b2] A = rg b0 (rg b2 (exG TB d 150 0 [some (b0), some (.int j1), some (b2), none] [] A)) := by
  rw [evG_eq]
  show (bif (isR b0 && (true && (isR b2 && true))) then exG TB d 150 0 [some (b0), some (.int j1), some (b2), none] [] A else none) = _
  unfold rg
  cases isR b0 <;> cases isR b2 <;> rfl
theorem x_150_0  : exG TB d 150 0 (a0 :: a1 :: some v :: r9) st A = rg v (exG TB d 150 1 (a0 :: a1 :: some v :: r9) (v :: st) A) := x_rg (op := o_aload 2 1) rfl rfl
theorem x_150_1  : exG TB d 150 1 L st A = exG TB d 150 2 L (.int (nI 0) :: st) A := x_nx (op := o_push 1 (.int 0)) rfl rfl
theorem x_150_2  : exG TB d 150 2 (some v :: r9) st A = rg v (exG TB d 150 3 (some v :: r9) (v :: st) A) := x_rg (op := o_aload 0 1) rfl rfl
theorem x_150_3  : exG TB d 150 3 (a0 :: some (.int i1) :: r9) st A = exG TB d 150 4 (a0 :: some (.int i1) :: r9) (.int i1 :: st) A := x_nx (op := o_iload 1 1) rfl rfl
theorem x_150_4  : exG TB d 150 4 L [b0, .ref p, w0, w1] A = kwh [(32, 12)] (sel (gc A p) [(0, 209)]) [.ref p, b0] d 150 7 L [w0, w1] A := x_cvb (op := o_cv [(0, 209)] 1 3 false (some [(32, 12)])) rfl rfl x_hd rfl
theorem x_150_7  : exG TB d 150 7 L (.int i1 :: st) A = exG TB d 150 8 L (.long i1.toInt64 :: st) A := x_nx (op := o_i2l) rfl rfl
theorem x_150_8  : exG TB d 150 8 L (.long l1 :: .int i1 :: .ref p :: st) A = ka (wrJ (ga A p) i1 l1) p d 150 9 L st A := x_bd (op := o_wrJ) rfl rfl (fun _ => rfl)
theorem x_150_9  : exG TB d 150 9 L st A = exG TB d 150 15 L st A := x_nx (op := o_goto 15) rfl rfl
theorem x_150_12  : exG TB d 150 12 (a0 :: a1 :: a2 :: a3 :: r9) (v :: st) A = rg v (exG TB d 150 13 (a0 :: a1 :: a2 :: some v :: r9) st A) := x_rgt (op := o_astore 3 1) rfl rfl
theorem x_150_13  : exG TB d 150 13 L st A = exG TB d 150 14 L (.int (nI 1) :: st) A := x_nx (op := o_push 1 (.int 1)) rfl rfl
theorem x_150_14  : exG TB d 150 14 L [v] A = ck (okv 1 v) (some (.inl (some v), A)) := x_outg (op := o_ret 1) rfl rfl
theorem x_150_15  : exG TB d 150 15 L st A = exG TB d 150 16 L (.int (nI 0) :: st) A := x_nx (op := o_push 1 (.int 0)) rfl rfl
theorem x_150_16  : exG TB d 150 16 L [v] A = ck (okv 1 v) (some (.inl (some v), A)) := x_outg (op := o_ret 1) rfl rfl
theorem e_151 {j1 : Int32} {j2 : Int32} : evG TB (d + 1) 151 [b0, .int j1, .int j2, b3] A = rg b0 (rg b3 (exG TB d 151 0 [some (b0), some (.int j1), some (.int j2), some (b3), none] [] A)) := by
  rw [evG_eq]
  show (bif (isR b0 && (true && (true && (isR b3 && true)))) then exG TB d 151 0 [some (b0), some (.int j1), some (.int j2), some (b3), none] [] A else none) = _
  unfold rg
  cases isR b0 <;> cases isR b3 <;> rfl
theorem x_151_0  : exG TB d 151 0 (a0 :: a1 :: a2 :: some v :: r9) st A = rg v (exG TB d 151 1 (a0 :: a1 :: a2 :: some v :: r9) (v :: st) A) := x_rg (op := o_aload 3 1) rfl rfl
theorem x_151_1  : exG TB d 151 1 L st A = exG TB d 151 2 L (.int (nI 0) :: st) A := x_nx (op := o_push 1 (.int 0)) rfl rfl
theorem x_151_2  : exG TB d 151 2 (some v :: r9) st A = rg v (exG TB d 151 3 (some v :: r9) (v :: st) A) := x_rg (op := o_aload 0 1) rfl rfl
theorem x_151_3  : exG TB d 151 3 (a0 :: some (.int i1) :: r9) st A = exG TB d 151 4 (a0 :: some (.int i1) :: r9) (.int i1 :: st) A := x_nx (op := o_iload 1 1) rfl rfl
theorem x_151_4  : exG TB d 151 4 (a0 :: a1 :: some (.int i1) :: r9) st A = exG TB d 151 5 (a0 :: a1 :: some (.int i1) :: r9) (.int i1 :: st) A := x_nx (op := o_iload 2 1) rfl rfl
theorem x_151_5  : exG TB d 151 5 L [b1, b0, .ref p, w0, w1] A = kwh [(31, 13), (32, 17)] (sel (gc A p) [(0, 210)]) [.ref p, b0, b1] d 151 8 L [w0, w1] A := x_cvb (op := o_cv [(0, 210)] 2 3 false (some [(31, 13), (32, 17)])) rfl rfl x_hd rfl
theorem x_151_8  : exG TB d 151 8 L (.int i1 :: st) A = exG TB d 151 9 L (.long i1.toInt64 :: st) A := x_nx (op := o_i2l) rfl rfl
theorem x_151_9  : exG TB d 151 9 L (.long l1 :: .int i1 :: .ref p :: st) A = ka (wrJ (ga A p) i1 l1) p d 151 10 L st A := x_bd (op := o_wrJ) rfl rfl (fun _ => rfl)
theorem x_151_10  : exG TB d 151 10 L st A = exG TB d 151 21 L st A := x_nx (op := o_goto 21) rfl rfl
theorem x_151_13  : exG TB d 151 13 (a0 :: a1 :: a2 :: a3 :: a4 :: r9) (v :: st) A = rg v (exG TB d 151 15 (a0 :: a1 :: a2 :: a3 :: some v :: r9) st A) := x_rgt (op := o_astore 4 2) rfl rfl
theorem x_151_15  : exG TB d 151 15 L st A = exG TB d 151 16 L (.int (nI 1) :: st) A := x_nx (op := o_push 1 (.int 1)) rfl rfl
theorem x_151_16  : exG TB d 151 16 L [v] A = ck (okv 1 v) (some (.inl (some v), A)) := x_outg (op := o_ret 1) rfl rfl
theorem x_151_17  : exG TB d 151 17 (a0 :: a1 :: a2 :: a3 :: a4 :: r9) (v :: st) A = rg v (exG TB d 151 19 (a0 :: a1 :: a2 :: a3 :: some v :: r9) st A) := x_rgt (op := o_astore 4 2) rfl rfl
theorem x_151_19  : exG TB d 151 19 L st A = exG TB d 151 20 L (.int (nI 2) :: st) A := x_nx (op := o_push 1 (.int 2)) rfl rfl
theorem x_151_20  : exG TB d 151 20 L [v] A = ck (okv 1 v) (some (.inl (some v), A)) := x_outg (op := o_ret 1) rfl rfl
theorem x_151_21  : exG TB d 151 21 L st A = exG TB d 151 22 L (.int (nI 0) :: st) A := x_nx (op := o_push 1 (.int 0)) rfl rfl
theorem x_151_22  : exG TB d 151 22 L [v] A = ck (okv 1 v) (some (.inl (some v), A)) := x_outg (op := o_ret 1) rfl rfl
theorem e_152 {j1 : Int32} {j2 : Int32} : evG TB (d + 1) 152 [b0, .int j1, .int j2, b3] A = rg b0 (rg b3 (exG TB d 152 0 [some (b0), some (.int j1), some (.int j2), some (b3), none] [] A)) := by
  rw [evG_eq]
  show (bif (isR b0 && (true && (true && (isR b3 && true)))) then exG TB d 152 0 [some (b0), some (.int j1), some (.int j2), some (b3), none] [] A else none) = _
  unfold rg
  cases isR b0 <;> cases isR b3 <;> rfl
theorem x_152_0  : exG TB d 152 0 (a0 :: a1 :: a2 :: some v :: r9) st A = rg v (exG TB d 152 1 (a0 :: a1 :: a2 :: some v :: r9) (v :: st) A) := x_rg (op := o_aload 3 1) rfl rfl
theorem x_152_1  : exG TB d 152 1 L st A = exG TB d 152 2 L (.int (nI 0) :: st) A := x_nx (op := o_push 1 (.int 0)) rfl rfl
theorem x_152_2  : exG TB d 152 2 (some v :: r9) st A = rg v (exG TB d 152 3 (some v :: r9) (v :: st) A) := x_rg (op := o_aload 0 1) rfl rfl
theorem x_152_3  : exG TB d 152 3 (a0 :: some (.int i1) :: r9) st A = exG TB d 152 4 (a0 :: some (.int i1) :: r9) (.int i1 :: st) A := x_nx (op := o_iload 1 1) rfl rfl
theorem x_152_4  : exG TB d 152 4 (a0 :: a1 :: some (.int i1) :: r9) st A = exG TB d 152 5 (a0 :: a1 :: some (.int i1) :: r9) (.int i1 :: st) A := x_nx (op := o_iload 2 1) rfl rfl
theorem x_152_5  : exG TB d 152 5 L [b1, b0, .ref p, w0, w1] A = kwh [(31, 13), (32, 17)] (sel (gc A p) [(0, 211)]) [.ref p, b0, b1] d 152 8 L [w0, w1] A := x_cvb (op := o_cv [(0, 211)] 2 3 false (some [(31, 13), (32, 17)])) rfl rfl x_hd rfl
theorem x_152_8  : exG TB d 152 8 L (.int i1 :: st) A = exG TB d 152 9 L (.long i1.toInt64 :: st) A := x_nx (op := o_i2l) rfl rfl
theorem x_152_9  : exG TB d 152 9 L (.long l1 :: .int i1 :: .ref p :: st) A = ka (wrJ (ga A p) i1 l1) p d 152 10 L st A := x_bd (op := o_wrJ) rfl rfl (fun _ => rfl)
theorem x_152_10  : exG TB d 152 10 L st A = exG TB d 152 21 L st A := x_nx (op := o_goto 21) rfl rfl
theorem x_152_13  : exG TB d 152 13 (a0 :: a1 :: a2 :: a3 :: a4 :: r9) (v :: st) A = rg v (exG TB d 152 15 (a0 :: a1 :: a2 :: a3 :: some v :: r9) st A) := x_rgt (op := o_astore 4 2) rfl rfl
theorem x_152_15  : exG TB d 152 15 L st A = exG TB d 152 16 L (.int (nI 1) :: st) A := x_nx (op := o_push 1 (.int 1)) rfl rfl
theorem x_152_16  : exG TB d 152 16 L [v] A = ck (okv 1 v) (some (.inl (some v), A)) := x_outg (op := o_ret 1) rfl rfl
theorem x_152_17  : exG TB d 152 17 (a0 :: a1 :: a2 :: a3 :: a4 :: r9) (v :: st) A = rg v (exG TB d 152 19 (a0 :: a1 :: a2 :: a3 :: some v :: r9) st A) := x_rgt (op := o_astore 4 2) rfl rfl
theorem x_152_19  : exG TB d 152 19 L st A = exG TB d 152 20 L (.int (nI 2) :: st) A := x_nx (op := o_push 1 (.int 2)) rfl rfl
theorem x_152_20  : exG TB d 152 20 L [v] A = ck (okv 1 v) (some (.inl (some v), A)) := x_outg (op := o_ret 1) rfl rfl
theorem x_152_21  : exG TB d 152 21 L st A = exG TB d 152 22 L (.int (nI 0) :: st) A := x_nx (op := o_push 1 (.int 0)) rfl rfl
theorem x_152_22  : exG TB d 152 22 L [v] A = ck (okv 1 v) (some (.inl (some v), A)) := x_outg (op := o_ret 1) rfl rfl
theorem e_153 {j1 : Int32} {j2 : Int32} : evG TB (d + 1) 153 [b0, .int j1, .int j2, b3] A = rg b0 (rg b3 (exG TB d 153 0 [some (b0), some (.int j1), some (.int j2), some (b3), none] [] A)) := by
  rw [evG_eq]
  show (bif (isR b0 && (true && (true && (isR b3 && true)))) then exG TB d 153 0 [some (b0), some (.int j1), some (.int j2), some (b3), none] [] A else none) = _
  unfold rg
  cases isR b0 <;> cases isR b3 <;> rfl
theorem x_153_0  : exG TB d 153 0 (a0 :: a1 :: a2 :: some v :: r9) st A = rg v (exG TB d 153 1 (a0 :: a1 :: a2 :: some v :: r9) (v :: st) A) := x_rg (op := o_aload 3 1) rfl rfl
theorem x_153_1  : exG TB d 153 1 L st A = exG TB d 153 2 L (.int (nI 0) :: st) A := x_nx (op := o_push 1 (.int 0)) rfl rfl
theorem x_153_2  : exG TB d 153 2 (some v :: r9) st A = rg v (exG TB d 153 3 (some v :: r9) (v :: st) A) := x_rg (op := o_aload 0 1) rfl rfl
theorem x_153_3  : exG TB d 153 3 (a0 :: some (.int i1) :: r9) st A = exG TB d 153 4 (a0 :: some (.int i1) :: r9) (.int i1 :: st) A := x_nx (op := o_iload 1 1) rfl rfl
theorem x_153_4  : exG TB d 153 4 (a0 :: a1 :: some (.int i1) :: r9) st A = exG TB d 153 5 (a0 :: a1 :: some (.int i1) :: r9) (.int i1 :: st) A := x_nx (op := o_iload 2 1) rfl rfl
theorem x_153_5  : exG TB d 153 5 L [b1, b0, .ref p, w0, w1] A = kwh [(31, 13)] (sel (gc A p) [(0, 213)]) [.ref p, b0, b1] d 153 8 L [w0, w1] A := x_cvb (op := o_cv [(0, 213)] 2 3 false (some [(31, 13)])) rfl rfl x_hd rfl
theorem x_153_8  : exG TB d 153 8 L (.int i1 :: st) A = exG TB d 153 9 L (.long i1.toInt64 :: st) A := x_nx (op := o_i2l) rfl rfl
theorem x_153_9  : exG TB d 153 9 L (.long l1 :: .int i1 :: .ref p :: st) A = ka (wrJ (ga A p) i1 l1) p d 153 10 L st A := x_bd (op := o_wrJ) rfl rfl (fun _ => rfl)
theorem x_153_10  : exG TB d 153 10 L st A = exG TB d 153 17 L st A := x_nx (op := o_goto 17) rfl rfl
theorem x_153_13  : exG TB d 153 13 (a0 :: a1 :: a2 :: a3 :: a4 :: r9) (v :: st) A = rg v (exG TB d 153 15 (a0 :: a1 :: a2 :: a3 :: some v :: r9) st A) := x_rgt (op := o_astore 4 2) rfl rfl
theorem x_153_15  : exG TB d 153 15 L st A = exG TB d 153 16 L (.int (nI 1) :: st) A := x_nx (op := o_push 1 (.int 1)) rfl rfl
theorem x_153_16  : exG TB d 153 16 L [v] A = ck (okv 1 v) (some (.inl (some v), A)) := x_outg (op := o_ret 1) rfl rfl
theorem x_153_17  : exG TB d 153 17 L st A = exG TB d 153 18 L (.int (nI 0) :: st) A := x_nx (op := o_push 1 (.int 0)) rfl rfl
theorem x_153_18  : exG TB d 153 18 L [v] A = ck (okv 1 v) (some (.inl (some v), A)) := x_outg (op := o_ret 1) rfl rfl
theorem e_154 {j1 : Int32} {j2 : Int32} : evG TB (d + 1) 154 [b0, .int j1, .int j2, b3] A = rg b0 (rg b3 (exG TB d 154 0 [some (b0), some (.int j1), some (.int j2), some (b3), none] [] A)) := by
  rw [evG_eq]
  show (bif (isR b0 && (true && (true && (isR b3 && true)))) then exG TB d 154 0 [some (b0), some (.int j1), some (.int j2), some (b3), none] [] A else none) = _
  unfold rg
  cases isR b0 <;> cases isR b3 <;> rfl
theorem x_154_0  : exG TB d 154 0 (a0 :: a1 :: a2 :: some v :: r9) st A = rg v (exG TB d 154 1 (a0 :: a1 :: a2 :: some v :: r9) (v :: st) A) := x_rg (op := o_aload 3 1) rfl rfl
theorem x_154_1  : exG TB d 154 1 L st A = exG TB d 154 2 L (.int (nI 0) :: st) A := x_nx (op := o_push 1 (.int 0)) rfl rfl
theorem x_154_2  : exG TB d 154 2 (some v :: r9) st A = rg v (exG TB d 154 3 (some v :: r9) (v :: st) A) := x_rg (op := o_aload 0 1) rfl rfl
theorem x_154_3  : exG TB d 154 3 (a0 :: some (.int i1) :: r9) st A = exG TB d 154 4 (a0 :: some (.int i1) :: r9) (.int i1 :: st) A := x_nx (op := o_iload 1 1) rfl rfl
theorem x_154_4  : exG TB d 154 4 (a0 :: a1 :: some (.int i1) :: r9) st A = exG TB d 154 5 (a0 :: a1 :: some (.int i1) :: r9) (.int i1 :: st) A := x_nx (op := o_iload 2 1) rfl rfl
theorem x_154_5  : exG TB d 154 5 L [b1, b0, .ref p, w0, w1] A = kwh [(31, 13), (32, 17), (33, 21)] (sel (gc A p) [(0, 214)]) [.ref p, b0, b1] d 154 8 L [w0, w1] A := x_cvb (op := o_cv [(0, 214)] 2 3 false (some [(31, 13), (32, 17), (33, 21)])) rfl rfl x_hd rfl
theorem x_154_8  : exG TB d 154 8 L (.int i1 :: st) A = exG TB d 154 9 L (.long i1.toInt64 :: st) A := x_nx (op := o_i2l) rfl rfl
theorem x_154_9  : exG TB d 154 9 L (.long l1 :: .int i1 :: .ref p :: st) A = ka (wrJ (ga A p) i1 l1) p d 154 10 L st A := x_bd (op := o_wrJ) rfl rfl (fun _ => rfl)
theorem x_154_10  : exG TB d 154 10 L st A = exG TB d 154 25 L st A := x_nx (op := o_goto 25) rfl rfl
theorem x_154_13  : exG TB d 154 13 (a0 :: a1 :: a2 :: a3 :: a4 :: r9) (v :: st) A = rg v (exG TB d 154 15 (a0 :: a1 :: a2 :: a3 :: some v :: r9) st A) := x_rgt (op := o_astore 4 2) rfl rfl
theorem x_154_15  : exG TB d 154 15 L st A = exG TB d 154 16 L (.int (nI 1) :: st) A := x_nx (op := o_push 1 (.int 1)) rfl rfl
theorem x_154_16  : exG TB d 154 16 L [v] A = ck (okv 1 v) (some (.inl (some v), A)) := x_outg (op := o_ret 1) rfl rfl
theorem x_154_17  : exG TB d 154 17 (a0 :: a1 :: a2 :: a3 :: a4 :: r9) (v :: st) A = rg v (exG TB d 154 19 (a0 :: a1 :: a2 :: a3 :: some v :: r9) st A) := x_rgt (op := o_astore 4 2) rfl rfl
theorem x_154_19  : exG TB d 154 19 L st A = exG TB d 154 20 L (.int (nI 2) :: st) A := x_nx (op := o_push 1 (.int 2)) rfl rfl
theorem x_154_20  : exG TB d 154 20 L [v] A = ck (okv 1 v) (some (.inl (some v), A)) := x_outg (op := o_ret 1) rfl rfl
theorem x_154_21  : exG TB d 154 21 (a0 :: a1 :: a2 :: a3 :: a4 :: r9) (v :: st) A = rg v (exG TB d 154 23 (a0 :: a1 :: a2 :: a3 :: some v :: r9) st A) := x_rgt (op := o_astore 4 2) rfl rfl
theorem x_154_23  : exG TB d 154 23 L st A = exG TB d 154 24 L (.int (nI 3) :: st) A := x_nx (op := o_push 1 (.int 3)) rfl rfl
theorem x_154_24  : exG TB d 154 24 L [v] A = ck (okv 1 v) (some (.inl (some v), A)) := x_outg (op := o_ret 1) rfl rfl
theorem x_154_25  : exG TB d 154 25 L st A = exG TB d 154 26 L (.int (nI 0) :: st) A := x_nx (op := o_push 1 (.int 0)) rfl rfl
theorem x_154_26  : exG TB d 154 26 L [v] A = ck (okv 1 v) (some (.inl (some v), A)) := x_outg (op := o_ret 1) rfl rfl
theorem e_155 {j1 : Int32} : evG TB (d + 1) 155 [b0, .int j1, b2] A = rg b0 (rg b2 (exG TB d 155 0 [some (b0), some (.int j1), some (b2), none] [] A)) := by
  rw [evG_eq]
  show (bif (isR b0 && (true && (isR b2 && true))) then exG TB d 155 0 [some (b0), some (.int j1), some (b2), none] [] A else none) = _
  unfold rg
  cases isR b0 <;> cases isR b2 <;> rfl
theorem x_155_0  : exG TB d 155 0 (a0 :: a1 :: some v :: r9) st A = rg v (exG TB d 155 1 (a0 :: a1 :: some v :: r9) (v :: st) A) := x_rg (op := o_aload 2 1) rfl rfl
theorem x_155_1  : exG TB d 155 1 L st A = exG TB d 155 2 L (.int (nI 0) :: st) A := x_nx (op := o_push 1 (.int 0)) rfl rfl
theorem x_155_2  : exG TB d 155 2 (some v :: r9) st A = rg v (exG TB d 155 3 (some v :: r9) (v :: st) A) := x_rg (op := o_aload 0 1) rfl rfl
theorem x_155_3  : exG TB d 155 3 (a0 :: some (.int i1) :: r9) st A = exG TB d 155 4 (a0 :: some (.int i1) :: r9) (.int i1 :: st) A := x_nx (op := o_iload 1 1) rfl rfl
theorem x_155_4  : exG TB d 155 4 L [b0, .ref p, w0, w1] A = kwh [(32, 12)] (sel (gc A p) [(0, 215)]) [.ref p, b0] d 155 7 L [w0, w1] A := x_cvb (op := o_cv [(0, 215)] 1 3 false (some [(32, 12)])) rfl rfl x_hd rfl
theorem x_155_7  : exG TB d 155 7 L (.int i1 :: st) A = exG TB d 155 8 L (.long i1.toInt64 :: st) A := x_nx (op := o_i2l) rfl rfl
theorem x_155_8  : exG TB d 155 8 L (.long l1 :: .int i1 :: .ref p :: st) A = ka (wrJ (ga A p) i1 l1) p d 155 9 L st A := x_bd (op := o_wrJ) rfl rfl (fun _ => rfl)
theorem x_155_9  : exG TB d 155 9 L st A = exG TB d 155 15 L st A := x_nx (op := o_goto 15) rfl rfl
theorem x_155_12  : exG TB d 155 12 (a0 :: a1 :: a2 :: a3 :: r9) (v :: st) A = rg v (exG TB d 155 13 (a0 :: a1 :: a2 :: some v :: r9) st A) := x_rgt (op := o_astore 3 1) rfl rfl
theorem x_155_13  : exG TB d 155 13 L st A = exG TB d 155 14 L (.int (nI 1) :: st) A := x_nx (op := o_push 1 (.int 1)) rfl rfl
theorem x_155_14  : exG TB d 155 14 L [v] A = ck (okv 1 v) (some (.inl (some v), A)) := x_outg (op := o_ret 1) rfl rfl
theorem x_155_15  : exG TB d 155 15 L st A = exG TB d 155 16 L (.int (nI 0) :: st) A := x_nx (op := o_push 1 (.int 0)) rfl rfl
theorem x_155_16  : exG TB d 155 16 L [v] A = ck (okv 1 v) (some (.inl (some v), A)) := x_outg (op := o_ret 1) rfl rfl
theorem e_156 {j1 : Int32} {j2 : Int32} : evG TB (d + 1) 156 [b0, .int j1, .int j2, b3] A = rg b0 (rg b3 (exG TB d 156 0 [some (b0), some (.int j1), some (.int j2), some (b3), none] [] A)) := by
  rw [evG_eq]
  show (bif (isR b0 && (true && (true && (isR b3 && true)))) then exG TB d 156 0 [some (b0), some (.int j1), some (.int j2), some (b3), none] [] A else none) = _
  unfold rg
  cases isR b0 <;> cases isR b3 <;> rfl
theorem x_156_0  : exG TB d 156 0 (a0 :: a1 :: a2 :: some v :: r9) st A = rg v (exG TB d 156 1 (a0 :: a1 :: a2 :: some v :: r9) (v :: st) A) := x_rg (op := o_aload 3 1) rfl rfl
theorem x_156_1  : exG TB d 156 1 L st A = exG TB d 156 2 L (.int (nI 0) :: st) A := x_nx (op := o_push 1 (.int 0)) rfl rfl
theorem x_156_2  : exG TB d 156 2 (some v :: r9) st A = rg v (exG TB d 156 3 (some v :: r9) (v :: st) A) := x_rg (op := o_aload 0 1) rfl rfl
theorem x_156_3  : exG TB d 156 3 (a0 :: some (.int i1) :: r9) st A = exG TB d 156 4 (a0 :: some (.int i1) :: r9) (.int i1 :: st) A := x_nx (op := o_iload 1 1) rfl rfl
theorem x_156_4  : exG TB d 156 4 (a0 :: a1 :: some (.int i1) :: r9) st A = exG TB d 156 5 (a0 :: a1 :: some (.int i1) :: r9) (.int i1 :: st) A := x_nx (op := o_iload 2 1) rfl rfl
theorem x_156_5  : exG TB d 156 5 L [b1, b0, .ref p, w0, w1] A = kwh [(31, 13), (32, 17)] (sel (gc A p) [(0, 216)]) [.ref p, b0, b1] d 156 8 L [w0, w1] A := x_cvb (op := o_cv [(0, 216)] 2 3 false (some [(31, 13), (32, 17)])) rfl rfl x_hd rfl
theorem x_156_8  : exG TB d 156 8 L (.int i1 :: st) A = exG TB d 156 9 L (.long i1.toInt64 :: st) A := x_nx (op := o_i2l) rfl rfl
theorem x_156_9  : exG TB d 156 9 L (.long l1 :: .int i1 :: .ref p :: st) A = ka (wrJ (ga A p) i1 l1) p d 156 10 L st A := x_bd (op := o_wrJ) rfl rfl (fun _ => rfl)
theorem x_156_10  : exG TB d 156 10 L st A = exG TB d 156 21 L st A := x_nx (op := o_goto 21) rfl rfl
theorem x_156_13  : exG TB d 156 13 (a0 :: a1 :: a2 :: a3 :: a4 :: r9) (v :: st) A = rg v (exG TB d 156 15 (a0 :: a1 :: a2 :: a3 :: some v :: r9) st A) := x_rgt (op := o_astore 4 2) rfl rfl
theorem x_156_15  : exG TB d 156 15 L st A = exG TB d 156 16 L (.int (nI 1) :: st) A := x_nx (op := o_push 1 (.int 1)) rfl rfl
theorem x_156_16  : exG TB d 156 16 L [v] A = ck (okv 1 v) (some (.inl (some v), A)) := x_outg (op := o_ret 1) rfl rfl
theorem x_156_17  : exG TB d 156 17 (a0 :: a1 :: a2 :: a3 :: a4 :: r9) (v :: st) A = rg v (exG TB d 156 19 (a0 :: a1 :: a2 :: a3 :: some v :: r9) st A) := x_rgt (op := o_astore 4 2) rfl rfl
theorem x_156_19  : exG TB d 156 19 L st A = exG TB d 156 20 L (.int (nI 2) :: st) A := x_nx (op := o_push 1 (.int 2)) rfl rfl
theorem x_156_20  : exG TB d 156 20 L [v] A = ck (okv 1 v) (some (.inl (some v), A)) := x_outg (op := o_ret 1) rfl rfl
theorem x_156_21  : exG TB d 156 21 L st A = exG TB d 156 22 L (.int (nI 0) :: st) A := x_nx (op := o_push 1 (.int 0)) rfl rfl
theorem x_156_22  : exG TB d 156 22 L [v] A = ck (okv 1 v) (some (.inl (some v), A)) := x_outg (op := o_ret 1) rfl rfl
theorem e_157 {j1 : Int32} : evG TB (d + 1) 157 [b0, .int j1, b2] A = rg b0 (rg b2 (exG TB d 157 0 [some (b0), some (.int j1), some (b2), none] [] A)) := by
  rw [evG_eq]
  show (bif (isR b0 && (true && (isR b2 && true))) then exG TB d 157 0 [some (b0), some (.int j1), some (b2), none] [] A else none) = _
  unfold rg
  cases isR b0 <;> cases isR b2 <;> rfl
theorem x_157_0  : exG TB d 157 0 (a0 :: a1 :: some v :: r9) st A = rg v (exG TB d 157 1 (a0 :: a1 :: some v :: r9) (v :: st) A) := x_rg (op := o_aload 2 1) rfl rfl
theorem x_157_1  : exG TB d 157 1 L st A = exG TB d 157 2 L (.int (nI 0) :: st) A := x_nx (op := o_push 1 (.int 0)) rfl rfl
theorem x_157_2  : exG TB d 157 2 (some v :: r9) st A = rg v (exG TB d 157 3 (some v :: r9) (v :: st) A) := x_rg (op := o_aload 0 1) rfl rfl
theorem x_157_3  : exG TB d 157 3 (a0 :: some (.int i1) :: r9) st A = exG TB d 157 4 (a0 :: some (.int i1) :: r9) (.int i1 :: st) A := x_nx (op := o_iload 1 1) rfl rfl
theorem x_157_4  : exG TB d 157 4 L [b0, .ref p, w0, w1] A = kwh [(31, 12)] (sel (gc A p) [(0, 219)]) [.ref p, b0] d 157 7 L [w0, w1] A := x_cvb (op := o_cv [(0, 219)] 1 3 false (some [(31, 12)])) rfl rfl x_hd rfl
theorem x_157_7  : exG TB d 157 7 L (.float f1 :: st) A = ck (b_n64 (FP.f2d f1)) (exG TB d 157 8 L (.double (FP.f2d f1) :: st) A) := x_gd (op := o_f2d) rfl rfl
theorem x_157_8  : exG TB d 157 8 L (.double d1 :: .int i1 :: .ref p :: st) A = ka (wrD (ga A p) i1 d1) p d 157 9 L st A := x_bd (op := o_wrD) rfl rfl (fun _ => rfl)
theorem x_157_9  : exG TB d 157 9 L st A = exG TB d 157 15 L st A := x_nx (op := o_goto 15) rfl rfl
theorem x_157_12  : exG TB d 157 12 (a0 :: a1 :: a2 :: a3 :: r9) (v :: st) A = rg v (exG TB d 157 13 (a0 :: a1 :: a2 :: some v :: r9) st A) := x_rgt (op := o_astore 3 1) rfl rfl
theorem x_157_13  : exG TB d 157 13 L st A = exG TB d 157 14 L (.int (nI 1) :: st) A := x_nx (op := o_push 1 (.int 1)) rfl rfl
theorem x_157_14  : exG TB d 157 14 L [v] A = ck (okv 1 v) (some (.inl (some v), A)) := x_outg (op := o_ret 1) rfl rfl
theorem x_157_15  : exG TB d 157 15 L st A = exG TB d 157 16 L (.int (nI 0) :: st) A := x_nx (op := o_push 1 (.int 0)) rfl rfl
theorem x_157_16  : exG TB d 157 16 L [v] A = ck (okv 1 v) (some (.inl (some v), A)) := x_outg (op := o_ret 1) rfl rfl
theorem e_158 {j1 : Int32} : evG TB (d + 1) 158 [b0, .int j1] A = rg b0 (exG TB d 158 0 [some (b0), some (.int j1), none] [] A) := by
  rw [evG_eq]
  show (bif (isR b0 && (true && true)) then exG TB d 158 0 [some (b0), some (.int j1), none] [] A else none) = _
  unfold rg
  cases isR b0 <;> rfl
theorem x_158_0  : exG TB d 158 0 (some v :: r9) st A = rg v (exG TB d 158 1 (some v :: r9) (v :: st) A) := x_rg (op := o_aload 0 1) rfl rfl
theorem x_158_1  : exG TB d 158 1 (a0 :: some (.int i1) :: r9) st A = exG TB d 158 2 (a0 :: some (.int i1) :: r9) (.int i1 :: st) A := x_nx (op := o_iload 1 1) rfl rfl
theorem x_158_2  : exG TB d 158 2 L [b0, .ref p] A = kw0h [(32, 8)] (sel (gc A p) [(0, 220)]) [.ref p, b0] d 158 5 L [] A := x_c0b (op := o_cv [(0, 220)] 1 3 true (some [(32, 8)])) rfl rfl x_hd rfl
theorem x_158_5  : exG TB d 158 5 L st A = exG TB d 158 11 L st A := x_nx (op := o_goto 11) rfl rfl
theorem x_158_8  : exG TB d 158 8 (a0 :: a1 :: a2 :: r9) (v :: st) A = rg v (exG TB d 158 9 (a0 :: a1 :: some v :: r9) st A) := x_rgt (op := o_astore 2 1) rfl rfl
theorem x_158_9  : exG TB d 158 9 L st A = exG TB d 158 10 L (.int (nI 1) :: st) A := x_nx (op := o_push 1 (.int 1)) rfl rfl
theorem x_158_10  : exG TB d 158 10 L [v] A = ck (okv 1 v) (some (.inl (some v), A)) := x_outg (op := o_ret 1) rfl rfl
theorem x_158_11  : exG TB d 158 11 L st A = exG TB d 158 12 L (.int (nI 0) :: st) A := x_nx (op := o_push 1 (.int 0)) rfl rfl
theorem x_158_12  : exG TB d 158 12 L [v] A = ck (okv 1 v) (some (.inl (some v), A)) := x_outg (op := o_ret 1) rfl rfl
theorem e_159 {j1 : Int32} : evG TB (d + 1) 159 [b0, .int j1] A = rg b0 (exG TB d 159 0 [some (b0), some (.int j1), none] [] A) := by
  rw [evG_eq]
  show (bif (isR b0 && (true && true)) then exG TB d 159 0 [some (b0), some (.int j1), none] [] A else none) = _
  unfold rg
  cases isR b0 <;> rfl
theorem x_159_0  : exG TB d 159 0 (some v :: r9) st A = rg v (exG TB d 159 1 (some v :: r9) (v :: st) A) := x_rg (op := o_aload 0 1) rfl rfl
theorem x_159_1  : exG TB d 159 1 (a0 :: some (.int i1) :: r9) st A = exG TB d 159 2 (a0 :: some (.int i1) :: r9) (.int i1 :: st) A := x_nx (op := o_iload 1 1) rfl rfl
theorem x_159_2  : exG TB d 159 2 L [b0, .ref p] A = kw0h [(32, 8), (33, 11)] (sel (gc A p) [(0, 221)]) [.ref p, b0] d 159 5 L [] A := x_c0b (op := o_cv [(0, 221)] 1 3 true (some [(32, 8), (33, 11)])) rfl rfl x_hd rfl
theorem x_159_5  : exG TB d 159 5 L st A = exG TB d 159 14 L st A := x_nx (op := o_goto 14) rfl rfl
theorem x_159_8  : exG TB d 159 8 (a0 :: a1 :: a2 :: r9) (v :: st) A = rg v (exG TB d 159 9 (a0 :: a1 :: some v :: r9) st A) := x_rgt (op := o_astore 2 1) rfl rfl
theorem x_159_9  : exG TB d 159 9 L st A = exG TB d 159 10 L (.int (nI 1) :: st) A := x_nx (op := o_push 1 (.int 1)) rfl rfl
theorem x_159_10  : exG TB d 159 10 L [v] A = ck (okv 1 v) (some (.inl (some v), A)) := x_outg (op := o_ret 1) rfl rfl
theorem x_159_11  : exG TB d 159 11 (a0 :: a1 :: a2 :: r9) (v :: st) A = rg v (exG TB d 159 12 (a0 :: a1 :: some v :: r9) st A) := x_rgt (op := o_astore 2 1) rfl rfl
theorem x_159_12  : exG TB d 159 12 L st A = exG TB d 159 13 L (.int (nI 2) :: st) A := x_nx (op := o_push 1 (.int 2)) rfl rfl
theorem x_159_13  : exG TB d 159 13 L [v] A = ck (okv 1 v) (some (.inl (some v), A)) := x_outg (op := o_ret 1) rfl rfl
theorem x_159_14  : exG TB d 159 14 L st A = exG TB d 159 15 L (.int (nI 0) :: st) A := x_nx (op := o_push 1 (.int 0)) rfl rfl
theorem x_159_15  : exG TB d 159 15 L [v] A = ck (okv 1 v) (some (.inl (some v), A)) := x_outg (op := o_ret 1) rfl rfl
theorem e_160  : evG TB (d + 1) 160 [.ref p] A = exG TB d 160 0 [some (.ref p)] [] A := evG_eq TB d 160 _ A
theorem x_160_0  : exG TB d 160 0 (some v :: r9) st A = rg v (exG TB d 160 1 (some v :: r9) (v :: st) A) := x_rg (op := o_aload 0 1) rfl rfl
theorem x_160_1  : exG TB d 160 1 L [.ref p] A = exG TB d 160 4 L [] A := x_nx (op := o_oi) rfl rfl
theorem x_160_4  : exG TB d 160 4 (some v :: r9) st A = rg v (exG TB d 160 5 (some v :: r9) (v :: st) A) := x_rg (op := o_aload 0 1) rfl rfl
theorem x_160_5  : exG TB d 160 5 L st A = exG TB d 160 8 L (.ref (nx A) :: st) (newo A 1 8 dv1) := x_nx (op := o_new 1 8 dv1) rfl rfl
theorem x_160_8  : exG TB d 160 8 L (v :: st) A = ck (c1 v) (exG TB d 160 9 L (v :: v :: st) A) := x_gd (op := o_dup) rfl rfl
theorem x_160_9  : exG TB d 160 9 L [.ref p, w0, w1] A = kc0 (evG TB d 256 [.ref p] A) d 160 12 L [w0, w1] := x_c0 (op := o_ci 256 0) rfl rfl x_noh rfl
theorem x_160_12  : exG TB d 160 12 L (v :: .ref p :: st) A = ck ((gf A p 0).isSome && okv 0 v) (exG TB d 160 15 L st (setf A p 0 v)) := x_gd (op := o_put 0 0) rfl rfl
theorem x_160_15  : exG TB d 160 15 (some v :: r9) st A = rg v (exG TB d 160 16 (some v :: r9) (v :: st) A) := x_rg (op := o_aload 0 1) rfl rfl
theorem x_160_16  : exG TB d 160 16 L st A = exG TB d 160 17 L (.int (nI 2) :: st) A := x_nx (op := o_push 1 (.int 2)) rfl rfl
theorem x_160_17  : exG TB d 160 17 L (.int i1 :: st) A = ck (okn i1) (exG TB d 160 20 L (.ref (nx A) :: st) (newa A (zar 8 i1.toNatClampNeg))) := x_gd (op := o_newa 8 3) rfl rfl
theorem x_160_20  : exG TB d 160 20 L (v :: .ref p :: st) A = ck ((gf A p 1).isSome && okv 0 v) (exG TB d 160 23 L st (setf A p 1 v)) := x_gd (op := o_put 1 0) rfl rfl
theorem x_160_23  : exG TB d 160 23 (some v :: r9) st A = rg v (exG TB d 160 24 (some v :: r9) (v :: st) A) := x_rg (op := o_aload 0 1) rfl rfl
theorem x_160_24  : exG TB d 160 24 L st A = exG TB d 160 27 L (.int (nI 700) :: st) A := x_nx (op := o_push 3 (.int 700)) rfl rfl
theorem x_160_27  : exG TB d 160 27 L (.int i1 :: st) A = ck (okn i1) (exG TB d 160 29 L (.ref (nx A) :: st) (newa A (zar 1 i1.toNatClampNeg))) := x_gd (op := o_newa 1 2) rfl rfl
theorem x_160_29  : exG TB d 160 29 L (v :: .ref p :: st) A = ck ((gf A p 2).isSome && okv 0 v) (exG TB d 160 32 L st (setf A p 2 v)) := x_gd (op := o_put 2 0) rfl rfl
theorem x_160_32  : exG TB d 160 32 (some v :: r9) st A = rg v (exG TB d 160 33 (some v :: r9) (v :: st) A) := x_rg (op := o_aload 0 1) rfl rfl
theorem x_160_33  : exG TB d 160 33 L st A = exG TB d 160 34 L (.int nN :: st) A := x_nx (op := o_push 1 (.int (-1))) rfl rfl
theorem x_160_34  : exG TB d 160 34 L (v :: .ref p :: st) A = ck ((gf A p 5).isSome && okv 1 v) (exG TB d 160 37 L st (setf A p 5 v)) := x_gd (op := o_put 5 1) rfl rfl
theorem x_160_37  : exG TB d 160 37 L [] A = some (.inl none, A) := x_out (op := o_vret) rfl rfl
theorem e_161  : evG TB (d + 1) 161 [.ref p] A = exG TB d 161 0 [some (.ref p), none, none, none, none] [] A := evG_eq TB d 161 _ A
theorem x_161_0  : exG TB d 161 0 L st A = exG TB d 161 1 L (.long 0 :: st) A := x_nx (op := o_push 1 (.long 0)) rfl rfl
theorem x_161_1  : exG TB d 161 1 (a0 :: a1 :: a2 :: r9) (.long l1 :: st) A = exG TB d 161 2 (a0 :: some (.long l1) :: none :: r9) st A := x_nx (op := o_lstore 1 1) rfl rfl
theorem x_161_2  : exG TB d 161 2 (some v :: r9) st A = rg v (exG TB d 161 3 (some v :: r9) (v :: st) A) := x_rg (op := o_aload 0 1) rfl rfl
theorem x_161_3  : exG TB d 161 3 L (.ref p :: st) A = kv (gf A p 0) d 161 6 L st A := x_bd (op := o_get 0) rfl rfl (fun _ => rfl)
theorem x_161_6  : exG TB d 161 6 L (.ref p :: st) A = kv (gf A p 12) d 161 9 L st A := x_bd (op := o_get 12) rfl rfl (fun _ => rfl)
theorem x_161_9  : exG TB d 161 9 L [.ref p] A = kw (sel (gc A p) [(3, 40)]) [.ref p] d 161 12 L [] A := x_cvb (op := o_cv [(3, 40)] 0 3 false none) rfl rfl x_noh rfl
theorem x_161_12  : exG TB d 161 12 (a0 :: a1 :: a2 :: a3 :: r9) (v :: st) A = rg v (exG TB d 161 13 (a0 :: a1 :: a2 :: some v :: r9) st A) := x_rgt (op := o_astore 3 1) rfl rfl
theorem x_161_13  : exG TB d 161 13 (a0 :: a1 :: a2 :: some v :: r9) st A = rg v (exG TB d 161 14 (a0 :: a1 :: a2 :: some v :: r9) (v :: st) A) := x_rg (op := o_aload 3 1) rfl rfl
theorem x_161_14  : exG TB d 161 14 L [.ref p] A = kw (sel (gc A p) [(7, 50), (24, 86), (25, 92)]) [.ref p] d 161 19 L [] A := x_cvb (op := o_cv [(7, 50), (24, 86), (25, 92)] 0 5 false none) rfl rfl x_noh rfl
theorem x_161_19  : exG TB d 161 19 L (.int i1 :: st) A = if i1 = nI 0 then exG TB d 161 51 L st A else exG TB d 161 22 L st A := x_if (op := o_if (fun x => decide (x = 0)) 51) rfl rfl rfl
theorem x_161_22  : exG TB d 161 22 (a0 :: a1 :: a2 :: some v :: r9) st A = rg v (exG TB d 161 23 (a0 :: a1 :: a2 :: some v :: r9) (v :: st) A) := x_rg (op := o_aload 3 1) rfl rfl
theorem x_161_23  : exG TB d 161 23 L [.ref p] A = kw (sel (gc A p) [(7, 51), (24, 89), (25, 95)]) [.ref p] d 161 28 L [] A := x_cvb (op := o_cv [(7, 51), (24, 89), (25, 95)] 0 5 false none) rfl rfl x_noh rfl
theorem x_161_28n  : exG TB d 161 28 L (.null :: st) A = exG TB d 161 31 L (.null :: st) A := x_nx (op := o_cast [27]) rfl rfl
theorem x_161_28r  : exG TB d 161 28 L (.ref p :: st) A = ck (cin (gcs A p) [27]) (exG TB d 161 31 L (.ref p :: st) A) := x_gd (op := o_cast [27]) rfl rfl
theorem x_161_31  : exG TB d 161 31 (a0 :: a1 :: a2 :: a3 :: a4 :: r9) (v :: st) A = rg v (exG TB d 161 33 (a0 :: a1 :: a2 :: a3 :: some v :: r9) st A) := x_rgt (op := o_astore 4 2) rfl rfl
theorem x_161_33  : exG TB d 161 33 (a0 :: some (.long l1) :: none :: r9) st A = exG TB d 161 34 (a0 :: some (.long l1) :: none :: r9) (.long l1 :: st) A := x_nx (op := o_lload 1 1) rfl rfl
theorem x_161_34  : exG TB d 161 34 (a0 :: a1 :: a2 :: a3 :: some v :: r9) st A = rg v (exG TB d 161 36 (a0 :: a1 :: a2 :: a3 :: some v :: r9) (v :: st) A) := x_rg (op := o_aload 4 2) rfl rfl
theorem x_161_36  : exG TB d 161 36 L (.ref p :: st) A = kv (gf A p 135) d 161 39 L st A := x_bd (op := o_get 135) rfl rfl (fun _ => rfl)
theorem x_161_39  : exG TB d 161 39 (a0 :: a1 :: a2 :: a3 :: some v :: r9) st A = rg v (exG TB d 161 41 (a0 :: a1 :: a2 :: a3 :: some v :: r9) (v :: st) A) := x_rg (op := o_aload 4 2) rfl rfl
theorem x_161_41  : exG TB d 161 41 L (.ref p :: st) A = kv (gf A p 142) d 161 44 L st A := x_bd (op := o_get 142) rfl rfl (fun _ => rfl)
theorem x_161_44  : exG TB d 161 44 L (.int i2 :: .int i1 :: st) A = exG TB d 161 45 L (.int (i1 - i2) :: st) A := x_nx (op := o_iop (fun x y => x - y)) rfl rfl
theorem x_161_45  : exG TB d 161 45 L (.int i1 :: st) A = exG TB d 161 46 L (.long i1.toInt64 :: st) A := x_nx (op := o_i2l) rfl rfl
theorem x_161_46  : exG TB d 161 46 L (.long l2 :: .long l1 :: st) A = exG TB d 161 47 L (.long (l1 + l2) :: st) A := x_nx (op := o_lop (fun x y => x + y)) rfl rfl
theorem x_161_47  : exG TB d 161 47 (a0 :: a1 :: a2 :: r9) (.long l1 :: st) A = exG TB d 161 48 (a0 :: some (.long l1) :: none :: r9) st A := x_nx (op := o_lstore 1 1) rfl rfl
theorem x_161_48  : exG TB d 161 48 L st A = exG TB d 161 13 L st A := x_nx (op := o_goto 13) rfl rfl
theorem x_161_51  : exG TB d 161 51 (a0 :: some (.long l1) :: none :: r9) st A = exG TB d 161 52 (a0 :: some (.long l1) :: none :: r9) (.long l1 :: st) A := x_nx (op := o_lload 1 1) rfl rfl
theorem x_161_52  : exG TB d 161 52 L [v] A = ck (okv 2 v) (some (.inl (some v), A)) := x_outg (op := o_ret 2) rfl rfl
theorem e_162  : evG TB (d + 1) 162 [.ref p] A = exG TB d 162 0 [some (.ref p), none, none, none, none] [] A := evG_eq TB d 162 _ A
theorem x_162_0  : exG TB d 162 0 L st A = exG TB d 162 1 L (.int nN :: st) A := x_nx (op := o_push 1 (.int (-1))) rfl rfl
theorem x_162_1  : exG TB d 162 1 (a0 :: a1 :: r9) (.int i1 :: st) A = exG TB d 162 2 (a0 :: some (.int i1) :: r9) st A := x_nx (op := o_istore 1 1) rfl rfl
theorem x_162_2  : exG TB d 162 2 L st A = exG TB d 162 3 L (.int (nI 0) :: st) A := x_nx (op := o_push 1 (.int 0)) rfl rfl
theorem x_162_3  : exG TB d 162 3 (a0 :: a1 :: a2 :: r9) (.int i1 :: st) A = exG TB d 162 4 (a0 :: a1 :: some (.int i1) :: r9) st A := x_nx (op := o_istore 2 1) rfl rfl
theorem x_162_4  : exG TB d 162 4 L st A = exG TB d 162 5 L (.int (nI 0) :: st) A := x_nx (op := o_push 1 (.int 0)) rfl rfl
theorem x_162_5  : exG TB d 162 5 (a0 :: a1 :: a2 :: a3 :: r9) (.int i1 :: st) A = exG TB d 162 6 (a0 :: a1 :: a2 :: some (.int i1) :: r9) st A := x_nx (op := o_istore 3 1) rfl rfl
theorem x_162_6  : exG TB d 162 6 (a0 :: a1 :: a2 :: some (.int i1) :: r9) st A = exG TB d 162 7 (a0 :: a1 :: a2 :: some (.int i1) :: r9) (.int i1 :: st) A := x_nx (op := o_iload 3 1) rfl rfl
theorem x_162_7  : exG TB d 162 7 (some v :: r9) st A = rg v (exG TB d 162 8 (some v :: r9) (v :: st) A) := x_rg (op := o_aload 0 1) rfl rfl
theorem x_162_8  : exG TB d 162 8 L (.ref p :: st) A = kv (gf A p 0) d 162 11 L st A := x_bd (op := o_get 0) rfl rfl (fun _ => rfl)
theorem x_162_11  : exG TB d 162 11 L (.ref p :: st) A = kv (gf A p 6) d 162 14 L st A := x_bd (op := o_get 6) rfl rfl (fun _ => rfl)
theorem x_162_14  : exG TB d 162 14 L (.ref p :: st) A = kv (gf A p 15) d 162 17 L st A := x_bd (op := o_get 15) rfl rfl (fun _ => rfl)
theorem x_162_17  : exG TB d 162 17 L (.int i2 :: .int i1 :: st) A = if i2 ≤ i1 then exG TB d 162 56 L st A else exG TB d 162 20 L st A := x_if (op := o_icmp (fun x y => decide (y ≤ x)) 56) rfl rfl rfl
theorem x_162_20  : exG TB d 162 20 (some v :: r9) st A = rg v (exG TB d 162 21 (some v :: r9) (v :: st) A) := x_rg (op := o_aload 0 1) rfl rfl
theorem x_162_21  : exG TB d 162 21 L (.ref p :: st) A = kv (gf A p 0) d 162 24 L st A := x_bd (op := o_get 0) rfl rfl (fun _ => rfl)
theorem x_162_24  : exG TB d 162 24 (a0 :: a1 :: a2 :: some (.int i1) :: r9) st A = exG TB d 162 25 (a0 :: a1 :: a2 :: some (.int i1) :: r9) (.int i1 :: st) A := x_nx (op := o_iload 3 1) rfl rfl
theorem x_162_25  : exG TB d 162 25 L st A = exG TB d 162 26 L (.int (nI 1) :: st) A := x_nx (op := o_push 1 (.int 1)) rfl rfl
theorem x_162_26  : exG TB d 162 26 L [b1, b0, .ref p] A = kw (sel (gc A p) [(1, 257)]) [.ref p, b0, b1] d 162 29 L [] A := x_cvb (op := o_cv [(1, 257)] 2 3 false none) rfl rfl x_noh rfl
theorem x_162_29  : exG TB d 162 29 (a0 :: a1 :: a2 :: a3 :: a4 :: r9) (.int i1 :: st) A = exG TB d 162 31 (a0 :: a1 :: a2 :: a3 :: some (.int i1) :: r9) st A := x_nx (op := o_istore 4 2) rfl rfl
theorem x_162_31  : exG TB d 162 31 (a0 :: a1 :: a2 :: a3 :: some (.int i1) :: r9) st A = exG TB d 162 33 (a0 :: a1 :: a2 :: a3 :: some (.int i1) :: r9) (.int i1 :: st) A := x_nx (op := o_iload 4 2) rfl rfl
theorem x_162_33  : exG TB d 162 33 (a0 :: a1 :: some (.int i1) :: r9) st A = exG TB d 162 34 (a0 :: a1 :: some (.int i1) :: r9) (.int i1 :: st) A := x_nx (op := o_iload 2 1) rfl rfl
theorem x_162_34  : exG TB d 162 34 L (.int i2 :: .int i1 :: st) A = if i1 ≤ i2 then exG TB d 162 41 L st A else exG TB d 162 37 L st A := x_if (op := o_icmp (fun x y => decide (x ≤ y)) 41) rfl rfl rfl
theorem x_162_37  : exG TB d 162 37 (a0 :: a1 :: a2 :: some (.int i1) :: r9) st A = exG TB d 162 38 (a0 :: a1 :: a2 :: some (.int i1) :: r9) (.int i1 :: st) A := x_nx (op := o_iload 3 1) rfl rfl
theorem x_162_38  : exG TB d 162 38 L st A = exG TB d 162 42 L st A := x_nx (op := o_goto 42) rfl rfl
theorem x_162_41  : exG TB d 162 41 (a0 :: some (.int i1) :: r9) st A = exG TB d 162 42 (a0 :: some (.int i1) :: r9) (.int i1 :: st) A := x_nx (op := o_iload 1 1) rfl rfl
theorem x_162_42  : exG TB d 162 42 (a0 :: a1 :: r9) (.int i1 :: st) A = exG TB d 162 43 (a0 :: some (.int i1) :: r9) st A := x_nx (op := o_istore 1 1) rfl rfl
theorem x_162_43  : exG TB d 162 43 (a0 :: a1 :: some (.int i1) :: r9) st A = exG TB d 162 44 (a0 :: a1 :: some (.int i1) :: r9) (.int i1 :: st) A := x_nx (op := o_iload 2 1) rfl rfl
theorem x_162_44  : exG TB d 162 44 (a0 :: a1 :: a2 :: a3 :: some (.int i1) :: r9) st A = exG TB d 162 46 (a0 :: a1 :: a2 :: a3 :: some (.int i1) :: r9) (.int i1 :: st) A := x_nx (op := o_iload 4 2) rfl rfl
theorem x_162_46  : exG TB d 162 46 L [b1, b0] A = kc (evG TB d 6 [b0, b1] A) d 162 49 L [] := x_cv (op := o_cs 6 2 false none) rfl rfl x_noh rfl
theorem x_162_49  : exG TB d 162 49 (a0 :: a1 :: a2 :: r9) (.int i1 :: st) A = exG TB d 162 50 (a0 :: a1 :: some (.int i1) :: r9) st A := x_nx (op := o_istore 2 1) rfl rfl
theorem x_162_50  : exG TB d 162 50 (a0 :: a1 :: a2 :: some (.int i1) :: r9) st A = exG TB d 162 53 (a0 :: a1 :: a2 :: some (.int (i1 + (nI 1))) :: r9) st A := x_nx (op := o_iinc 3 1) rfl rfl
theorem x_162_53  : exG TB d 162 53 L st A = exG TB d 162 6 L st A := x_nx (op := o_goto 6) rfl rfl
theorem x_162_56  : exG TB d 162 56 (a0 :: some (.int i1) :: r9) st A = exG TB d 162 57 (a0 :: some (.int i1) :: r9) (.int i1 :: st) A := x_nx (op := o_iload 1 1) rfl rfl
theorem x_162_57  : exG TB d 162 57 L [v] A = ck (okv 1 v) (some (.inl (some v), A)) := x_outg (op := o_ret 1) rfl rfl
theorem e_163  : evG TB (d + 1) 163 [.ref p] A = exG TB d 163 0 [some (.ref p), none, none, none, none] [] A := evG_eq TB d 163 _ A
theorem x_163_0  : exG TB d 163 0 L st A = exG TB d 163 1 L (.long 0 :: st) A := x_nx (op := o_push 1 (.long 0)) rfl rfl
theorem x_163_1  : exG TB d 163 1 (a0 :: a1 :: a2 :: r9) (.long l1 :: st) A = exG TB d 163 2 (a0 :: some (.long l1) :: none :: r9) st A := x_nx (op := o_lstore 1 1) rfl rfl
theorem x_163_2  : exG TB d 163 2 (some v :: r9) st A = rg v (exG TB d 163 3 (some v :: r9) (v :: st) A) := x_rg (op := o_aload 0 1) rfl rfl
theorem x_163_3  : exG TB d 163 3 L (.ref p :: st) A = kv (gf A p 0) d 163 6 L st A := x_bd (op := o_get 0) rfl rfl (fun _ => rfl)
theorem x_163_6  : exG TB d 163 6 L (.ref p :: st) A = kv (gf A p 12) d 163 9 L st A := x_bd (op := o_get 12) rfl rfl (fun _ => rfl)
theorem x_163_9  : exG TB d 163 9 L [.ref p] A = kw (sel (gc A p) [(3, 40)]) [.ref p] d 163 12 L [] A := x_cvb (op := o_cv [(3, 40)] 0 3 false none) rfl rfl x_noh rfl
theorem x_163_12  : exG TB d 163 12 (a0 :: a1 :: a2 :: a3 :: r9) (v :: st) A = rg v (exG TB d 163 13 (a0 :: a1 :: a2 :: some v :: r9) st A) := x_rgt (op := o_astore 3 1) rfl rfl
theorem x_163_13  : exG TB d 163 13 (a0 :: a1 :: a2 :: some v :: r9) st A = rg v (exG TB d 163 14 (a0 :: a1 :: a2 :: some v :: r9) (v :: st) A) := x_rg (op := o_aload 3 1) rfl rfl
theorem x_163_14  : exG TB d 163 14 L [.ref p] A = kw (sel (gc A p) [(7, 50), (24, 86), (25, 92)]) [.ref p] d 163 19 L [] A := x_cvb (op := o_cv [(7, 50), (24, 86), (25, 92)] 0 5 false none) rfl rfl x_noh rfl
theorem x_163_19  : exG TB d 163 19 L (.int i1 :: st) A = if i1 = nI 0 then exG TB d 163 45 L st A else exG TB d 163 22 L st A := x_if (op := o_if (fun x => decide (x = 0)) 45) rfl rfl rfl
theorem x_163_22  : exG TB d 163 22 (a0 :: a1 :: a2 :: some v :: r9) st A = rg v (exG TB d 163 23 (a0 :: a1 :: a2 :: some v :: r9) (v :: st) A) := x_rg (op := o_aload 3 1) rfl rfl
theorem x_163_23  : exG TB d 163 23 L [.ref p] A = kw (sel (gc A p) [(7, 51), (24, 89), (25, 95)]) [.ref p] d 163 28 L [] A := x_cvb (op := o_cv [(7, 51), (24, 89), (25, 95)] 0 5 false none) rfl rfl x_noh rfl
theorem x_163_28n  : exG TB d 163 28 L (.null :: st) A = exG TB d 163 31 L (.null :: st) A := x_nx (op := o_cast [27]) rfl rfl
theorem x_163_28r  : exG TB d 163 28 L (.ref p :: st) A = ck (cin (gcs A p) [27]) (exG TB d 163 31 L (.ref p :: st) A) := x_gd (op := o_cast [27]) rfl rfl
theorem x_163_31  : exG TB d 163 31 (a0 :: a1 :: a2 :: a3 :: a4 :: r9) (v :: st) A = rg v (exG TB d 163 33 (a0 :: a1 :: a2 :: a3 :: some v :: r9) st A) := x_rgt (op := o_astore 4 2) rfl rfl
theorem x_163_33  : exG TB d 163 33 (a0 :: some (.long l1) :: none :: r9) st A = exG TB d 163 34 (a0 :: some (.long l1) :: none :: r9) (.long l1 :: st) A := x_nx (op := o_lload 1 1) rfl rfl
theorem x_163_34  : exG TB d 163 34 (a0 :: a1 :: a2 :: a3 :: some v :: r9) st A = rg v (exG TB d 163 36 (a0 :: a1 :: a2 :: a3 :: some v :: r9) (v :: st) A) := x_rg (op := o_aload 4 2) rfl rfl
theorem x_163_36  : exG TB d 163 36 L (.ref p :: st) A = kv (gf A p 135) d 163 39 L st A := x_bd (op := o_get 135) rfl rfl (fun _ => rfl)
theorem x_163_39  : exG TB d 163 39 L (.int i1 :: st) A = exG TB d 163 40 L (.long i1.toInt64 :: st) A := x_nx (op := o_i2l) rfl rfl
theorem x_163_40  : exG TB d 163 40 L (.long l2 :: .long l1 :: st) A = exG TB d 163 41 L (.long (l1 + l2) :: st) A := x_nx (op := o_lop (fun x y => x + y)) rfl rfl
theorem x_163_41  : exG TB d 163 41 (a0 :: a1 :: a2 :: r9) (.long l1 :: st) A = exG TB d 163 42 (a0 :: some (.long l1) :: none :: r9) st A := x_nx (op := o_lstore 1 1) rfl rfl
theorem x_163_42  : exG TB d 163 42 L st A = exG TB d 163 13 L st A := x_nx (op := o_goto 13) rfl rfl
theorem x_163_45  : exG TB d 163 45 (some v :: r9) st A = rg v (exG TB d 163 46 (some v :: r9) (v :: st) A) := x_rg (op := o_aload 0 1) rfl rfl
theorem x_163_46  : exG TB d 163 46 L (.ref p :: st) A = kv (gf A p 0) d 163 49 L st A := x_bd (op := o_get 0) rfl rfl (fun _ => rfl)
theorem x_163_49  : exG TB d 163 49 L (.ref p :: st) A = kv (gf A p 12) d 163 52 L st A := x_bd (op := o_get 12) rfl rfl (fun _ => rfl)
theorem x_163_52  : exG TB d 163 52 L [.ref p] A = kw (sel (gc A p) [(3, 41)]) [.ref p] d 163 55 L [] A := x_cvb (op := o_cv [(3, 41)] 0 3 false none) rfl rfl x_noh rfl
theorem x_163_55  : exG TB d 163 55 L (.int i1 :: st) A = if i1 = nI 0 then exG TB d 163 64 L st A else exG TB d 163 58 L st A := x_if (op := o_if (fun x => decide (x = 0)) 64) rfl rfl rfl
theorem x_163_58  : exG TB d 163 58 L st A = exG TB d 163 61 L (.double 13830554455654793216 :: st) A := x_nx (op := o_push 3 (.double 13830554455654793216)) rfl rfl
theorem x_163_61  : exG TB d 163 61 L st A = exG TB d 163 78 L st A := x_nx (op := o_goto 78) rfl rfl
theorem x_163_64  : exG TB d 163 64 (a0 :: some (.long l1) :: none :: r9) st A = exG TB d 163 65 (a0 :: some (.long l1) :: none :: r9) (.long l1 :: st) A := x_nx (op := o_lload 1 1) rfl rfl
theorem x_163_65  : exG TB d 163 65 L (.long l1 :: st) A = exG TB d 163 66 L (.double (FP.l2d l1) :: st) A := x_nx (op := o_l2d) rfl rfl
theorem x_163_66  : exG TB d 163 66 (some v :: r9) st A = rg v (exG TB d 163 67 (some v :: r9) (v :: st) A) := x_rg (op := o_aload 0 1) rfl rfl
theorem x_163_67  : exG TB d 163 67 L (.ref p :: st) A = kv (gf A p 0) d 163 70 L st A := x_bd (op := o_get 0) rfl rfl (fun _ => rfl)
theorem x_163_70  : exG TB d 163 70 L (.ref p :: st) A = kv (gf A p 12) d 163 73 L st A := x_bd (op := o_get 12) rfl rfl (fun _ => rfl)
theorem x_163_73  : exG TB d 163 73 L [.ref p, w0] A = kw (sel (gc A p) [(3, 42)]) [.ref p] d 163 76 L [w0] A := x_cvb (op := o_cv [(3, 42)] 0 3 false none) rfl rfl x_noh rfl
theorem x_163_76  : exG TB d 163 76 L (.int i1 :: st) A = exG TB d 163 77 L (.double (FP.i2d i1) :: st) A := x_nx (op := o_i2d) rfl rfl
theorem x_163_77  : exG TB d 163 77 L (.double d2 :: .double d1 :: st) A = ck (b_n64 (FP.ddiv d1 d2)) (exG TB d 163 78 L (.double (FP.ddiv d1 d2) :: st) A) := x_gd (op := o_ddiv) rfl rfl
theorem x_163_78  : exG TB d 163 78 L [v] A = ck (okv 4 v) (some (.inl (some v), A)) := x_outg (op := o_ret 4) rfl rfl
theorem e_164  : evG TB (d + 1) 164 [.ref p] A = exG TB d 164 0 [some (.ref p), none, none] [] A := evG_eq TB d 164 _ A
theorem x_164_0  : exG TB d 164 0 L st A = exG TB d 164 3 L (.ref (nx A) :: st) (newo A 9 9 dv9) := x_nx (op := o_new 9 9 dv9) rfl rfl
theorem x_164_3  : exG TB d 164 3 L (v :: st) A = ck (c1 v) (exG TB d 164 4 L (v :: v :: st) A) := x_gd (op := o_dup) rfl rfl
theorem x_164_4  : exG TB d 164 4 (some v :: r9) st A = rg v (exG TB d 164 5 (some v :: r9) (v :: st) A) := x_rg (op := o_aload 0 1) rfl rfl
theorem x_164_5  : exG TB d 164 5 (some v :: r9) st A = rg v (exG TB d 164 6 (some v :: r9) (v :: st) A) := x_rg (op := o_aload 0 1) rfl rfl
theorem x_164_6  : exG TB d 164 6 L (.ref p :: st) A = kv (gf A p 3) d 164 9 L st A := x_bd (op := o_get 3) rfl rfl (fun _ => rfl)
theorem x_164_9  : exG TB d 164 9 L [b1, b0, .ref p, w0] A = kc0 (evG TB d 407 [.ref p, b0, b1] A) d 164 12 L [w0] := x_c0 (op := o_ci 407 2) rfl rfl x_noh rfl
theorem x_164_12  : exG TB d 164 12 (a0 :: a1 :: r9) (v :: st) A = rg v (exG TB d 164 13 (a0 :: some v :: r9) st A) := x_rgt (op := o_astore 1 1) rfl rfl
theorem x_164_13  : exG TB d 164 13 (some v :: r9) st A = rg v (exG TB d 164 14 (some v :: r9) (v :: st) A) := x_rg (op := o_aload 0 1) rfl rfl
theorem x_164_14  : exG TB d 164 14 L st A = exG TB d 164 15 L (.int (nI 0) :: st) A := x_nx (op := o_push 1 (.int 0)) rfl rfl
theorem x_164_15  : exG TB d 164 15 L (v :: .ref p :: st) A = ck ((gf A p 3).isSome && okv 1 v) (exG TB d 164 18 L st (setf A p 3 v)) := x_gd (op := o_put 3 1) rfl rfl
theorem x_164_18  : exG TB d 164 18 (some v :: r9) st A = rg v (exG TB d 164 19 (some v :: r9) (v :: st) A) := x_rg (op := o_aload 0 1) rfl rfl
theorem x_164_19  : exG TB d 164 19 L st A = exG TB d 164 20 L (.int (nI 0) :: st) A := x_nx (op := o_push 1 (.int 0)) rfl rfl
theorem x_164_20  : exG TB d 164 20 L (v :: .ref p :: st) A = ck ((gf A p 4).isSome && okv 1 v) (exG TB d 164 23 L st (setf A p 4 v)) := x_gd (op := o_put 4 1) rfl rfl
theorem x_164_23  : exG TB d 164 23 (some v :: r9) st A = rg v (exG TB d 164 24 (some v :: r9) (v :: st) A) := x_rg (op := o_aload 0 1) rfl rfl
theorem x_164_24  : exG TB d 164 24 L st A = exG TB d 164 25 L (.int nN :: st) A := x_nx (op := o_push 1 (.int (-1))) rfl rfl
theorem x_164_25  : exG TB d 164 25 L (v :: .ref p :: st) A = ck ((gf A p 5).isSome && okv 1 v) (exG TB d 164 28 L st (setf A p 5 v)) := x_gd (op := o_put 5 1) rfl rfl
theorem x_164_28  : exG TB d 164 28 (a0 :: some v :: r9) st A = rg v (exG TB d 164 29 (a0 :: some v :: r9) (v :: st) A) := x_rg (op := o_aload 1 1) rfl rfl
theorem x_164_29  : exG TB d 164 29 L [.ref p] A = kwh [(10, 43)] (sel (gc A p) [(9, 410)]) [.ref p] d 164 32 L [] A := x_cvb (op := o_cv [(9, 410)] 0 3 false (some [(10, 43)])) rfl rfl x_hd rfl
theorem x_164_32  : exG TB d 164 32 (a0 :: a1 :: a2 :: r9) (.int i1 :: st) A = exG TB d 164 33 (a0 :: a1 :: some (.int i1) :: r9) st A := x_nx (op := o_istore 2 1) rfl rfl
theorem x_164_33  : exG TB d 164 33 (some v :: r9) st A = rg v (exG TB d 164 34 (some v :: r9) (v :: st) A) := x_rg (op := o_aload 0 1) rfl rfl
theorem x_164_34  : exG TB d 164 34 (a0 :: some v :: r9) st A = rg v (exG TB d 164 35 (a0 :: some v :: r9) (v :: st) A) := x_rg (op := o_aload 1 1) rfl rfl
theorem x_164_35  : exG TB d 164 35 L (.ref p :: st) A = kv (gf A p 44) d 164 38 L st A := x_bd (op := o_get 44) rfl rfl (fun _ => rfl)
theorem x_164_38  : exG TB d 164 38 L (v :: .ref p :: st) A = ck ((gf A p 0).isSome && okv 0 v) (exG TB d 164 41 L st (setf A p 0 v)) := x_gd (op := o_put 0 0) rfl rfl
theorem x_164_41  : exG TB d 164 41 (a0 :: a1 :: some (.int i1) :: r9) st A = exG TB d 164 42 (a0 :: a1 :: some (.int i1) :: r9) (.int i1 :: st) A := x_nx (op := o_iload 2 1) rfl rfl
theorem x_164_42  : exG TB d 164 42 L [v] A = ck (okv 1 v) (some (.inl (some v), A)) := x_outg (op := o_ret 1) rfl rfl
theorem x_164_43  : exG TB d 164 43 (a0 :: a1 :: a2 :: r9) (v :: st) A = rg v (exG TB d 164 44 (a0 :: a1 :: some v :: r9) st A) := x_rgt (op := o_astore 2 1) rfl rfl
theorem x_164_44  : exG TB d 164 44 (some v :: r9) st A = rg v (exG TB d 164 45 (some v :: r9) (v :: st) A) := x_rg (op := o_aload 0 1) rfl rfl
theorem x_164_45  : exG TB d 164 45 (a0 :: a1 :: some v :: r9) st A = rg v (exG TB d 164 46 (a0 :: a1 :: some v :: r9) (v :: st) A) := x_rg (op := o_aload 2 1) rfl rfl
theorem x_164_46  : exG TB d 164 46 L (.ref p :: st) A = kv (gf A p 58) d 164 49 L st A := x_bd (op := o_get 58) rfl rfl (fun _ => rfl)
theorem x_164_49  : exG TB d 164 49 L (v :: .ref p :: st) A = ck ((gf A p 4).isSome && okv 1 v) (exG TB d 164 52 L st (setf A p 4 v)) := x_gd (op := o_put 4 1) rfl rfl
theorem x_164_52  : exG TB d 164 52 (some v :: r9) st A = rg v (exG TB d 164 53 (some v :: r9) (v :: st) A) := x_rg (op := o_aload 0 1) rfl rfl
theorem x_164_53  : exG TB d 164 53 (a0 :: a1 :: some v :: r9) st A = rg v (exG TB d 164 54 (a0 :: a1 :: some v :: r9) (v :: st) A) := x_rg (op := o_aload 2 1) rfl rfl
theorem x_164_54  : exG TB d 164 54 L (.ref p :: st) A = kv (gf A p 59) d 164 57 L st A := x_bd (op := o_get 59) rfl rfl (fun _ => rfl)
theorem x_164_57  : exG TB d 164 57 L (v :: .ref p :: st) A = ck ((gf A p 5).isSome && okv 1 v) (exG TB d 164 60 L st (setf A p 5 v)) := x_gd (op := o_put 5 1) rfl rfl
theorem x_164_60  : exG TB d 164 60 L st A = exG TB d 164 61 L (.int nN :: st) A := x_nx (op := o_push 1 (.int (-1))) rfl rfl
theorem x_164_61  : exG TB d 164 61 L [v] A = ck (okv 1 v) (some (.inl (some v), A)) := x_outg (op := o_ret 1) rfl rfl
theorem e_165 {j0 : Int64} {j1 : Int64} {j2 : Int64} : evG TB (d + 1) 165 [.long j0, .long j1, .long j2] A = exG TB d 165 0 [some (.long j0), none, some (.long j1), none, some (.long j2), none] [] A := evG_eq TB d 165 _ A
theorem x_165_0  : exG TB d 165 0 (some (.long l1) :: none :: r9) st A = exG TB d 165 1 (some (.long l1) :: none :: r9) (.long l1 :: st) A := x_nx (op := o_lload 0 1) rfl rfl
theorem x_165_1  : exG TB d 165 1 (a0 :: a1 :: some (.long l1) :: none :: r9) st A = exG TB d 165 2 (a0 :: a1 :: some (.long l1) :: none :: r9) (.long l1 :: st) A := x_nx (op := o_lload 2 1) rfl rfl
theorem x_165_2  : exG TB d 165 2 L (.long l2 :: .long l1 :: st) A = exG TB d 165 3 L (.int (lg_cmp l1 l2) :: st) A := x_nx (op := o_lcmp) rfl rfl
theorem x_165_3  : exG TB d 165 3 L (.int i1 :: st) A = if i1 < nI 0 then exG TB d 165 17 L st A else exG TB d 165 6 L st A := x_if (op := o_if (fun x => decide (x < 0)) 17) rfl rfl rfl
theorem x_165_6  : exG TB d 165 6 (some (.long l1) :: none :: r9) st A = exG TB d 165 7 (some (.long l1) :: none :: r9) (.long l1 :: st) A := x_nx (op := o_lload 0 1) rfl rfl
theorem x_165_7  : exG TB d 165 7 (a0 :: a1 :: a2 :: a3 :: some (.long l1) :: none :: r9) st A = exG TB d 165 9 (a0 :: a1 :: a2 :: a3 :: some (.long l1) :: none :: r9) (.long l1 :: st) A := x_nx (op := o_lload 4 2) rfl rfl
theorem x_165_9  : exG TB d 165 9 L (.long l2 :: .long l1 :: st) A = exG TB d 165 10 L (.int (lg_cmp l1 l2) :: st) A := x_nx (op := o_lcmp) rfl rfl
theorem x_165_10  : exG TB d 165 10 L (.int i1 :: st) A = if nI 0 < i1 then exG TB d 165 17 L st A else exG TB d 165 13 L st A := x_if (op := o_if (fun x => decide (0 < x)) 17) rfl rfl rfl
theorem x_165_13  : exG TB d 165 13 L st A = exG TB d 165 14 L (.int (nI 1) :: st) A := x_nx (op := o_push 1 (.int 1)) rfl rfl
theorem x_165_14  : exG TB d 165 14 L st A = exG TB d 165 18 L st A := x_nx (op := o_goto 18) rfl rfl
theorem x_165_17  : exG TB d 165 17 L st A = exG TB d 165 18 L (.int (nI 0) :: st) A := x_nx (op := o_push 1 (.int 0)) rfl rfl
theorem x_165_18  : exG TB d 165 18 L [v] A = ck (okv 5 v) (some (.inl (some v), A)) := x_outg (op := o_ret 5) rfl rfl
theorem e_166  : evG TB (d + 1) 166 [b0] A = rg b0 (exG TB d 166 0 [some (b0), none, none] [] A) := by
  rw [evG_eq]
  show (bif (isR b0 && true) then exG TB d 166 0 [some (b0), none, none] [] A else none) = _
  unfold rg
  cases isR b0 <;> rfl
theorem x_166_0  : exG TB d 166 0 (some v :: r9) st A = rg v (exG TB d 166 1 (some v :: r9) (v :: st) A) := x_rg (op := o_aload 0 1) rfl rfl
theorem x_166_1  : exG TB d 166 1 L [.ref p] A = kw (sel (gc A p) [(4, 112)]) [.ref p] d 166 6 L [] A := x_cvb (op := o_cv [(4, 112)] 0 5 false none) rfl rfl x_noh rfl
theorem x_166_6  : exG TB d 166 6 (a0 :: a1 :: r9) (v :: st) A = rg v (exG TB d 166 7 (a0 :: some v :: r9) st A) := x_rgt (op := o_astore 1 1) rfl rfl
theorem x_166_7  : exG TB d 166 7 L st A = exG TB d 166 8 L (.int nN :: st) A := x_nx (op := o_push 1 (.int (-1))) rfl rfl
theorem x_166_8  : exG TB d 166 8 (a0 :: a1 :: a2 :: r9) (.int i1 :: st) A = exG TB d 166 9 (a0 :: a1 :: some (.int i1) :: r9) st A := x_nx (op := o_istore 2 1) rfl rfl
theorem x_166_9  : exG TB d 166 9 (a0 :: some v :: r9) st A = rg v (exG TB d 166 10 (a0 :: some v :: r9) (v :: st) A) := x_rg (op := o_aload 1 1) rfl rfl
theorem x_166_10  : exG TB d 166 10 L [.ref p] A = kw (sel (gcs A p) [(5, 119)]) [.ref p] d 166 13 L [] A := x_cvb (op := o_cvs [(5, 119)] 0 3 false) rfl rfl x_noh rfl
theorem x_166_13  : exG TB d 166 13 L (.int i1 :: st) A = exG TB d 166 (lsw [((-1253191065), 64), ((-1177318867), 94), (113762, 124), (3505952, 79), (342069036, 109)] 136 i1) L st A := x_nx (op := o_sw (lsw [((-1253191065), 64), ((-1177318867), 94), (113762, 124), (3505952, 79), (342069036, 109)] 136)) rfl rfl
theorem x_166_64  : exG TB d 166 64 (a0 :: some v :: r9) st A = rg v (exG TB d 166 65 (a0 :: some v :: r9) (v :: st) A) := x_rg (op := o_aload 1 1) rfl rfl
theorem x_166_65  : exG TB d 166 65 L st A = exG TB d 166 68 L (.ref (sAd (sg A) 2) :: st) A := x_nx (op := o_pushA 3 2) rfl rfl
theorem x_166_68  : exG TB d 166 68 L [b0, .ref p] A = kw (sel (gcs A p) [(5, 121)]) [.ref p, b0] d 166 71 L [] A := x_cvb (op := o_cvs [(5, 121)] 1 3 false) rfl rfl x_noh rfl
theorem x_166_71  : exG TB d 166 71 L (.int i1 :: st) A = if i1 = nI 0 then exG TB d 166 136 L st A else exG TB d 166 74 L st A := x_if (op := o_if (fun x => decide (x = 0)) 136) rfl rfl rfl
theorem x_166_74  : exG TB d 166 74 L st A = exG TB d 166 75 L (.int (nI 0) :: st) A := x_nx (op := o_push 1 (.int 0)) rfl rfl
theorem x_166_75  : exG TB d 166 75 (a0 :: a1 :: a2 :: r9) (.int i1 :: st) A = exG TB d 166 76 (a0 :: a1 :: some (.int i1) :: r9) st A := x_nx (op := o_istore 2 1) rfl rfl
theorem x_166_76  : exG TB d 166 76 L st A = exG TB d 166 136 L st A := x_nx (op := o_goto 136) rfl rfl
theorem x_166_79  : exG TB d 166 79 (a0 :: some v :: r9) st A = rg v (exG TB d 166 80 (a0 :: some v :: r9) (v :: st) A) := x_rg (op := o_aload 1 1) rfl rfl
theorem x_166_80  : exG TB d 166 80 L st A = exG TB d 166 83 L (.ref (sAd (sg A) 3) :: st) A := x_nx (op := o_pushA 3 3) rfl rfl
theorem x_166_83  : exG TB d 166 83 L [b0, .ref p] A = kw (sel (gcs A p) [(5, 121)]) [.ref p, b0] d 166 86 L [] A := x_cvb (op := o_cvs [(5, 121)] 1 3 false) rfl rfl x_noh rfl
theorem x_166_86  : exG TB d 166 86 L (.int i1 :: st) A = if i1 = nI 0 then exG TB d 166 136 L st A else exG TB d 166 89 L st A := x_if (op := o_if (fun x => decide (x = 0)) 136) rfl rfl rfl
theorem x_166_89  : exG TB d 166 89 L st A = exG TB d 166 90 L (.int (nI 1) :: st) A := x_nx (op := o_push 1 (.int 1)) rfl rfl
theorem x_166_90  : exG TB d 166 90 (a0 :: a1 :: a2 :: r9) (.int i1 :: st) A = exG TB d 166 91 (a0 :: a1 :: some (.int i1) :: r9) st A := x_nx (op := o_istore 2 1) rfl rfl
theorem x_166_91  : exG TB d 166 91 L st A = exG TB d 166 136 L st A := x_nx (op := o_goto 136) rfl rfl
theorem x_166_94  : exG TB d 166 94 (a0 :: some v :: r9) st A = rg v (exG TB d 166 95 (a0 :: some v :: r9) (v :: st) A) := x_rg (op := o_aload 1 1) rfl rfl
theorem x_166_95  : exG TB d 166 95 L st A = exG TB d 166 98 L (.ref (sAd (sg A) 4) :: st) A := x_nx (op := o_pushA 3 4) rfl rfl
theorem x_166_98  : exG TB d 166 98 L [b0, .ref p] A = kw (sel (gcs A p) [(5, 121)]) [.ref p, b0] d 166 101 L [] A := x_cvb (op := o_cvs [(5, 121)] 1 3 false) rfl rfl x_noh rfl
theorem x_166_101  : exG TB d 166 101 L (.int i1 :: st) A = if i1 = nI 0 then exG TB d 166 136 L st A else exG TB d 166 104 L st A := x_if (op := o_if (fun x => decide (x = 0)) 136) rfl rfl rfl
theorem x_166_104  : exG TB d 166 104 L st A = exG TB d 166 105 L (.int (nI 2) :: st) A := x_nx (op := o_push 1 (.int 2)) rfl rfl
theorem x_166_105  : exG TB d 166 105 (a0 :: a1 :: a2 :: r9) (.int i1 :: st) A = exG TB d 166 106 (a0 :: a1 :: some (.int i1) :: r9) st A := x_nx (op := o_istore 2 1) rfl rfl
theorem x_166_106  : exG TB d 166 106 L st A = exG TB d 166 136 L st A := x_nx (op := o_goto 136) rfl rfl
theorem x_166_109  : exG TB d 166 109 (a0 :: some v :: r9) st A = rg v (exG TB d 166 110 (a0 :: some v :: r9) (v :: st) A) := x_rg (op := o_aload 1 1) rfl rfl
theorem x_166_110  : exG TB d 166 110 L st A = exG TB d 166 113 L (.ref (sAd (sg A) 5) :: st) A := x_nx (op := o_pushA 3 5) rfl rfl
theorem x_166_113  : exG TB d 166 113 L [b0, .ref p] A = kw (sel (gcs A p) [(5, 121)]) [.ref p, b0] d 166 116 L [] A := x_cvb (op := o_cvs [(5, 121)] 1 3 false) rfl rfl x_noh rfl
theorem x_166_116  : exG TB d 166 116 L (.int i1 :: st) A = if i1 = nI 0 then exG TB d 166 136 L st A else exG TB d 166 119 L st A := x_if (op := o_if (fun x => decide (x = 0)) 136) rfl rfl rfl
theorem x_166_119  : exG TB d 166 119 L st A = exG TB d 166 120 L (.int (nI 3) :: st) A := x_nx (op := o_push 1 (.int 3)) rfl rfl
theorem x_166_120  : exG TB d 166 120 (a0 :: a1 :: a2 :: r9) (.int i1 :: st) A = exG TB d 166 121 (a0 :: a1 :: some (.int i1) :: r9) st A := x_nx (op := o_istore 2 1) rfl rfl
theorem x_166_121  : exG TB d 166 121 L st A = exG TB d 166 136 L st A := x_nx (op := o_goto 136) rfl rfl
theorem x_166_124  : exG TB d 166 124 (a0 :: some v :: r9) st A = rg v (exG TB d 166 125 (a0 :: some v :: r9) (v :: st) A) := x_rg (op := o_aload 1 1) rfl rfl
theorem x_166_125  : exG TB d 166 125 L st A = exG TB d 166 128 L (.ref (sAd (sg A) 6) :: st) A := x_nx (op := o_pushA 3 6) rfl rfl
theorem x_166_128  : exG TB d 166 128 L [b0, .ref p] A = kw (sel (gcs A p) [(5, 121)]) [.ref p, b0] d 166 131 L [] A := x_cvb (op := o_cvs [(5, 121)] 1 3 false) rfl rfl x_noh rfl
theorem x_166_131  : exG TB d 166 131 L (.int i1 :: st) A = if i1 = nI 0 then exG TB d 166 136 L st A else exG TB d 166 134 L st A := x_if (op := o_if (fun x => decide (x = 0)) 136) rfl rfl rfl
theorem x_166_134  : exG TB d 166 134 L st A = exG TB d 166 135 L (.int (nI 4) :: st) A := x_nx (op := o_push 1 (.int 4)) rfl rfl
theorem x_166_135  : exG TB d 166 135 (a0 :: a1 :: a2 :: r9) (.int i1 :: st) A = exG TB d 166 136 (a0 :: a1 :: some (.int i1) :: r9) st A := x_nx (op := o_istore 2 1) rfl rfl
theorem x_166_136  : exG TB d 166 136 (a0 :: a1 :: some (.int i1) :: r9) st A = exG TB d 166 137 (a0 :: a1 :: some (.int i1) :: r9) (.int i1 :: st) A := x_nx (op := o_iload 2 1) rfl rfl
theorem x_166_137  : exG TB d 166 137 L (.int i1 :: st) A = exG TB d 166 (swt 0 [172, 176, 180, 184, 188] 192 i1) L st A := x_nx (op := o_sw (swt 0 [172, 176, 180, 184, 188] 192)) rfl rfl
theorem x_166_172  : exG TB d 166 172 L st A = exG TB d 166 173 L (.int (nI 0) :: st) A := x_nx (op := o_push 1 (.int 0)) rfl rfl
theorem x_166_173  : exG TB d 166 173 L st A = exG TB d 166 193 L st A := x_nx (op := o_goto 193) rfl rfl
theorem x_166_176  : exG TB d 166 176 L st A = exG TB d 166 177 L (.int (nI 1) :: st) A := x_nx (op := o_push 1 (.int 1)) rfl rfl
theorem x_166_177  : exG TB d 166 177 L st A = exG TB d 166 193 L st A := x_nx (op := o_goto 193) rfl rfl
theorem x_166_180  : exG TB d 166 180 L st A = exG TB d 166 181 L (.int (nI 2) :: st) A := x_nx (op := o_push 1 (.int 2)) rfl rfl
theorem x_166_181  : exG TB d 166 181 L st A = exG TB d 166 193 L st A := x_nx (op := o_goto 193) rfl rfl
theorem x_166_184  : exG TB d 166 184 L st A = exG TB d 166 185 L (.int (nI 3) :: st) A := x_nx (op := o_push 1 (.int 3)) rfl rfl
theorem x_166_185  : exG TB d 166 185 L st A = exG TB d 166 193 L st A := x_nx (op := o_goto 193) rfl rfl
theorem x_166_188  : exG TB d 166 188 L st A = exG TB d 166 189 L (.int (nI 4) :: st) A := x_nx (op := o_push 1 (.int 4)) rfl rfl
theorem x_166_189  : exG TB d 166 189 L st A = exG TB d 166 193 L st A := x_nx (op := o_goto 193) rfl rfl
theorem x_166_192  : exG TB d 166 192 L st A = exG TB d 166 193 L (.int nN :: st) A := x_nx (op := o_push 1 (.int (-1))) rfl rfl
theorem x_166_193  : exG TB d 166 193 L [v] A = ck (okv 1 v) (some (.inl (some v), A)) := x_outg (op := o_ret 1) rfl rfl
theorem e_167  : evG TB (d + 1) 167 [.ref p] A = exG TB d 167 0 [some (.ref p)] [] A := evG_eq TB d 167 _ A
theorem x_167_0  : exG TB d 167 0 (some v :: r9) st A = rg v (exG TB d 167 1 (some v :: r9) (v :: st) A) := x_rg (op := o_aload 0 1) rfl rfl
theorem x_167_1  : exG TB d 167 1 L (.ref p :: st) A = kv (gf A p 4) d 167 4 L st A := x_bd (op := o_get 4) rfl rfl (fun _ => rfl)
theorem x_167_4  : exG TB d 167 4 L [v] A = ck (okv 1 v) (some (.inl (some v), A)) := x_outg (op := o_ret 1) rfl rfl
theorem e_168  : evG TB (d + 1) 168 [.ref p] A = exG TB d 168 0 [some (.ref p)] [] A := evG_eq TB d 168 _ A
theorem x_168_0  : exG TB d 168 0 (some v :: r9) st A = rg v (exG TB d 168 1 (some v :: r9) (v :: st) A) := x_rg (op := o_aload 0 1) rfl rfl
theorem x_168_1  : exG TB d 168 1 L (.ref p :: st) A = kv (gf A p 5) d 168 4 L st A := x_bd (op := o_get 5) rfl rfl (fun _ => rfl)
theorem x_168_4  : exG TB d 168 4 L [v] A = ck (okv 1 v) (some (.inl (some v), A)) := x_outg (op := o_ret 1) rfl rfl
theorem e_169 {j1 : Int32} : evG TB (d + 1) 169 [.ref p, .int j1] A = exG TB d 169 0 [some (.ref p), some (.int j1), none] [] A := evG_eq TB d 169 _ A
theorem x_169_0  : exG TB d 169 0 (some v :: r9) st A = rg v (exG TB d 169 1 (some v :: r9) (v :: st) A) := x_rg (op := o_aload 0 1) rfl rfl
theorem x_169_1  : exG TB d 169 1 L (.ref p :: st) A = kv (gf A p 3) d 169 4 L st A := x_bd (op := o_get 3) rfl rfl (fun _ => rfl)
theorem x_169_4  : exG TB d 169 4 L st A = exG TB d 169 5 L (.int (nI 4) :: st) A := x_nx (op := o_push 1 (.int 4)) rfl rfl
theorem x_169_5  : exG TB d 169 5 L (.int i2 :: .int i1 :: st) A = exG TB d 169 6 L (.int (i1 + i2) :: st) A := x_nx (op := o_iop (fun x y => x + y)) rfl rfl
theorem x_169_6  : exG TB d 169 6 L st A = exG TB d 169 9 L (.int (nI 700) :: st) A := x_nx (op := o_push 3 (.int 700)) rfl rfl
theorem x_169_9  : exG TB d 169 9 L (.int i2 :: .int i1 :: st) A = if i2 < i1 then exG TB d 169 16 L st A else exG TB d 169 12 L st A := x_if (op := o_icmp (fun x y => decide (y < x)) 16) rfl rfl rfl
theorem x_169_12  : exG TB d 169 12 L st A = exG TB d 169 13 L (.int (nI 1) :: st) A := x_nx (op := o_push 1 (.int 1)) rfl rfl
theorem x_169_13  : exG TB d 169 13 L st A = exG TB d 169 17 L st A := x_nx (op := o_goto 17) rfl rfl
theorem x_169_16  : exG TB d 169 16 L st A = exG TB d 169 17 L (.int (nI 0) :: st) A := x_nx (op := o_push 1 (.int 0)) rfl rfl
theorem x_169_17  : exG TB d 169 17 L [b0] A = kc0 (evG TB d 170 [b0] A) d 169 20 L [] := x_c0 (op := o_cs 170 1 true none) rfl rfl x_noh rfl
theorem x_169_20  : exG TB d 169 20 L st A = exG TB d 169 22 L (.int (nI 24) :: st) A := x_nx (op := o_push 2 (.int 24)) rfl rfl
theorem x_169_22  : exG TB d 169 22 (a0 :: a1 :: a2 :: r9) (.int i1 :: st) A = exG TB d 169 23 (a0 :: a1 :: some (.int i1) :: r9) st A := x_nx (op := o_istore 2 1) rfl rfl
theorem x_169_23  : exG TB d 169 23 (a0 :: a1 :: some (.int i1) :: r9) st A = exG TB d 169 24 (a0 :: a1 :: some (.int i1) :: r9) (.int i1 :: st) A := x_nx (op := o_iload 2 1) rfl rfl
theorem x_169_24  : exG TB d 169 24 L (.int i1 :: st) A = if i1 < nI 0 then exG TB d 169 56 L st A else exG TB d 169 27 L st A := x_if (op := o_if (fun x => decide (x < 0)) 56) rfl rfl rfl
theorem x_169_27  : exG TB d 169 27 (some v :: r9) st A = rg v (exG TB d 169 28 (some v :: r9) (v :: st) A) := x_rg (op := o_aload 0 1) rfl rfl
theorem x_169_28  : exG TB d 169 28 L (.ref p :: st) A = kv (gf A p 2) d 169 31 L st A := x_bd (op := o_get 2) rfl rfl (fun _ => rfl)
theorem x_169_31  : exG TB d 169 31 (some v :: r9) st A = rg v (exG TB d 169 32 (some v :: r9) (v :: st) A) := x_rg (op := o_aload 0 1) rfl rfl
theorem x_169_32  : exG TB d 169 32 L (.ref p :: st) A = kv (gf A p 3) d 169 35 L st A := x_bd (op := o_get 3) rfl rfl (fun _ => rfl)
theorem x_169_35  : exG TB d 169 35 (a0 :: some (.int i1) :: r9) st A = exG TB d 169 36 (a0 :: some (.int i1) :: r9) (.int i1 :: st) A := x_nx (op := o_iload 1 1) rfl rfl
theorem x_169_36  : exG TB d 169 36 (a0 :: a1 :: some (.int i1) :: r9) st A = exG TB d 169 37 (a0 :: a1 :: some (.int i1) :: r9) (.int i1 :: st) A := x_nx (op := o_iload 2 1) rfl rfl
theorem x_169_37  : exG TB d 169 37 L (.int i2 :: .int i1 :: st) A = exG TB d 169 38 L (.int (i1 >>> (i2 &&& 31)) :: st) A := x_nx (op := o_iop (fun x y => x >>> (y &&& 31))) rfl rfl
theorem x_169_38  : exG TB d 169 38 L (.int i1 :: st) A = exG TB d 169 39 L (.int (i1.toInt8.toInt32) :: st) A := x_nx (op := o_ii (fun x => x.toInt8.toInt32)) rfl rfl
theorem x_169_39  : exG TB d 169 39 L (.int i2 :: .int i1 :: .ref p :: st) A = ka (wrI 1 (ga A p) i1 i2) p d 169 40 L st A := x_bd (op := o_wrI 1) rfl rfl (fun _ => rfl)
theorem x_169_40  : exG TB d 169 40 (some v :: r9) st A = rg v (exG TB d 169 41 (some v :: r9) (v :: st) A) := x_rg (op := o_aload 0 1) rfl rfl
theorem x_169_41  : exG TB d 169 41 L (v :: st) A = ck (c1 v) (exG TB d 169 42 L (v :: v :: st) A) := x_gd (op := o_dup) rfl rfl
theorem x_169_42  : exG TB d 169 42 L (.ref p :: st) A = kv (gf A p 3) d 169 45 L st A := x_bd (op := o_get 3) rfl rfl (fun _ => rfl)
theorem x_169_45  : exG TB d 169 45 L st A = exG TB d 169 46 L (.int (nI 1) :: st) A := x_nx (op := o_push 1 (.int 1)) rfl rfl
theorem x_169_46  : exG TB d 169 46 L (.int i2 :: .int i1 :: st) A = exG TB d 169 47 L (.int (i1 + i2) :: st) A := x_nx (op := o_iop (fun x y => x + y)) rfl rfl
theorem x_169_47  : exG TB d 169 47 L (v :: .ref p :: st) A = ck ((gf A p 3).isSome && okv 1 v) (exG TB d 169 50 L st (setf A p 3 v)) := x_gd (op := o_put 3 1) rfl rfl
theorem x_169_50  : exG TB d 169 50 (a0 :: a1 :: some (.int i1) :: r9) st A = exG TB d 169 53 (a0 :: a1 :: some (.int (i1 + (-8))) :: r9) st A := x_nx (op := o_iinc 2 (-8)) rfl rfl
theorem x_169_53  : exG TB d 169 53 L st A = exG TB d 169 23 L st A := x_nx (op := o_goto 23) rfl rfl
theorem x_169_56  : exG TB d 169 56 (some v :: r9) st A = rg v (exG TB d 169 57 (some v :: r9) (v :: st) A) := x_rg (op := o_aload 0 1) rfl rfl
theorem x_169_57  : exG TB d 169 57 L (.ref p :: st) A = kv (gf A p 3) d 169 60 L st A := x_bd (op := o_get 3) rfl rfl (fun _ => rfl)
theorem x_169_60  : exG TB d 169 60 L [v] A = ck (okv 1 v) (some (.inl (some v), A)) := x_outg (op := o_ret 1) rfl rfl
theorem e_170 {j0 : Int32} : evG TB (d + 1) 170 [.int j0] A = exG TB d 170 0 [some (.int j0)] [] A := evG_eq TB d 170 _ A
theorem x_170_0  : exG TB d 170 0 (some (.int i1) :: r9) st A = exG TB d 170 1 (some (.int i1) :: r9) (.int i1 :: st) A := x_nx (op := o_iload 0 1) rfl rfl
theorem x_170_1  : exG TB d 170 1 L (.int i1 :: st) A = if ¬ i1 = nI 0 then exG TB d 170 12 L st A else exG TB d 170 4 L st A := x_if (op := o_if (fun x => decide (¬ x = 0)) 12) rfl rfl rfl
theorem x_170_4  : exG TB d 170 4 L [] A = some (.inr (33, nx A), newo A 33 6 (fun _ => none)) := x_out (op := o_thr0 33) rfl rfl
theorem x_170_7  : exG TB d 170 7 L (v :: st) A = ck (c1 v) (exG TB d 170 8 L (v :: v :: st) A) := x_gd (op := o_dup) rfl rfl
theorem x_170_12  : exG TB d 170 12 L [] A = some (.inl none, A) := x_out (op := o_vret) rfl rfl
theorem e_171 {j1 : Int32} : evG TB (d + 1) 171 [.ref p, .int j1] A = exG TB d 171 0 [some (.ref p), some (.int j1)] [] A := evG_eq TB d 171 _ A
theorem x_171_0  : exG TB d 171 0 (a0 :: some (.int i1) :: r9) st A = exG TB d 171 1 (a0 :: some (.int i1) :: r9) (.int i1 :: st) A := x_nx (op := o_iload 1 1) rfl rfl
theorem x_171_1  : exG TB d 171 1 L (.int i1 :: st) A = exG TB d 171 2 L (.long i1.toInt64 :: st) A := x_nx (op := o_i2l) rfl rfl
theorem x_171_2  : exG TB d 171 2 L st A = exG TB d 171 3 L (.long 0 :: st) A := x_nx (op := o_push 1 (.long 0)) rfl rfl
theorem x_171_3  : exG TB d 171 3 (some v :: r9) st A = rg v (exG TB d 171 4 (some v :: r9) (v :: st) A) := x_rg (op := o_aload 0 1) rfl rfl
theorem x_171_4  : exG TB d 171 4 L (.ref p :: st) A = kv (gf A p 3) d 171 7 L st A := x_bd (op := o_get 3) rfl rfl (fun _ => rfl)
theorem x_171_7  : exG TB d 171 7 L (.int i1 :: st) A = exG TB d 171 8 L (.long i1.toInt64 :: st) A := x_nx (op := o_i2l) rfl rfl
theorem x_171_8  : exG TB d 171 8 L [b2, b1, b0] A = kc (evG TB d 165 [b0, b1, b2] A) d 171 11 L [] := x_cv (op := o_cs 165 3 false none) rfl rfl x_noh rfl
theorem x_171_11  : exG TB d 171 11 L [b0] A = kc0 (evG TB d 172 [b0] A) d 171 14 L [] := x_c0 (op := o_cs 172 1 true none) rfl rfl x_noh rfl
theorem x_171_14  : exG TB d 171 14 (some v :: r9) st A = rg v (exG TB d 171 15 (some v :: r9) (v :: st) A) := x_rg (op := o_aload 0 1) rfl rfl
theorem x_171_15  : exG TB d 171 15 (a0 :: some (.int i1) :: r9) st A = exG TB d 171 16 (a0 :: some (.int i1) :: r9) (.int i1 :: st) A := x_nx (op := o_iload 1 1) rfl rfl
theorem x_171_16  : exG TB d 171 16 L (v :: .ref p :: st) A = ck ((gf A p 3).isSome && okv 1 v) (exG TB d 171 19 L st (setf A p 3 v)) := x_gd (op := o_put 3 1) rfl rfl
theorem x_171_19  : exG TB d 171 19 (a0 :: some (.int i1) :: r9) st A = exG TB d 171 20 (a0 :: some (.int i1) :: r9) (.int i1 :: st) A := x_nx (op := o_iload 1 1) rfl rfl
theorem x_171_20  : exG TB d 171 20 L [v] A = ck (okv 1 v) (some (.inl (some v), A)) := x_outg (op := o_ret 1) rfl rfl
theorem e_172 {j0 : Int32} : evG TB (d + 1) 172 [.int j0] A = exG TB d 172 0 [some (.int j0)] [] A := evG_eq TB d 172 _ A
theorem x_172_0  : exG TB d 172 0 (some (.int i1) :: r9) st A = exG TB d 172 1 (some (.int i1) :: r9) (.int i1 :: st) A := x_nx (op := o_iload 0 1) rfl rfl
theorem x_172_1  : exG TB d 172 1 L (.int i1 :: st) A = if ¬ i1 = nI 0 then exG TB d 172 12 L st A else exG TB d 172 4 L st A := x_if (op := o_if (fun x => decide (¬ x = 0)) 12) rfl rfl rfl
theorem x_172_4  : exG TB d 172 4 L [] A = some (.inr (32, nx A), newo A 32 6 (fun _ => none)) := x_out (op := o_thr0 32) rfl rfl
theorem x_172_7  : exG TB d 172 7 L (v :: st) A = ck (c1 v) (exG TB d 172 8 L (v :: v :: st) A) := x_gd (op := o_dup) rfl rfl
theorem x_172_12  : exG TB d 172 12 L [] A = some (.inl none, A) := x_out (op := o_vret) rfl rfl
theorem e_173 {j1 : Int32} : evG TB (d + 1) 173 [.ref p, .int j1] A = exG TB d 173 0 [some (.ref p), some (.int j1)] [] A := evG_eq TB d 173 _ A
theorem x_173_0  : exG TB d 173 0 (a0 :: some (.int i1) :: r9) st A = exG TB d 173 1 (a0 :: some (.int i1) :: r9) (.int i1 :: st) A := x_nx (op := o_iload 1 1) rfl rfl
theorem x_173_1  : exG TB d 173 1 L (.int i1 :: st) A = exG TB d 173 2 L (.long i1.toInt64 :: st) A := x_nx (op := o_i2l) rfl rfl
theorem x_173_2  : exG TB d 173 2 L st A = exG TB d 173 3 L (.long 0 :: st) A := x_nx (op := o_push 1 (.long 0)) rfl rfl
theorem x_173_3  : exG TB d 173 3 L st A = exG TB d 173 6 L (.long 99 :: st) A := x_nx (op := o_push 3 (.long 99)) rfl rfl
theorem x_173_6  : exG TB d 173 6 L [b2, b1, b0] A = kc (evG TB d 165 [b0, b1, b2] A) d 173 9 L [] := x_cv (op := o_cs 165 3 false none) rfl rfl x_noh rfl
theorem x_173_9  : exG TB d 173 9 L [b0] A = kc0 (evG TB d 172 [b0] A) d 173 12 L [] := x_c0 (op := o_cs 172 1 true none) rfl rfl x_noh rfl
theorem x_173_12  : exG TB d 173 12 (some v :: r9) st A = rg v (exG TB d 173 13 (some v :: r9) (v :: st) A) := x_rg (op := o_aload 0 1) rfl rfl
theorem x_173_13  : exG TB d 173 13 L (.ref p :: st) A = kv (gf A p 0) d 173 16 L st A := x_bd (op := o_get 0) rfl rfl (fun _ => rfl)
theorem x_173_16  : exG TB d 173 16 L (.ref p :: st) A = kv (gf A p 6) d 173 19 L st A := x_bd (op := o_get 6) rfl rfl (fun _ => rfl)
theorem x_173_19  : exG TB d 173 19 L (.ref p :: st) A = kv (gf A p 15) d 173 22 L st A := x_bd (op := o_get 15) rfl rfl (fun _ => rfl)
theorem x_173_22  : exG TB d 173 22 L st A = exG TB d 173 24 L (.int (nI 12) :: st) A := x_nx (op := o_push 2 (.int 12)) rfl rfl
theorem x_173_24  : exG TB d 173 24 L (.int i2 :: .int i1 :: st) A = if i2 ≤ i1 then exG TB d 173 31 L st A else exG TB d 173 27 L st A := x_if (op := o_icmp (fun x y => decide (y ≤ x)) 31) rfl rfl rfl
theorem x_173_27  : exG TB d 173 27 L st A = exG TB d 173 28 L (.int (nI 1) :: st) A := x_nx (op := o_push 1 (.int 1)) rfl rfl
theorem x_173_28  : exG TB d 173 28 L st A = exG TB d 173 32 L st A := x_nx (op := o_goto 32) rfl rfl
theorem x_173_31  : exG TB d 173 31 L st A = exG TB d 173 32 L (.int (nI 0) :: st) A := x_nx (op := o_push 1 (.int 0)) rfl rfl
theorem x_173_32  : exG TB d 173 32 L [b0] A = kc0 (evG TB d 170 [b0] A) d 173 35 L [] := x_c0 (op := o_cs 170 1 true none) rfl rfl x_noh rfl
theorem x_173_35  : exG TB d 173 35 (some v :: r9) st A = rg v (exG TB d 173 36 (some v :: r9) (v :: st) A) := x_rg (op := o_aload 0 1) rfl rfl
theorem x_173_36  : exG TB d 173 36 L (.ref p :: st) A = kv (gf A p 0) d 173 39 L st A := x_bd (op := o_get 0) rfl rfl (fun _ => rfl)
theorem x_173_39  : exG TB d 173 39 L (.ref p :: st) A = kv (gf A p 6) d 173 42 L st A := x_bd (op := o_get 6) rfl rfl (fun _ => rfl)
theorem x_173_42  : exG TB d 173 42 (a0 :: some (.int i1) :: r9) st A = exG TB d 173 43 (a0 :: some (.int i1) :: r9) (.int i1 :: st) A := x_nx (op := o_iload 1 1) rfl rfl
theorem x_173_43  : exG TB d 173 43 L [b0, .ref p] A = kw (sel (gc A p) [(2, 283)]) [.ref p, b0] d 173 46 L [] A := x_cvb (op := o_cv [(2, 283)] 1 3 false none) rfl rfl x_noh rfl
theorem x_173_46  : exG TB d 173 46 L [v] A = ck (okv 1 v) (some (.inl (some v), A)) := x_outg (op := o_ret 1) rfl rfl
theorem e_174 {j1 : Int32} {j2 : Int32} {j3 : Int32} {j4 : Int32} : evG TB (d + 1) 174 [.ref p, .int j1, .int j2, .int j3, .int j4] A = exG TB d 174 0 [some (.ref p), some (.int j1), some (.int j2), some (.int j3), some (.int j4)] [] A := evG_eq TB d 174 _ A
theorem x_174_0  : exG TB d 174 0 (some v :: r9) st A = rg v (exG TB d 174 1 (some v :: r9) (v :: st) A) := x_rg (op := o_aload 0 1) rfl rfl
theorem x_174_1  : exG TB d 174 1 (a0 :: some (.int i1) :: r9) st A = exG TB d 174 2 (a0 :: some (.int i1) :: r9) (.int i1 :: st) A := x_nx (op := o_iload 1 1) rfl rfl
theorem x_174_2  : exG TB d 174 2 L [b0, .ref p] A = kw0 (sel (gc A p) [(0, 175)]) [.ref p, b0] d 174 5 L [] A := x_c0b (op := o_cv [(0, 175)] 1 3 true none) rfl rfl x_noh rfl
theorem x_174_5  : exG TB d 174 5 (some v :: r9) st A = rg v (exG TB d 174 6 (some v :: r9) (v :: st) A) := x_rg (op := o_aload 0 1) rfl rfl
theorem x_174_6  : exG TB d 174 6 (a0 :: a1 :: some (.int i1) :: r9) st A = exG TB d 174 7 (a0 :: a1 :: some (.int i1) :: r9) (.int i1 :: st) A := x_nx (op := o_iload 2 1) rfl rfl
theorem x_174_7  : exG TB d 174 7 L [b0, .ref p] A = kw0 (sel (gc A p) [(0, 175)]) [.ref p, b0] d 174 10 L [] A := x_c0b (op := o_cv [(0, 175)] 1 3 true none) rfl rfl x_noh rfl
theorem x_174_10  : exG TB d 174 10 (a0 :: some (.int i1) :: r9) st A = exG TB d 174 11 (a0 :: some (.int i1) :: r9) (.int i1 :: st) A := x_nx (op := o_iload 1 1) rfl rfl
theorem x_174_11  : exG TB d 174 11 (a0 :: a1 :: some (.int i1) :: r9) st A = exG TB d 174 12 (a0 :: a1 :: some (.int i1) :: r9) (.int i1 :: st) A := x_nx (op := o_iload 2 1) rfl rfl
theorem x_174_12  : exG TB d 174 12 L (.int i2 :: .int i1 :: st) A = if i1 = i2 then exG TB d 174 44 L st A else exG TB d 174 15 L st A := x_if (op := o_icmp (fun x y => decide (x = y)) 44) rfl rfl rfl
theorem x_174_15  : exG TB d 174 15 (a0 :: a1 :: a2 :: some (.int i1) :: r9) st A = exG TB d 174 16 (a0 :: a1 :: a2 :: some (.int i1) :: r9) (.int i1 :: st) A := x_nx (op := o_iload 3 1) rfl rfl
theorem x_174_16  : exG TB d 174 16 L (.int i1 :: st) A = exG TB d 174 17 L (.long i1.toInt64 :: st) A := x_nx (op := o_i2l) rfl rfl
theorem x_174_17  : exG TB d 174 17 L st A = exG TB d 174 18 L (.long 1 :: st) A := x_nx (op := o_push 1 (.long 1)) rfl rfl
theorem x_174_18  : exG TB d 174 18 L st A = exG TB d 174 21 L (.long 60 :: st) A := x_nx (op := o_push 3 (.long 60)) rfl rfl
theorem x_174_21  : exG TB d 174 21 L [b2, b1, b0] A = kc (evG TB d 165 [b0, b1, b2] A) d 174 24 L [] := x_cv (op := o_cs 165 3 false none) rfl rfl x_noh rfl
theorem x_174_24  : exG TB d 174 24 L (.int i1 :: st) A = if i1 = nI 0 then exG TB d 174 44 L st A else exG TB d 174 27 L st A := x_if (op := o_if (fun x => decide (x = 0)) 44) rfl rfl rfl
theorem x_174_27  : exG TB d 174 27 (a0 :: a1 :: a2 :: a3 :: some (.int i1) :: r9) st A = exG TB d 174 29 (a0 :: a1 :: a2 :: a3 :: some (.int i1) :: r9) (.int i1 :: st) A := x_nx (op := o_iload 4 2) rfl rfl
theorem x_174_29  : exG TB d 174 29 L (.int i1 :: st) A = exG TB d 174 30 L (.long i1.toInt64 :: st) A := x_nx (op := o_i2l) rfl rfl
theorem x_174_30  : exG TB d 174 30 L st A = exG TB d 174 31 L (.long 0 :: st) A := x_nx (op := o_push 1 (.long 0)) rfl rfl
theorem x_174_31  : exG TB d 174 31 L st A = exG TB d 174 34 L (.long 999 :: st) A := x_nx (op := o_push 3 (.long 999)) rfl rfl
theorem x_174_34  : exG TB d 174 34 L [b2, b1, b0] A = kc (evG TB d 165 [b0, b1, b2] A) d 174 37 L [] := x_cv (op := o_cs 165 3 false none) rfl rfl x_noh rfl
theorem x_174_37  : exG TB d 174 37 L (.int i1 :: st) A = if i1 = nI 0 then exG TB d 174 44 L st A else exG TB d 174 40 L st A := x_if (op := o_if (fun x => decide (x = 0)) 44) rfl rfl rfl
theorem x_174_40  : exG TB d 174 40 L st A = exG TB d 174 41 L (.int (nI 1) :: st) A := x_nx (op := o_push 1 (.int 1)) rfl rfl
theorem x_174_41  : exG TB d 174 41 L st A = exG TB d 174 45 L st A := x_nx (op := o_goto 45) rfl rfl
theorem x_174_44  : exG TB d 174 44 L st A = exG TB d 174 45 L (.int (nI 0) :: st) A := x_nx (op := o_push 1 (.int 0)) rfl rfl
theorem x_174_45  : exG TB d 174 45 L [b0] A = kc0 (evG TB d 172 [b0] A) d 174 48 L [] := x_c0 (op := o_cs 172 1 true none) rfl rfl x_noh rfl
theorem x_174_48  : exG TB d 174 48 (some v :: r9) st A = rg v (exG TB d 174 49 (some v :: r9) (v :: st) A) := x_rg (op := o_aload 0 1) rfl rfl
theorem x_174_49  : exG TB d 174 49 L (.ref p :: st) A = kv (gf A p 0) d 174 52 L st A := x_bd (op := o_get 0) rfl rfl (fun _ => rfl)
theorem x_174_52  : exG TB d 174 52 L (.ref p :: st) A = kv (gf A p 6) d 174 55 L st A := x_bd (op := o_get 6) rfl rfl (fun _ => rfl)
theorem x_174_55  : exG TB d 174 55 (a0 :: some (.int i1) :: r9) st A = exG TB d 174 56 (a0 :: some (.int i1) :: r9) (.int i1 :: st) A := x_nx (op := o_iload 1 1) rfl rfl
theorem x_174_56  : exG TB d 174 56 (a0 :: a1 :: some (.int i1) :: r9) st A = exG TB d 174 57 (a0 :: a1 :: some (.int i1) :: r9) (.int i1 :: st) A := x_nx (op := o_iload 2 1) rfl rfl
theorem x_174_57  : exG TB d 174 57 L [b1, b0, .ref p] A = kw (sel (gc A p) [(2, 284)]) [.ref p, b0, b1] d 174 60 L [] A := x_cvb (op := o_cv [(2, 284)] 2 3 false none) rfl rfl x_noh rfl
theorem x_174_60n  : exG TB d 174 60 L (.null :: st) A = exG TB d 174 63 L st A := x_nx (op := o_ifnonnull 82) rfl rfl
theorem x_174_60r  : exG TB d 174 60 L (.ref p :: st) A = exG TB d 174 82 L st A := x_nx (op := o_ifnonnull 82) rfl rfl
theorem x_174_63  : exG TB d 174 63 (some v :: r9) st A = rg v (exG TB d 174 64 (some v :: r9) (v :: st) A) := x_rg (op := o_aload 0 1) rfl rfl
theorem x_174_64  : exG TB d 174 64 L (.ref p :: st) A = kv (gf A p 0) d 174 67 L st A := x_bd (op := o_get 0) rfl rfl (fun _ => rfl)
theorem x_174_67  : exG TB d 174 67 L (.ref p :: st) A = kv (gf A p 6) d 174 70 L st A := x_bd (op := o_get 6) rfl rfl (fun _ => rfl)
theorem x_174_70  : exG TB d 174 70 L (.ref p :: st) A = kv (gf A p 17) d 174 73 L st A := x_bd (op := o_get 17) rfl rfl (fun _ => rfl)
theorem x_174_73  : exG TB d 174 73 L st A = exG TB d 174 75 L (.int (nI 40) :: st) A := x_nx (op := o_push 2 (.int 40)) rfl rfl
theorem x_174_75  : exG TB d 174 75 L (.int i2 :: .int i1 :: st) A = if i2 ≤ i1 then exG TB d 174 82 L st A else exG TB d 174 78 L st A := x_if (op := o_icmp (fun x y => decide (y ≤ x)) 82) rfl rfl rfl
theorem x_174_78  : exG TB d 174 78 L st A = exG TB d 174 79 L (.int (nI 1) :: st) A := x_nx (op := o_push 1 (.int 1)) rfl rfl
theorem x_174_79  : exG TB d 174 79 L st A = exG TB d 174 83 L st A := x_nx (op := o_goto 83) rfl rfl
theorem x_174_82  : exG TB d 174 82 L st A = exG TB d 174 83 L (.int (nI 0) :: st) A := x_nx (op := o_push 1 (.int 0)) rfl rfl
theorem x_174_83  : exG TB d 174 83 L [b0] A = kc0 (evG TB d 170 [b0] A) d 174 86 L [] := x_c0 (op := o_cs 170 1 true none) rfl rfl x_noh rfl
theorem x_174_86  : exG TB d 174 86 (some v :: r9) st A = rg v (exG TB d 174 87 (some v :: r9) (v :: st) A) := x_rg (op := o_aload 0 1) rfl rfl
theorem x_174_87  : exG TB d 174 87 L (.ref p :: st) A = kv (gf A p 0) d 174 90 L st A := x_bd (op := o_get 0) rfl rfl (fun _ => rfl)
theorem x_174_90  : exG TB d 174 90 L (.ref p :: st) A = kv (gf A p 6) d 174 93 L st A := x_bd (op := o_get 6) rfl rfl (fun _ => rfl)
theorem x_174_93  : exG TB d 174 93 (a0 :: some (.int i1) :: r9) st A = exG TB d 174 94 (a0 :: some (.int i1) :: r9) (.int i1 :: st) A := x_nx (op := o_iload 1 1) rfl rfl
theorem x_174_94  : exG TB d 174 94 (a0 :: a1 :: some (.int i1) :: r9) st A = exG TB d 174 95 (a0 :: a1 :: some (.int i1) :: r9) (.int i1 :: st) A := x_nx (op := o_iload 2 1) rfl rfl
theorem x_174_95  : exG TB d 174 95 (a0 :: a1 :: a2 :: some (.int i1) :: r9) st A = exG TB d 174 96 (a0 :: a1 :: a2 :: some (.int i1) :: r9) (.int i1 :: st) A := x_nx (op := o_iload 3 1) rfl rfl
theorem x_174_96  : exG TB d 174 96 (a0 :: a1 :: a2 :: a3 :: some (.int i1) :: r9) st A = exG TB d 174 98 (a0 :: a1 :: a2 :: a3 :: some (.int i1) :: r9) (.int i1 :: st) A := x_nx (op := o_iload 4 2) rfl rfl
theorem x_174_98  : exG TB d 174 98 L [b3, b2, b1, b0, .ref p] A = kw (sel (gc A p) [(2, 285)]) [.ref p, b0, b1, b2, b3] d 174 101 L [] A := x_cvb (op := o_cv [(2, 285)] 4 3 false none) rfl rfl x_noh rfl
theorem x_174_101  : exG TB d 174 101 L [v] A = ck (okv 1 v) (some (.inl (some v), A)) := x_outg (op := o_ret 1) rfl rfl
theorem e_175 {j1 : Int32} : evG TB (d + 1) 175 [.ref p, .int j1] A = exG TB d 175 0 [some (.ref p), some (.int j1)] [] A := evG_eq TB d 175 _ A
theorem x_175_0  : exG TB d 175 0 (a0 :: some (.int i1) :: r9) st A = exG TB d 175 1 (a0 :: some (.int i1) :: r9) (.int i1 :: st) A := x_nx (op := o_iload 1 1) rfl rfl
theorem x_175_1  : exG TB d 175 1 L (.int i1 :: st) A = exG TB d 175 2 L (.long i1.toInt64 :: st) A := x_nx (op := o_i2l) rfl rfl
theorem x_175_2  : exG TB d 175 2 L st A = exG TB d 175 3 L (.long 0 :: st) A := x_nx (op := o_push 1 (.long 0)) rfl rfl
theorem x_175_3  : exG TB d 175 3 (some v :: r9) st A = rg v (exG TB d 175 4 (some v :: r9) (v :: st) A) := x_rg (op := o_aload 0 1) rfl rfl
theorem x_175_4  : exG TB d 175 4 L (.ref p :: st) A = kv (gf A p 0) d 175 7 L st A := x_bd (op := o_get 0) rfl rfl (fun _ => rfl)
theorem x_175_7  : exG TB d 175 7 L (.ref p :: st) A = kv (gf A p 6) d 175 10 L st A := x_bd (op := o_get 6) rfl rfl (fun _ => rfl)
theorem x_175_10  : exG TB d 175 10 L (.ref p :: st) A = kv (gf A p 15) d 175 13 L st A := x_bd (op := o_get 15) rfl rfl (fun _ => rfl)
theorem x_175_13  : exG TB d 175 13 L st A = exG TB d 175 14 L (.int (nI 1) :: st) A := x_nx (op := o_push 1 (.int 1)) rfl rfl
theorem x_175_14  : exG TB d 175 14 L (.int i2 :: .int i1 :: st) A = exG TB d 175 15 L (.int (i1 - i2) :: st) A := x_nx (op := o_iop (fun x y => x - y)) rfl rfl
theorem x_175_15  : exG TB d 175 15 L (.int i1 :: st) A = exG TB d 175 16 L (.long i1.toInt64 :: st) A := x_nx (op := o_i2l) rfl rfl
theorem x_175_16  : exG TB d 175 16 L [b2, b1, b0] A = kc (evG TB d 165 [b0, b1, b2] A) d 175 19 L [] := x_cv (op := o_cs 165 3 false none) rfl rfl x_noh rfl
theorem x_175_19  : exG TB d 175 19 L [b0] A = kc0 (evG TB d 176 [b0] A) d 175 22 L [] := x_c0 (op := o_cs 176 1 true none) rfl rfl x_noh rfl
theorem x_175_22  : exG TB d 175 22 L [] A = some (.inl none, A) := x_out (op := o_vret) rfl rfl
theorem e_176 {j0 : Int32} : evG TB (d + 1) 176 [.int j0] A = exG TB d 176 0 [some (.int j0)] [] A := evG_eq TB d 176 _ A
theorem x_176_0  : exG TB d 176 0 (some (.int i1) :: r9) st A = exG TB d 176 1 (some (.int i1) :: r9) (.int i1 :: st) A := x_nx (op := o_iload 0 1) rfl rfl
theorem x_176_1  : exG TB d 176 1 L (.int i1 :: st) A = if ¬ i1 = nI 0 then exG TB d 176 12 L st A else exG TB d 176 4 L st A := x_if (op := o_if (fun x => decide (¬ x = 0)) 12) rfl rfl rfl
theorem x_176_4  : exG TB d 176 4 L [] A = some (.inr (31, nx A), newo A 31 6 (fun _ => none)) := x_out (op := o_thr0 31) rfl rfl
theorem x_176_7  : exG TB d 176 7 L (v :: st) A = ck (c1 v) (exG TB d 176 8 L (v :: v :: st) A) := x_gd (op := o_dup) rfl rfl
theorem x_176_12  : exG TB d 176 12 L [] A = some (.inl none, A) := x_out (op := o_vret) rfl rfl
theorem e_177 {j1 : Int32} {j2 : Int32} {j3 : Int32} : evG TB (d + 1) 177 [.ref p, .int j1, .int j2, .int j3] A = exG TB d 177 0 [some (.ref p), some (.int j1), some (.int j2), some (.int j3)] [] A := evG_eq TB d 177 _ A
theorem x_177_0  : exG TB d 177 0 (a0 :: some (.int i1) :: r9) st A = exG TB d 177 1 (a0 :: some (.int i1) :: r9) (.int i1 :: st) A := x_nx (op := o_iload 1 1) rfl rfl
theorem x_177_1  : exG TB d 177 1 L (.int i1 :: st) A = exG TB d 177 2 L (.long i1.toInt64 :: st) A := x_nx (op := o_i2l) rfl rfl
theorem x_177_2  : exG TB d 177 2 L st A = exG TB d 177 3 L (.long 0 :: st) A := x_nx (op := o_push 1 (.long 0)) rfl rfl
theorem x_177_3  : exG TB d 177 3 L st A = exG TB d 177 6 L (.long 100000 :: st) A := x_nx (op := o_push 3 (.long 100000)) rfl rfl
theorem x_177_6  : exG TB d 177 6 L [b2, b1, b0] A = kc (evG TB d 165 [b0, b1, b2] A) d 177 9 L [] := x_cv (op := o_cs 165 3 false none) rfl rfl x_noh rfl
theorem x_177_9  : exG TB d 177 9 L (.int i1 :: st) A = if i1 = nI 0 then exG TB d 177 40 L st A else exG TB d 177 12 L st A := x_if (op := o_if (fun x => decide (x = 0)) 40) rfl rfl rfl
theorem x_177_12  : exG TB d 177 12 (a0 :: a1 :: some (.int i1) :: r9) st A = exG TB d 177 13 (a0 :: a1 :: some (.int i1) :: r9) (.int i1 :: st) A := x_nx (op := o_iload 2 1) rfl rfl
theorem x_177_13  : exG TB d 177 13 L (.int i1 :: st) A = exG TB d 177 14 L (.long i1.toInt64 :: st) A := x_nx (op := o_i2l) rfl rfl
theorem x_177_14  : exG TB d 177 14 L st A = exG TB d 177 15 L (.long 0 :: st) A := x_nx (op := o_push 1 (.long 0)) rfl rfl
theorem x_177_15  : exG TB d 177 15 L st A = exG TB d 177 18 L (.long 50 :: st) A := x_nx (op := o_push 3 (.long 50)) rfl rfl
theorem x_177_18  : exG TB d 177 18 L [b2, b1, b0] A = kc (evG TB d 165 [b0, b1, b2] A) d 177 21 L [] := x_cv (op := o_cs 165 3 false none) rfl rfl x_noh rfl
theorem x_177_21  : exG TB d 177 21 L (.int i1 :: st) A = if i1 = nI 0 then exG TB d 177 40 L st A else exG TB d 177 24 L st A := x_if (op := o_if (fun x => decide (x = 0)) 40) rfl rfl rfl
theorem x_177_24  : exG TB d 177 24 (a0 :: a1 :: a2 :: some (.int i1) :: r9) st A = exG TB d 177 25 (a0 :: a1 :: a2 :: some (.int i1) :: r9) (.int i1 :: st) A := x_nx (op := o_iload 3 1) rfl rfl
theorem x_177_25  : exG TB d 177 25 L (.int i1 :: st) A = exG TB d 177 26 L (.long i1.toInt64 :: st) A := x_nx (op := o_i2l) rfl rfl
theorem x_177_26  : exG TB d 177 26 L st A = exG TB d 177 27 L (.long 0 :: st) A := x_nx (op := o_push 1 (.long 0)) rfl rfl
theorem x_177_27  : exG TB d 177 27 L st A = exG TB d 177 30 L (.long 50 :: st) A := x_nx (op := o_push 3 (.long 50)) rfl rfl
theorem x_177_30  : exG TB d 177 30 L [b2, b1, b0] A = kc (evG TB d 165 [b0, b1, b2] A) d 177 33 L [] := x_cv (op := o_cs 165 3 false none) rfl rfl x_noh rfl
theorem x_177_33  : exG TB d 177 33 L (.int i1 :: st) A = if i1 = nI 0 then exG TB d 177 40 L st A else exG TB d 177 36 L st A := x_if (op := o_if (fun x => decide (x = 0)) 40) rfl rfl rfl
theorem x_177_36  : exG TB d 177 36 L st A = exG TB d 177 37 L (.int (nI 1) :: st) A := x_nx (op := o_push 1 (.int 1)) rfl rfl
theorem x_177_37  : exG TB d 177 37 L st A = exG TB d 177 41 L st A := x_nx (op := o_goto 41) rfl rfl
theorem x_177_40  : exG TB d 177 40 L st A = exG TB d 177 41 L (.int (nI 0) :: st) A := x_nx (op := o_push 1 (.int 0)) rfl rfl
theorem x_177_41  : exG TB d 177 41 L [b0] A = kc0 (evG TB d 172 [b0] A) d 177 44 L [] := x_c0 (op := o_cs 172 1 true none) rfl rfl x_noh rfl
theorem x_177_44  : exG TB d 177 44 (some v :: r9) st A = rg v (exG TB d 177 45 (some v :: r9) (v :: st) A) := x_rg (op := o_aload 0 1) rfl rfl
theorem x_177_45  : exG TB d 177 45 L (.ref p :: st) A = kv (gf A p 0) d 177 48 L st A := x_bd (op := o_get 0) rfl rfl (fun _ => rfl)
theorem x_177_48  : exG TB d 177 48 L (.ref p :: st) A = kv (gf A p 9) d 177 51 L st A := x_bd (op := o_get 9) rfl rfl (fun _ => rfl)
theorem x_177_51  : exG TB d 177 51 L st A = exG TB d 177 53 L (.int (nI 8) :: st) A := x_nx (op := o_push 2 (.int 8)) rfl rfl
theorem x_177_53  : exG TB d 177 53 L (.int i2 :: .int i1 :: st) A = if i2 ≤ i1 then exG TB d 177 60 L st A else exG TB d 177 56 L st A := x_if (op := o_icmp (fun x y => decide (y ≤ x)) 60) rfl rfl rfl
theorem x_177_56  : exG TB d 177 56 L st A = exG TB d 177 57 L (.int (nI 1) :: st) A := x_nx (op := o_push 1 (.int 1)) rfl rfl
theorem x_177_57  : exG TB d 177 57 L st A = exG TB d 177 61 L st A := x_nx (op := o_goto 61) rfl rfl
theorem x_177_60  : exG TB d 177 60 L st A = exG TB d 177 61 L (.int (nI 0) :: st) A := x_nx (op := o_push 1 (.int 0)) rfl rfl
theorem x_177_61  : exG TB d 177 61 L [b0] A = kc0 (evG TB d 170 [b0] A) d 177 64 L [] := x_c0 (op := o_cs 170 1 true none) rfl rfl x_noh rfl
theorem x_177_64  : exG TB d 177 64 (some v :: r9) st A = rg v (exG TB d 177 65 (some v :: r9) (v :: st) A) := x_rg (op := o_aload 0 1) rfl rfl
theorem x_177_65  : exG TB d 177 65 L (.ref p :: st) A = kv (gf A p 0) d 177 68 L st A := x_bd (op := o_get 0) rfl rfl (fun _ => rfl)
theorem x_177_68  : exG TB d 177 68 (a0 :: some (.int i1) :: r9) st A = exG TB d 177 69 (a0 :: some (.int i1) :: r9) (.int i1 :: st) A := x_nx (op := o_iload 1 1) rfl rfl
theorem x_177_69  : exG TB d 177 69 (a0 :: a1 :: some (.int i1) :: r9) st A = exG TB d 177 70 (a0 :: a1 :: some (.int i1) :: r9) (.int i1 :: st) A := x_nx (op := o_iload 2 1) rfl rfl
theorem x_177_70  : exG TB d 177 70 (a0 :: a1 :: a2 :: some (.int i1) :: r9) st A = exG TB d 177 71 (a0 :: a1 :: a2 :: some (.int i1) :: r9) (.int i1 :: st) A := x_nx (op := o_iload 3 1) rfl rfl
theorem x_177_71  : exG TB d 177 71 L [b2, b1, b0, .ref p] A = kw (sel (gc A p) [(1, 258)]) [.ref p, b0, b1, b2] d 177 74 L [] A := x_cvb (op := o_cv [(1, 258)] 3 3 false none) rfl rfl x_noh rfl
theorem x_177_74  : exG TB d 177 74 L [v] A = ck (okv 1 v) (some (.inl (some v), A)) := x_outg (op := o_ret 1) rfl rfl
theorem e_178 {j1 : Int32} {j2 : Int32} : evG TB (d + 1) 178 [.ref p, .int j1, .int j2] A = exG TB d 178 0 [some (.ref p), some (.int j1), some (.int j2)] [] A := evG_eq TB d 178 _ A
theorem x_178_0  : exG TB d 178 0 (some v :: r9) st A = rg v (exG TB d 178 1 (some v :: r9) (v :: st) A) := x_rg (op := o_aload 0 1) rfl rfl
theorem x_178_1  : exG TB d 178 1 (a0 :: a1 :: some (.int i1) :: r9) st A = exG TB d 178 2 (a0 :: a1 :: some (.int i1) :: r9) (.int i1 :: st) A := x_nx (op := o_iload 2 1) rfl rfl
theorem x_178_2  : exG TB d 178 2 L [b0, .ref p] A = kw0 (sel (gc A p) [(0, 179)]) [.ref p, b0] d 178 5 L [] A := x_c0b (op := o_cv [(0, 179)] 1 3 true none) rfl rfl x_noh rfl
theorem x_178_5  : exG TB d 178 5 (a0 :: some (.int i1) :: r9) st A = exG TB d 178 6 (a0 :: some (.int i1) :: r9) (.int i1 :: st) A := x_nx (op := o_iload 1 1) rfl rfl
theorem x_178_6  : exG TB d 178 6 L (.int i1 :: st) A = exG TB d 178 7 L (.long i1.toInt64 :: st) A := x_nx (op := o_i2l) rfl rfl
theorem x_178_7  : exG TB d 178 7 L st A = exG TB d 178 8 L (.long 1 :: st) A := x_nx (op := o_push 1 (.long 1)) rfl rfl
theorem x_178_8  : exG TB d 178 8 L st A = exG TB d 178 11 L (.long 4 :: st) A := x_nx (op := o_push 3 (.long 4)) rfl rfl
theorem x_178_11  : exG TB d 178 11 L [b2, b1, b0] A = kc (evG TB d 165 [b0, b1, b2] A) d 178 14 L [] := x_cv (op := o_cs 165 3 false none) rfl rfl x_noh rfl
theorem x_178_14  : exG TB d 178 14 L [b0] A = kc0 (evG TB d 172 [b0] A) d 178 17 L [] := x_c0 (op := o_cs 172 1 true none) rfl rfl x_noh rfl
theorem x_178_17  : exG TB d 178 17 (some v :: r9) st A = rg v (exG TB d 178 18 (some v :: r9) (v :: st) A) := x_rg (op := o_aload 0 1) rfl rfl
theorem x_178_18  : exG TB d 178 18 L (.ref p :: st) A = kv (gf A p 0) d 178 21 L st A := x_bd (op := o_get 0) rfl rfl (fun _ => rfl)
theorem x_178_21  : exG TB d 178 21 L (.ref p :: st) A = kv (gf A p 10) d 178 24 L st A := x_bd (op := o_get 10) rfl rfl (fun _ => rfl)
theorem x_178_24  : exG TB d 178 24 L [.ref p] A = kw (sel (gc A p) [(3, 42)]) [.ref p] d 178 27 L [] A := x_cvb (op := o_cv [(3, 42)] 0 3 false none) rfl rfl x_noh rfl
theorem x_178_27  : exG TB d 178 27 L st A = exG TB d 178 29 L (.int (nI 15) :: st) A := x_nx (op := o_push 2 (.int 15)) rfl rfl
theorem x_178_29  : exG TB d 178 29 L (.int i2 :: .int i1 :: st) A = if i2 ≤ i1 then exG TB d 178 36 L st A else exG TB d 178 32 L st A := x_if (op := o_icmp (fun x y => decide (y ≤ x)) 36) rfl rfl rfl
theorem x_178_32  : exG TB d 178 32 L st A = exG TB d 178 33 L (.int (nI 1) :: st) A := x_nx (op := o_push 1 (.int 1)) rfl rfl
theorem x_178_33  : exG TB d 178 33 L st A = exG TB d 178 37 L st A := x_nx (op := o_goto 37) rfl rfl
theorem x_178_36  : exG TB d 178 36 L st A = exG TB d 178 37 L (.int (nI 0) :: st) A := x_nx (op := o_push 1 (.int 0)) rfl rfl
theorem x_178_37  : exG TB d 178 37 L [b0] A = kc0 (evG TB d 170 [b0] A) d 178 40 L [] := x_c0 (op := o_cs 170 1 true none) rfl rfl x_noh rfl
theorem x_178_40  : exG TB d 178 40 (some v :: r9) st A = rg v (exG TB d 178 41 (some v :: r9) (v :: st) A) := x_rg (op := o_aload 0 1) rfl rfl
theorem x_178_41  : exG TB d 178 41 L (.ref p :: st) A = kv (gf A p 0) d 178 44 L st A := x_bd (op := o_get 0) rfl rfl (fun _ => rfl)
theorem x_178_44  : exG TB d 178 44 (a0 :: some (.int i1) :: r9) st A = exG TB d 178 45 (a0 :: some (.int i1) :: r9) (.int i1 :: st) A := x_nx (op := o_iload 1 1) rfl rfl
theorem x_178_45  : exG TB d 178 45 (a0 :: a1 :: some (.int i1) :: r9) st A = exG TB d 178 46 (a0 :: a1 :: some (.int i1) :: r9) (.int i1 :: st) A := x_nx (op := o_iload 2 1) rfl rfl
theorem x_178_46  : exG TB d 178 46 L [b1, b0, .ref p] A = kw (sel (gc A p) [(1, 259)]) [.ref p, b0, b1] d 178 49 L [] A := x_cvb (op := o_cv [(1, 259)] 2 3 false none) rfl rfl x_noh rfl
theorem x_178_49  : exG TB d 178 49 L [v] A = ck (okv 1 v) (some (.inl (some v), A)) := x_outg (op := o_ret 1) rfl rfl
theorem e_179 {j1 : Int32} : evG TB (d + 1) 179 [.ref p, .int j1] A = exG TB d 179 0 [some (.ref p), some (.int j1)] [] A := evG_eq TB d 179 _ A
theorem x_179_0  : exG TB d 179 0 (a0 :: some (.int i1) :: r9) st A = exG TB d 179 1 (a0 :: some (.int i1) :: r9) (.int i1 :: st) A := x_nx (op := o_iload 1 1) rfl rfl
theorem x_179_1  : exG TB d 179 1 L (.int i1 :: st) A = exG TB d 179 2 L (.long i1.toInt64 :: st) A := x_nx (op := o_i2l) rfl rfl
theorem x_179_2  : exG TB d 179 2 L st A = exG TB d 179 5 L (.long (-1) :: st) A := x_nx (op := o_push 3 (.long (-1))) rfl rfl
theorem x_179_5  : exG TB d 179 5 (some v :: r9) st A = rg v (exG TB d 179 6 (some v :: r9) (v :: st) A) := x_rg (op := o_aload 0 1) rfl rfl
theorem x_179_6  : exG TB d 179 6 L (.ref p :: st) A = kv (gf A p 0) d 179 9 L st A := x_bd (op := o_get 0) rfl rfl (fun _ => rfl)
theorem x_179_9  : exG TB d 179 9 L (.ref p :: st) A = kv (gf A p 9) d 179 12 L st A := x_bd (op := o_get 9) rfl rfl (fun _ => rfl)
theorem x_179_12  : exG TB d 179 12 L st A = exG TB d 179 13 L (.int (nI 1) :: st) A := x_nx (op := o_push 1 (.int 1)) rfl rfl
theorem x_179_13  : exG TB d 179 13 L (.int i2 :: .int i1 :: st) A = exG TB d 179 14 L (.int (i1 - i2) :: st) A := x_nx (op := o_iop (fun x y => x - y)) rfl rfl
theorem x_179_14  : exG TB d 179 14 L (.int i1 :: st) A = exG TB d 179 15 L (.long i1.toInt64 :: st) A := x_nx (op := o_i2l) rfl rfl
theorem x_179_15  : exG TB d 179 15 L [b2, b1, b0] A = kc (evG TB d 165 [b0, b1, b2] A) d 179 18 L [] := x_cv (op := o_cs 165 3 false none) rfl rfl x_noh rfl
theorem x_179_18  : exG TB d 179 18 L [b0] A = kc0 (evG TB d 176 [b0] A) d 179 21 L [] := x_c0 (op := o_cs 176 1 true none) rfl rfl x_noh rfl
theorem x_179_21  : exG TB d 179 21 L [] A = some (.inl none, A) := x_out (op := o_vret) rfl rfl
theorem e_180 {j1 : Int32} {j2 : Int32} : evG TB (d + 1) 180 [.ref p, .int j1, .int j2] A = exG TB d 180 0 [some (.ref p), some (.int j1), some (.int j2), none, none] [] A := evG_eq TB d 180 _ A
theorem x_180_0  : exG TB d 180 0 (a0 :: some (.int i1) :: r9) st A = exG TB d 180 1 (a0 :: some (.int i1) :: r9) (.int i1 :: st) A := x_nx (op := o_iload 1 1) rfl rfl
theorem x_180_1  : exG TB d 180 1 L (.int i1 :: st) A = exG TB d 180 2 L (.long i1.toInt64 :: st) A := x_nx (op := o_i2l) rfl rfl
theorem x_180_2  : exG TB d 180 2 L st A = exG TB d 180 3 L (.long 0 :: st) A := x_nx (op := o_push 1 (.long 0)) rfl rfl
theorem x_180_3  : exG TB d 180 3 L st A = exG TB d 180 6 L (.long 7 :: st) A := x_nx (op := o_push 3 (.long 7)) rfl rfl
theorem x_180_6  : exG TB d 180 6 L [b2, b1, b0] A = kc (evG TB d 165 [b0, b1, b2] A) d 180 9 L [] := x_cv (op := o_cs 165 3 false none) rfl rfl x_noh rfl
theorem x_180_9  : exG TB d 180 9 L [b0] A = kc0 (evG TB d 172 [b0] A) d 180 12 L [] := x_c0 (op := o_cs 172 1 true none) rfl rfl x_noh rfl
theorem x_180_12  : exG TB d 180 12 (a0 :: some (.int i1) :: r9) st A = exG TB d 180 13 (a0 :: some (.int i1) :: r9) (.int i1 :: st) A := x_nx (op := o_iload 1 1) rfl rfl
theorem x_180_13  : exG TB d 180 13 L [b0] A = kc (evG TB d 222 [b0] A) d 180 16 L [] := x_cv (op := o_cs 222 1 false none) rfl rfl x_noh rfl
theorem x_180_16  : exG TB d 180 16 (a0 :: a1 :: a2 :: a3 :: r9) (v :: st) A = rg v (exG TB d 180 17 (a0 :: a1 :: a2 :: some v :: r9) st A) := x_rgt (op := o_astore 3 1) rfl rfl
theorem x_180_17  : exG TB d 180 17 (a0 :: a1 :: a2 :: some v :: r9) st A = rg v (exG TB d 180 18 (a0 :: a1 :: a2 :: some v :: r9) (v :: st) A) := x_rg (op := o_aload 3 1) rfl rfl
theorem x_180_18  : exG TB d 180 18 (a0 :: a1 :: some (.int i1) :: r9) st A = exG TB d 180 19 (a0 :: a1 :: some (.int i1) :: r9) (.int i1 :: st) A := x_nx (op := o_iload 2 1) rfl rfl
theorem x_180_19  : exG TB d 180 19 L [b0, .ref p] A = kw (sel (gc A p) [(14, 223)]) [.ref p, b0] d 180 24 L [] A := x_cvb (op := o_cv [(14, 223)] 1 5 false none) rfl rfl x_noh rfl
theorem x_180_24  : exG TB d 180 24 L [b0] A = kc0 (evG TB d 172 [b0] A) d 180 27 L [] := x_c0 (op := o_cs 172 1 true none) rfl rfl x_noh rfl
theorem x_180_27  : exG TB d 180 27 (some v :: r9) st A = rg v (exG TB d 180 28 (some v :: r9) (v :: st) A) := x_rg (op := o_aload 0 1) rfl rfl
theorem x_180_28  : exG TB d 180 28 L (.ref p :: st) A = kv (gf A p 0) d 180 31 L st A := x_bd (op := o_get 0) rfl rfl (fun _ => rfl)
theorem x_180_31  : exG TB d 180 31 L (.ref p :: st) A = kv (gf A p 7) d 180 34 L st A := x_bd (op := o_get 7) rfl rfl (fun _ => rfl)
theorem x_180_34  : exG TB d 180 34 (a0 :: some (.int i1) :: r9) st A = exG TB d 180 35 (a0 :: some (.int i1) :: r9) (.int i1 :: st) A := x_nx (op := o_iload 1 1) rfl rfl
theorem x_180_35  : exG TB d 180 35 L (.int i1 :: .ref p :: st) A = ki (rdI 0 (ga A p) i1) d 180 36 L st A := x_bd (op := o_rdI 0) rfl rfl (fun _ => rfl)
theorem x_180_36  : exG TB d 180 36 (a0 :: a1 :: a2 :: a3 :: a4 :: r9) (.int i1 :: st) A = exG TB d 180 38 (a0 :: a1 :: a2 :: a3 :: some (.int i1) :: r9) st A := x_nx (op := o_istore 4 2) rfl rfl
theorem x_180_38  : exG TB d 180 38 (some v :: r9) st A = rg v (exG TB d 180 39 (some v :: r9) (v :: st) A) := x_rg (op := o_aload 0 1) rfl rfl
theorem x_180_39  : exG TB d 180 39 L (.ref p :: st) A = kv (gf A p 0) d 180 42 L st A := x_bd (op := o_get 0) rfl rfl (fun _ => rfl)
theorem x_180_42  : exG TB d 180 42 L (.ref p :: st) A = kv (gf A p 7) d 180 45 L st A := x_bd (op := o_get 7) rfl rfl (fun _ => rfl)
theorem x_180_45  : exG TB d 180 45 (a0 :: some (.int i1) :: r9) st A = exG TB d 180 46 (a0 :: some (.int i1) :: r9) (.int i1 :: st) A := x_nx (op := o_iload 1 1) rfl rfl
theorem x_180_46  : exG TB d 180 46 (a0 :: a1 :: some (.int i1) :: r9) st A = exG TB d 180 47 (a0 :: a1 :: some (.int i1) :: r9) (.int i1 :: st) A := x_nx (op := o_iload 2 1) rfl rfl
theorem x_180_47  : exG TB d 180 47 L (.int i2 :: .int i1 :: .ref p :: st) A = ka (wrI 0 (ga A p) i1 i2) p d 180 48 L st A := x_bd (op := o_wrI 0) rfl rfl (fun _ => rfl)
theorem x_180_48  : exG TB d 180 48 (a0 :: a1 :: a2 :: a3 :: some (.int i1) :: r9) st A = exG TB d 180 50 (a0 :: a1 :: a2 :: a3 :: some (.int i1) :: r9) (.int i1 :: st) A := x_nx (op := o_iload 4 2) rfl rfl
theorem x_180_50  : exG TB d 180 50 L [v] A = ck (okv 1 v) (some (.inl (some v), A)) := x_outg (op := o_ret 1) rfl rfl
theorem e_181 {j1 : Int32} : evG TB (d + 1) 181 [.ref p, .int j1] A = exG TB d 181 0 [some (.ref p), some (.int j1)] [] A := evG_eq TB d 181 _ A
theorem x_181_0  : exG TB d 181 0 (a0 :: some (.int i1) :: r9) st A = exG TB d 181 1 (a0 :: some (.int i1) :: r9) (.int i1 :: st) A := x_nx (op := o_iload 1 1) rfl rfl
theorem x_181_1  : exG TB d 181 1 L (.int i1 :: st) A = exG TB d 181 2 L (.long i1.toInt64 :: st) A := x_nx (op := o_i2l) rfl rfl
theorem x_181_2  : exG TB d 181 2 L st A = exG TB d 181 3 L (.long 0 :: st) A := x_nx (op := o_push 1 (.long 0)) rfl rfl
theorem x_181_3  : exG TB d 181 3 L st A = exG TB d 181 6 L (.long 16 :: st) A := x_nx (op := o_push 3 (.long 16)) rfl rfl
theorem x_181_6  : exG TB d 181 6 L [b2, b1, b0] A = kc (evG TB d 165 [b0, b1, b2] A) d 181 9 L [] := x_cv (op := o_cs 165 3 false none) rfl rfl x_noh rfl
theorem x_181_9  : exG TB d 181 9 L [b0] A = kc0 (evG TB d 172 [b0] A) d 181 12 L [] := x_c0 (op := o_cs 172 1 true none) rfl rfl x_noh rfl
theorem x_181_12  : exG TB d 181 12 (a0 :: some (.int i1) :: r9) st A = exG TB d 181 13 (a0 :: some (.int i1) :: r9) (.int i1 :: st) A := x_nx (op := o_iload 1 1) rfl rfl
theorem x_181_13  : exG TB d 181 13 L st A = exG TB d 181 15 L (.int (nI 8) :: st) A := x_nx (op := o_push 2 (.int 8)) rfl rfl
theorem x_181_15  : exG TB d 181 15 L (.int i2 :: .int i1 :: st) A = exG TB d 181 16 L (.int (i1 - i2) :: st) A := x_nx (op := o_iop (fun x y => x - y)) rfl rfl
theorem x_181_16  : exG TB d 181 16 L (.int i1 :: st) A = exG TB d 181 (swt 0 [68, 79, 90, 98, 109, 120, 131, 136, 142] 148 i1) L st A := x_nx (op := o_sw (swt 0 [68, 79, 90, 98, 109, 120, 131, 136, 142] 148)) rfl rfl
theorem x_181_68  : exG TB d 181 68 (some v :: r9) st A = rg v (exG TB d 181 69 (some v :: r9) (v :: st) A) := x_rg (op := o_aload 0 1) rfl rfl
theorem x_181_69  : exG TB d 181 69 L (.ref p :: st) A = kv (gf A p 0) d 181 72 L st A := x_bd (op := o_get 0) rfl rfl (fun _ => rfl)
theorem x_181_72  : exG TB d 181 72 L (.ref p :: st) A = kv (gf A p 6) d 181 75 L st A := x_bd (op := o_get 6) rfl rfl (fun _ => rfl)
theorem x_181_75  : exG TB d 181 75 L (.ref p :: st) A = kv (gf A p 15) d 181 78 L st A := x_bd (op := o_get 15) rfl rfl (fun _ => rfl)
theorem x_181_78  : exG TB d 181 78 L [v] A = ck (okv 1 v) (some (.inl (some v), A)) := x_outg (op := o_ret 1) rfl rfl
theorem x_181_79  : exG TB d 181 79 (some v :: r9) st A = rg v (exG TB d 181 80 (some v :: r9) (v :: st) A) := x_rg (op := o_aload 0 1) rfl rfl
theorem x_181_80  : exG TB d 181 80 L (.ref p :: st) A = kv (gf A p 0) d 181 83 L st A := x_bd (op := o_get 0) rfl rfl (fun _ => rfl)
theorem x_181_83  : exG TB d 181 83 L (.ref p :: st) A = kv (gf A p 6) d 181 86 L st A := x_bd (op := o_get 6) rfl rfl (fun _ => rfl)
theorem x_181_86  : exG TB d 181 86 L (.ref p :: st) A = kv (gf A p 17) d 181 89 L st A := x_bd (op := o_get 17) rfl rfl (fun _ => rfl)
theorem x_181_89  : exG TB d 181 89 L [v] A = ck (okv 1 v) (some (.inl (some v), A)) := x_outg (op := o_ret 1) rfl rfl
theorem x_181_90  : exG TB d 181 90 (some v :: r9) st A = rg v (exG TB d 181 91 (some v :: r9) (v :: st) A) := x_rg (op := o_aload 0 1) rfl rfl
theorem x_181_91  : exG TB d 181 91 L (.ref p :: st) A = kv (gf A p 0) d 181 94 L st A := x_bd (op := o_get 0) rfl rfl (fun _ => rfl)
theorem x_181_94  : exG TB d 181 94 L (.ref p :: st) A = kv (gf A p 9) d 181 97 L st A := x_bd (op := o_get 9) rfl rfl (fun _ => rfl)
theorem x_181_97  : exG TB d 181 97 L [v] A = ck (okv 1 v) (some (.inl (some v), A)) := x_outg (op := o_ret 1) rfl rfl
theorem x_181_98  : exG TB d 181 98 (some v :: r9) st A = rg v (exG TB d 181 99 (some v :: r9) (v :: st) A) := x_rg (op := o_aload 0 1) rfl rfl
theorem x_181_99  : exG TB d 181 99 L (.ref p :: st) A = kv (gf A p 0) d 181 102 L st A := x_bd (op := o_get 0) rfl rfl (fun _ => rfl)
theorem x_181_102  : exG TB d 181 102 L (.ref p :: st) A = kv (gf A p 10) d 181 105 L st A := x_bd (op := o_get 10) rfl rfl (fun _ => rfl)
theorem x_181_105  : exG TB d 181 105 L [.ref p] A = kw (sel (gc A p) [(3, 42)]) [.ref p] d 181 108 L [] A := x_cvb (op := o_cv [(3, 42)] 0 3 false none) rfl rfl x_noh rfl
theorem x_181_108  : exG TB d 181 108 L [v] A = ck (okv 1 v) (some (.inl (some v), A)) := x_outg (op := o_ret 1) rfl rfl
theorem x_181_109  : exG TB d 181 109 (some v :: r9) st A = rg v (exG TB d 181 110 (some v :: r9) (v :: st) A) := x_rg (op := o_aload 0 1) rfl rfl
theorem x_181_110  : exG TB d 181 110 L (.ref p :: st) A = kv (gf A p 0) d 181 113 L st A := x_bd (op := o_get 0) rfl rfl (fun _ => rfl)
theorem x_181_113  : exG TB d 181 113 L (.ref p :: st) A = kv (gf A p 11) d 181 116 L st A := x_bd (op := o_get 11) rfl rfl (fun _ => rfl)
theorem x_181_116  : exG TB d 181 116 L [.ref p] A = kw (sel (gc A p) [(3, 42)]) [.ref p] d 181 119 L [] A := x_cvb (op := o_cv [(3, 42)] 0 3 false none) rfl rfl x_noh rfl
theorem x_181_119  : exG TB d 181 119 L [v] A = ck (okv 1 v) (some (.inl (some v), A)) := x_outg (op := o_ret 1) rfl rfl
theorem x_181_120  : exG TB d 181 120 (some v :: r9) st A = rg v (exG TB d 181 121 (some v :: r9) (v :: st) A) := x_rg (op := o_aload 0 1) rfl rfl
theorem x_181_121  : exG TB d 181 121 L (.ref p :: st) A = kv (gf A p 0) d 181 124 L st A := x_bd (op := o_get 0) rfl rfl (fun _ => rfl)
theorem x_181_124  : exG TB d 181 124 L (.ref p :: st) A = kv (gf A p 12) d 181 127 L st A := x_bd (op := o_get 12) rfl rfl (fun _ => rfl)
theorem x_181_127  : exG TB d 181 127 L [.ref p] A = kw (sel (gc A p) [(3, 42)]) [.ref p] d 181 130 L [] A := x_cvb (op := o_cv [(3, 42)] 0 3 false none) rfl rfl x_noh rfl
theorem x_181_130  : exG TB d 181 130 L [v] A = ck (okv 1 v) (some (.inl (some v), A)) := x_outg (op := o_ret 1) rfl rfl
theorem x_181_131  : exG TB d 181 131 (some v :: r9) st A = rg v (exG TB d 181 132 (some v :: r9) (v :: st) A) := x_rg (op := o_aload 0 1) rfl rfl
theorem x_181_132  : exG TB d 181 132 L [.ref p] A = kw (sel (gc A p) [(0, 182)]) [.ref p] d 181 135 L [] A := x_cvb (op := o_cv [(0, 182)] 0 3 false none) rfl rfl x_noh rfl
theorem x_181_135  : exG TB d 181 135 L [v] A = ck (okv 1 v) (some (.inl (some v), A)) := x_outg (op := o_ret 1) rfl rfl
theorem x_181_136  : exG TB d 181 136 (some v :: r9) st A = rg v (exG TB d 181 137 (some v :: r9) (v :: st) A) := x_rg (op := o_aload 0 1) rfl rfl
theorem x_181_137  : exG TB d 181 137 L st A = exG TB d 181 138 L (.int (nI 0) :: st) A := x_nx (op := o_push 1 (.int 0)) rfl rfl
theorem x_181_138  : exG TB d 181 138 L [b0, .ref p] A = kw (sel (gc A p) [(0, 183)]) [.ref p, b0] d 181 141 L [] A := x_cvb (op := o_cv [(0, 183)] 1 3 false none) rfl rfl x_noh rfl
theorem x_181_141  : exG TB d 181 141 L [v] A = ck (okv 1 v) (some (.inl (some v), A)) := x_outg (op := o_ret 1) rfl rfl
theorem x_181_142  : exG TB d 181 142 (some v :: r9) st A = rg v (exG TB d 181 143 (some v :: r9) (v :: st) A) := x_rg (op := o_aload 0 1) rfl rfl
theorem x_181_143  : exG TB d 181 143 L st A = exG TB d 181 144 L (.int (nI 1) :: st) A := x_nx (op := o_push 1 (.int 1)) rfl rfl
theorem x_181_144  : exG TB d 181 144 L [b0, .ref p] A = kw (sel (gc A p) [(0, 183)]) [.ref p, b0] d 181 147 L [] A := x_cvb (op := o_cv [(0, 183)] 1 3 false none) rfl rfl x_noh rfl
theorem x_181_147  : exG TB d 181 147 L [v] A = ck (okv 1 v) (some (.inl (some v), A)) := x_outg (op := o_ret 1) rfl rfl
theorem x_181_148  : exG TB d 181 148 (some v :: r9) st A = rg v (exG TB d 181 149 (some v :: r9) (v :: st) A) := x_rg (op := o_aload 0 1) rfl rfl
theorem x_181_149  : exG TB d 181 149 L (.ref p :: st) A = kv (gf A p 0) d 181 152 L st A := x_bd (op := o_get 0) rfl rfl (fun _ => rfl)
theorem x_181_152  : exG TB d 181 152 L (.ref p :: st) A = kv (gf A p 7) d 181 155 L st A := x_bd (op := o_get 7) rfl rfl (fun _ => rfl)
theorem x_181_155  : exG TB d 181 155 (a0 :: some (.int i1) :: r9) st A = exG TB d 181 156 (a0 :: some (.int i1) :: r9) (.int i1 :: st) A := x_nx (op := o_iload 1 1) rfl rfl
theorem x_181_156  : exG TB d 181 156 L (.int i1 :: .ref p :: st) A = ki (rdI 0 (ga A p) i1) d 181 157 L st A := x_bd (op := o_rdI 0) rfl rfl (fun _ => rfl)
theorem x_181_157  : exG TB d 181 157 L [v] A = ck (okv 1 v) (some (.inl (some v), A)) := x_outg (op := o_ret 1) rfl rfl
theorem e_182  : evG TB (d + 1) 182 [.ref p] A = exG TB d 182 0 [some (.ref p), none, none, none] [] A := evG_eq TB d 182 _ A
theorem x_182_0  : exG TB d 182 0 L st A = exG TB d 182 1 L (.int (nI 0) :: st) A := x_nx (op := o_push 1 (.int 0)) rfl rfl
theorem x_182_1  : exG TB d 182 1 (a0 :: a1 :: r9) (.int i1 :: st) A = exG TB d 182 2 (a0 :: some (.int i1) :: r9) st A := x_nx (op := o_istore 1 1) rfl rfl
theorem x_182_2  : exG TB d 182 2 (some v :: r9) st A = rg v (exG TB d 182 3 (some v :: r9) (v :: st) A) := x_rg (op := o_aload 0 1) rfl rfl
theorem x_182_3  : exG TB d 182 3 L (.ref p :: st) A = kv (gf A p 0) d 182 6 L st A := x_bd (op := o_get 0) rfl rfl (fun _ => rfl)
theorem x_182_6  : exG TB d 182 6 L (.ref p :: st) A = kv (gf A p 11) d 182 9 L st A := x_bd (op := o_get 11) rfl rfl (fun _ => rfl)
theorem x_182_9  : exG TB d 182 9 L [.ref p] A = kw (sel (gc A p) [(3, 40)]) [.ref p] d 182 12 L [] A := x_cvb (op := o_cv [(3, 40)] 0 3 false none) rfl rfl x_noh rfl
theorem x_182_12  : exG TB d 182 12 (a0 :: a1 :: a2 :: r9) (v :: st) A = rg v (exG TB d 182 13 (a0 :: a1 :: some v :: r9) st A) := x_rgt (op := o_astore 2 1) rfl rfl
theorem x_182_13  : exG TB d 182 13 (a0 :: a1 :: some v :: r9) st A = rg v (exG TB d 182 14 (a0 :: a1 :: some v :: r9) (v :: st) A) := x_rg (op := o_aload 2 1) rfl rfl
theorem x_182_14  : exG TB d 182 14 L [.ref p] A = kw (sel (gc A p) [(7, 50), (24, 86), (25, 92)]) [.ref p] d 182 19 L [] A := x_cvb (op := o_cv [(7, 50), (24, 86), (25, 92)] 0 5 false none) rfl rfl x_noh rfl
theorem x_182_19  : exG TB d 182 19 L (.int i1 :: st) A = if i1 = nI 0 then exG TB d 182 50 L st A else exG TB d 182 22 L st A := x_if (op := o_if (fun x => decide (x = 0)) 50) rfl rfl rfl
theorem x_182_22  : exG TB d 182 22 (a0 :: a1 :: some v :: r9) st A = rg v (exG TB d 182 23 (a0 :: a1 :: some v :: r9) (v :: st) A) := x_rg (op := o_aload 2 1) rfl rfl
theorem x_182_23  : exG TB d 182 23 L [.ref p] A = kw (sel (gc A p) [(7, 51), (24, 89), (25, 95)]) [.ref p] d 182 28 L [] A := x_cvb (op := o_cv [(7, 51), (24, 89), (25, 95)] 0 5 false none) rfl rfl x_noh rfl
theorem x_182_28n  : exG TB d 182 28 L (.null :: st) A = exG TB d 182 31 L (.null :: st) A := x_nx (op := o_cast [17]) rfl rfl
theorem x_182_28r  : exG TB d 182 28 L (.ref p :: st) A = ck (cin (gcs A p) [17]) (exG TB d 182 31 L (.ref p :: st) A) := x_gd (op := o_cast [17]) rfl rfl
theorem x_182_31  : exG TB d 182 31 (a0 :: a1 :: a2 :: a3 :: r9) (v :: st) A = rg v (exG TB d 182 32 (a0 :: a1 :: a2 :: some v :: r9) st A) := x_rgt (op := o_astore 3 1) rfl rfl
theorem x_182_32  : exG TB d 182 32 (a0 :: some (.int i1) :: r9) st A = exG TB d 182 33 (a0 :: some (.int i1) :: r9) (.int i1 :: st) A := x_nx (op := o_iload 1 1) rfl rfl
theorem x_182_33  : exG TB d 182 33 (a0 :: a1 :: a2 :: some v :: r9) st A = rg v (exG TB d 182 34 (a0 :: a1 :: a2 :: some v :: r9) (v :: st) A) := x_rg (op := o_aload 3 1) rfl rfl
theorem x_182_34  : exG TB d 182 34 L (.ref p :: st) A = kv (gf A p 95) d 182 37 L st A := x_bd (op := o_get 95) rfl rfl (fun _ => rfl)
theorem x_182_37  : exG TB d 182 37 L (.int i1 :: st) A = if ¬ i1 = nI 0 then exG TB d 182 44 L st A else exG TB d 182 40 L st A := x_if (op := o_if (fun x => decide (¬ x = 0)) 44) rfl rfl rfl
theorem x_182_40  : exG TB d 182 40 L st A = exG TB d 182 41 L (.int (nI 1) :: st) A := x_nx (op := o_push 1 (.int 1)) rfl rfl
theorem x_182_41  : exG TB d 182 41 L st A = exG TB d 182 45 L st A := x_nx (op := o_goto 45) rfl rfl
theorem x_182_44  : exG TB d 182 44 L st A = exG TB d 182 45 L (.int (nI 0) :: st) A := x_nx (op := o_push 1 (.int 0)) rfl rfl
theorem x_182_45  : exG TB d 182 45 L (.int i2 :: .int i1 :: st) A = exG TB d 182 46 L (.int (i1 + i2) :: st) A := x_nx (op := o_iop (fun x y => x + y)) rfl rfl
theorem x_182_46  : exG TB d 182 46 (a0 :: a1 :: r9) (.int i1 :: st) A = exG TB d 182 47 (a0 :: some (.int i1) :: r9) st A := x_nx (op := o_istore 1 1) rfl rfl
theorem x_182_47  : exG TB d 182 47 L st A = exG TB d 182 13 L st A := x_nx (op := o_goto 13) rfl rfl
theorem x_182_50  : exG TB d 182 50 (a0 :: some (.int i1) :: r9) st A = exG TB d 182 51 (a0 :: some (.int i1) :: r9) (.int i1 :: st) A := x_nx (op := o_iload 1 1) rfl rfl
theorem x_182_51  : exG TB d 182 51 L [v] A = ck (okv 1 v) (some (.inl (some v), A)) := x_outg (op := o_ret 1) rfl rfl
theorem e_183 {j1 : Int32} : evG TB (d + 1) 183 [.ref p, .int j1] A = exG TB d 183 0 [some (.ref p), some (.int j1), none, none, none] [] A := evG_eq TB d 183 _ A
theorem x_183_0  : exG TB d 183 0 L st A = exG TB d 183 1 L (.int (nI 0) :: st) A := x_nx (op := o_push 1 (.int 0)) rfl rfl
theorem x_183_1  : exG TB d 183 1 (a0 :: a1 :: a2 :: r9) (.int i1 :: st) A = exG TB d 183 2 (a0 :: a1 :: some (.int i1) :: r9) st A := x_nx (op := o_istore 2 1) rfl rfl
theorem x_183_2  : exG TB d 183 2 (some v :: r9) st A = rg v (exG TB d 183 3 (some v :: r9) (v :: st) A) := x_rg (op := o_aload 0 1) rfl rfl
theorem x_183_3  : exG TB d 183 3 L (.ref p :: st) A = kv (gf A p 0) d 183 6 L st A := x_bd (op := o_get 0) rfl rfl (fun _ => rfl)
theorem x_183_6  : exG TB d 183 6 L (.ref p :: st) A = kv (gf A p 12) d 183 9 L st A := x_bd (op := o_get 12) rfl rfl (fun _ => rfl)
theorem x_183_9  : exG TB d 183 9 L [.ref p] A = kw (sel (gc A p) [(3, 40)]) [.ref p] d 183 12 L [] A := x_cvb (op := o_cv [(3, 40)] 0 3 false none) rfl rfl x_noh rfl
theorem x_183_12  : exG TB d 183 12 (a0 :: a1 :: a2 :: a3 :: r9) (v :: st) A = rg v (exG TB d 183 13 (a0 :: a1 :: a2 :: some v :: r9) st A) := x_rgt (op := o_astore 3 1) rfl rfl
theorem x_183_13  : exG TB d 183 13 (a0 :: a1 :: a2 :: some v :: r9) st A = rg v (exG TB d 183 14 (a0 :: a1 :: a2 :: some v :: r9) (v :: st) A) := x_rg (op := o_aload 3 1) rfl rfl
theorem x_183_14  : exG TB d 183 14 L [.ref p] A = kw (sel (gc A p) [(7, 50), (24, 86), (25, 92)]) [.ref p] d 183 19 L [] A := x_cvb (op := o_cv [(7, 50), (24, 86), (25, 92)] 0 5 false none) rfl rfl x_noh rfl
theorem x_183_19  : exG TB d 183 19 L (.int i1 :: st) A = if i1 = nI 0 then exG TB d 183 66 L st A else exG TB d 183 22 L st A := x_if (op := o_if (fun x => decide (x = 0)) 66) rfl rfl rfl
theorem x_183_22  : exG TB d 183 22 (a0 :: a1 :: a2 :: some v :: r9) st A = rg v (exG TB d 183 23 (a0 :: a1 :: a2 :: some v :: r9) (v :: st) A) := x_rg (op := o_aload 3 1) rfl rfl
theorem x_183_23  : exG TB d 183 23 L [.ref p] A = kw (sel (gc A p) [(7, 51), (24, 89), (25, 95)]) [.ref p] d 183 28 L [] A := x_cvb (op := o_cv [(7, 51), (24, 89), (25, 95)] 0 5 false none) rfl rfl x_noh rfl
theorem x_183_28n  : exG TB d 183 28 L (.null :: st) A = exG TB d 183 31 L (.null :: st) A := x_nx (op := o_cast [27]) rfl rfl
theorem x_183_28r  : exG TB d 183 28 L (.ref p :: st) A = ck (cin (gcs A p) [27]) (exG TB d 183 31 L (.ref p :: st) A) := x_gd (op := o_cast [27]) rfl rfl
theorem x_183_31  : exG TB d 183 31 (a0 :: a1 :: a2 :: a3 :: a4 :: r9) (v :: st) A = rg v (exG TB d 183 33 (a0 :: a1 :: a2 :: a3 :: some v :: r9) st A) := x_rgt (op := o_astore 4 2) rfl rfl
theorem x_183_33  : exG TB d 183 33 (a0 :: a1 :: some (.int i1) :: r9) st A = exG TB d 183 34 (a0 :: a1 :: some (.int i1) :: r9) (.int i1 :: st) A := x_nx (op := o_iload 2 1) rfl rfl
theorem x_183_34  : exG TB d 183 34 (a0 :: a1 :: a2 :: a3 :: some v :: r9) st A = rg v (exG TB d 183 36 (a0 :: a1 :: a2 :: a3 :: some v :: r9) (v :: st) A) := x_rg (op := o_aload 4 2) rfl rfl
theorem x_183_36  : exG TB d 183 36 L (.ref p :: st) A = kv (gf A p 141) d 183 39 L st A := x_bd (op := o_get 141) rfl rfl (fun _ => rfl)
theorem x_183_39  : exG TB d 183 39 L st A = exG TB d 183 40 L (.int (nI 1) :: st) A := x_nx (op := o_push 1 (.int 1)) rfl rfl
theorem x_183_40  : exG TB d 183 40 L (.int i2 :: .int i1 :: st) A = if i1 = i2 then exG TB d 183 56 L st A else exG TB d 183 43 L st A := x_if (op := o_icmp (fun x y => decide (x = y)) 56) rfl rfl rfl
theorem x_183_43  : exG TB d 183 43 (a0 :: some (.int i1) :: r9) st A = exG TB d 183 44 (a0 :: some (.int i1) :: r9) (.int i1 :: st) A := x_nx (op := o_iload 1 1) rfl rfl
theorem x_183_44  : exG TB d 183 44 L (.int i1 :: st) A = if ¬ i1 = nI 0 then exG TB d 183 60 L st A else exG TB d 183 47 L st A := x_if (op := o_if (fun x => decide (¬ x = 0)) 60) rfl rfl rfl
theorem x_183_47  : exG TB d 183 47 (a0 :: a1 :: a2 :: a3 :: some v :: r9) st A = rg v (exG TB d 183 49 (a0 :: a1 :: a2 :: a3 :: some v :: r9) (v :: st) A) := x_rg (op := o_aload 4 2) rfl rfl
theorem x_183_49  : exG TB d 183 49 L (.ref p :: st) A = kv (gf A p 141) d 183 52 L st A := x_bd (op := o_get 141) rfl rfl (fun _ => rfl)
theorem x_183_52  : exG TB d 183 52 L st A = exG TB d 183 53 L (.int (nI 2) :: st) A := x_nx (op := o_push 1 (.int 2)) rfl rfl
theorem x_183_53  : exG TB d 183 53 L (.int i2 :: .int i1 :: st) A = if ¬ i1 = i2 then exG TB d 183 60 L st A else exG TB d 183 56 L st A := x_if (op := o_icmp (fun x y => decide (¬ x = y)) 60) rfl rfl rfl
theorem x_183_56  : exG TB d 183 56 L st A = exG TB d 183 57 L (.int (nI 1) :: st) A := x_nx (op := o_push 1 (.int 1)) rfl rfl
theorem x_183_57  : exG TB d 183 57 L st A = exG TB d 183 61 L st A := x_nx (op := o_goto 61) rfl rfl
theorem x_183_60  : exG TB d 183 60 L st A = exG TB d 183 61 L (.int (nI 0) :: st) A := x_nx (op := o_push 1 (.int 0)) rfl rfl
theorem x_183_61  : exG TB d 183 61 L (.int i2 :: .int i1 :: st) A = exG TB d 183 62 L (.int (i1 + i2) :: st) A := x_nx (op := o_iop (fun x y => x + y)) rfl rfl
theorem x_183_62  : exG TB d 183 62 (a0 :: a1 :: a2 :: r9) (.int i1 :: st) A = exG TB d 183 63 (a0 :: a1 :: some (.int i1) :: r9) st A := x_nx (op := o_istore 2 1) rfl rfl
theorem x_183_63  : exG TB d 183 63 L st A = exG TB d 183 13 L st A := x_nx (op := o_goto 13) rfl rfl
theorem x_183_66  : exG TB d 183 66 (a0 :: a1 :: some (.int i1) :: r9) st A = exG TB d 183 67 (a0 :: a1 :: some (.int i1) :: r9) (.int i1 :: st) A := x_nx (op := o_iload 2 1) rfl rfl
theorem x_183_67  : exG TB d 183 67 L [v] A = ck (okv 1 v) (some (.inl (some v), A)) := x_outg (op := o_ret 1) rfl rfl
theorem e_184 {j1 : Int32} {j2 : Int32} : evG TB (d + 1) 184 [.ref p, .int j1, .int j2] A = exG TB d 184 0 [some (.ref p), some (.int j1), some (.int j2), none] [] A := evG_eq TB d 184 _ A
theorem x_184_0  : exG TB d 184 0 (some v :: r9) st A = rg v (exG TB d 184 1 (some v :: r9) (v :: st) A) := x_rg (op := o_aload 0 1) rfl rfl
theorem x_184_1  : exG TB d 184 1 (a0 :: some (.int i1) :: r9) st A = exG TB d 184 2 (a0 :: some (.int i1) :: r9) (.int i1 :: st) A := x_nx (op := o_iload 1 1) rfl rfl
theorem x_184_2  : exG TB d 184 2 L [b0, .ref p] A = kw (sel (gc A p) [(0, 185)]) [.ref p, b0] d 184 5 L [] A := x_cvb (op := o_cv [(0, 185)] 1 3 false none) rfl rfl x_noh rfl
theorem x_184_5  : exG TB d 184 5 (a0 :: a1 :: a2 :: a3 :: r9) (v :: st) A = rg v (exG TB d 184 6 (a0 :: a1 :: a2 :: some v :: r9) st A) := x_rgt (op := o_astore 3 1) rfl rfl
theorem x_184_6  : exG TB d 184 6 (a0 :: a1 :: some (.int i1) :: r9) st A = exG TB d 184 7 (a0 :: a1 :: some (.int i1) :: r9) (.int i1 :: st) A := x_nx (op := o_iload 2 1) rfl rfl
theorem x_184_7  : exG TB d 184 7 L (.int i1 :: st) A = exG TB d 184 8 L (.long i1.toInt64 :: st) A := x_nx (op := o_i2l) rfl rfl
theorem x_184_8  : exG TB d 184 8 L st A = exG TB d 184 9 L (.long 0 :: st) A := x_nx (op := o_push 1 (.long 0)) rfl rfl
theorem x_184_9  : exG TB d 184 9 L st A = exG TB d 184 12 L (.long 5 :: st) A := x_nx (op := o_push 3 (.long 5)) rfl rfl
theorem x_184_12  : exG TB d 184 12 L [b2, b1, b0] A = kc (evG TB d 165 [b0, b1, b2] A) d 184 15 L [] := x_cv (op := o_cs 165 3 false none) rfl rfl x_noh rfl
theorem x_184_15  : exG TB d 184 15 L [b0] A = kc0 (evG TB d 172 [b0] A) d 184 18 L [] := x_c0 (op := o_cs 172 1 true none) rfl rfl x_noh rfl
theorem x_184_18  : exG TB d 184 18 (a0 :: a1 :: some (.int i1) :: r9) st A = exG TB d 184 19 (a0 :: a1 :: some (.int i1) :: r9) (.int i1 :: st) A := x_nx (op := o_iload 2 1) rfl rfl
theorem x_184_19  : exG TB d 184 19 L (.int i1 :: st) A = exG TB d 184 (swt 0 [52, 57, 62, 67, 72] 77 i1) L st A := x_nx (op := o_sw (swt 0 [52, 57, 62, 67, 72] 77)) rfl rfl
theorem x_184_52  : exG TB d 184 52 (a0 :: a1 :: a2 :: some v :: r9) st A = rg v (exG TB d 184 53 (a0 :: a1 :: a2 :: some v :: r9) (v :: st) A) := x_rg (op := o_aload 3 1) rfl rfl
theorem x_184_53  : exG TB d 184 53 L (.ref p :: st) A = kv (gf A p 63) d 184 56 L st A := x_bd (op := o_get 63) rfl rfl (fun _ => rfl)
theorem x_184_56  : exG TB d 184 56 L [v] A = ck (okv 1 v) (some (.inl (some v), A)) := x_outg (op := o_ret 1) rfl rfl
theorem x_184_57  : exG TB d 184 57 (a0 :: a1 :: a2 :: some v :: r9) st A = rg v (exG TB d 184 58 (a0 :: a1 :: a2 :: some v :: r9) (v :: st) A) := x_rg (op := o_aload 3 1) rfl rfl
theorem x_184_58  : exG TB d 184 58 L (.ref p :: st) A = kv (gf A p 64) d 184 61 L st A := x_bd (op := o_get 64) rfl rfl (fun _ => rfl)
theorem x_184_61  : exG TB d 184 61 L [v] A = ck (okv 1 v) (some (.inl (some v), A)) := x_outg (op := o_ret 1) rfl rfl
theorem x_184_62  : exG TB d 184 62 (a0 :: a1 :: a2 :: some v :: r9) st A = rg v (exG TB d 184 63 (a0 :: a1 :: a2 :: some v :: r9) (v :: st) A) := x_rg (op := o_aload 3 1) rfl rfl
theorem x_184_63  : exG TB d 184 63 L (.ref p :: st) A = kv (gf A p 65) d 184 66 L st A := x_bd (op := o_get 65) rfl rfl (fun _ => rfl)
theorem x_184_66  : exG TB d 184 66 L [v] A = ck (okv 1 v) (some (.inl (some v), A)) := x_outg (op := o_ret 1) rfl rfl
theorem x_184_67  : exG TB d 184 67 (a0 :: a1 :: a2 :: some v :: r9) st A = rg v (exG TB d 184 68 (a0 :: a1 :: a2 :: some v :: r9) (v :: st) A) := x_rg (op := o_aload 3 1) rfl rfl
theorem x_184_68  : exG TB d 184 68 L (.ref p :: st) A = kv (gf A p 66) d 184 71 L st A := x_bd (op := o_get 66) rfl rfl (fun _ => rfl)
theorem x_184_71  : exG TB d 184 71 L [v] A = ck (okv 1 v) (some (.inl (some v), A)) := x_outg (op := o_ret 1) rfl rfl
theorem x_184_72  : exG TB d 184 72 (a0 :: a1 :: a2 :: some v :: r9) st A = rg v (exG TB d 184 73 (a0 :: a1 :: a2 :: some v :: r9) (v :: st) A) := x_rg (op := o_aload 3 1) rfl rfl
theorem x_184_73  : exG TB d 184 73 L (.ref p :: st) A = kv (gf A p 67) d 184 76 L st A := x_bd (op := o_get 67) rfl rfl (fun _ => rfl)
theorem x_184_76  : exG TB d 184 76 L [v] A = ck (okv 1 v) (some (.inl (some v), A)) := x_outg (op := o_ret 1) rfl rfl
theorem x_184_77  : exG TB d 184 77 (a0 :: a1 :: a2 :: some v :: r9) st A = rg v (exG TB d 184 78 (a0 :: a1 :: a2 :: some v :: r9) (v :: st) A) := x_rg (op := o_aload 3 1) rfl rfl
theorem x_184_78  : exG TB d 184 78 L (.ref p :: st) A = kv (gf A p 68) d 184 81 L st A := x_bd (op := o_get 68) rfl rfl (fun _ => rfl)
theorem x_184_81  : exG TB d 184 81 L [v] A = ck (okv 1 v) (some (.inl (some v), A)) := x_outg (op := o_ret 1) rfl rfl
theorem e_185 {j1 : Int32} : evG TB (d + 1) 185 [.ref p, .int j1] A = exG TB d 185 0 [some (.ref p), some (.int j1)] [] A := evG_eq TB d 185 _ A
theorem x_185_0  : exG TB d 185 0 (a0 :: some (.int i1) :: r9) st A = exG TB d 185 1 (a0 :: some (.int i1) :: r9) (.int i1 :: st) A := x_nx (op := o_iload 1 1) rfl rfl
theorem x_185_1  : exG TB d 185 1 L (.int i1 :: st) A = exG TB d 185 2 L (.long i1.toInt64 :: st) A := x_nx (op := o_i2l) rfl rfl
theorem x_185_2  : exG TB d 185 2 L st A = exG TB d 185 3 L (.long 0 :: st) A := x_nx (op := o_push 1 (.long 0)) rfl rfl
theorem x_185_3  : exG TB d 185 3 (some v :: r9) st A = rg v (exG TB d 185 4 (some v :: r9) (v :: st) A) := x_rg (op := o_aload 0 1) rfl rfl
theorem x_185_4  : exG TB d 185 4 L (.ref p :: st) A = kv (gf A p 0) d 185 7 L st A := x_bd (op := o_get 0) rfl rfl (fun _ => rfl)
theorem x_185_7  : exG TB d 185 7 L (.ref p :: st) A = kv (gf A p 9) d 185 10 L st A := x_bd (op := o_get 9) rfl rfl (fun _ => rfl)
theorem x_185_10  : exG TB d 185 10 L st A = exG TB d 185 11 L (.int (nI 1) :: st) A := x_nx (op := o_push 1 (.int 1)) rfl rfl
theorem x_185_11  : exG TB d 185 11 L (.int i2 :: .int i1 :: st) A = exG TB d 185 12 L (.int (i1 - i2) :: st) A := x_nx (op := o_iop (fun x y => x - y)) rfl rfl
theorem x_185_12  : exG TB d 185 12 L (.int i1 :: st) A = exG TB d 185 13 L (.long i1.toInt64 :: st) A := x_nx (op := o_i2l) rfl rfl
theorem x_185_13  : exG TB d 185 13 L [b2, b1, b0] A = kc (evG TB d 165 [b0, b1, b2] A) d 185 16 L [] := x_cv (op := o_cs 165 3 false none) rfl rfl x_noh rfl
theorem x_185_16  : exG TB d 185 16 L [b0] A = kc0 (evG TB d 176 [b0] A) d 185 19 L [] := x_c0 (op := o_cs 176 1 true none) rfl rfl x_noh rfl
theorem x_185_19  : exG TB d 185 19 (some v :: r9) st A = rg v (exG TB d 185 20 (some v :: r9) (v :: st) A) := x_rg (op := o_aload 0 1) rfl rfl
theorem x_185_20  : exG TB d 185 20 L (.ref p :: st) A = kv (gf A p 0) d 185 23 L st A := x_bd (op := o_get 0) rfl rfl (fun _ => rfl)
theorem x_185_23  : exG TB d 185 23 L (.ref p :: st) A = kv (gf A p 8) d 185 26 L st A := x_bd (op := o_get 8) rfl rfl (fun _ => rfl)
theorem x_185_26  : exG TB d 185 26 (a0 :: some (.int i1) :: r9) st A = exG TB d 185 27 (a0 :: some (.int i1) :: r9) (.int i1 :: st) A := x_nx (op := o_iload 1 1) rfl rfl
theorem x_185_27  : exG TB d 185 27 L (.int i1 :: .ref p :: st) A = kq (rdQ (ga A p) i1) d 185 28 L st A := x_bd (op := o_rdQ) rfl rfl (fun _ => rfl)
theorem x_185_28  : exG TB d 185 28 L [v] A = ck (okv 0 v) (some (.inl (some v), A)) := x_outg (op := o_ret 0) rfl rfl
theorem e_186 {j1 : Int32} {j2 : Int32} : evG TB (d + 1) 186 [.ref p, .int j1, .int j2] A = exG TB d 186 0 [some (.ref p), some (.int j1), some (.int j2), none] [] A := evG_eq TB d 186 _ A
theorem x_186_0  : exG TB d 186 0 (some v :: r9) st A = rg v (exG TB d 186 1 (some v :: r9) (v :: st) A) := x_rg (op := o_aload 0 1) rfl rfl
theorem x_186_1  : exG TB d 186 1 (a0 :: some (.int i1) :: r9) st A = exG TB d 186 2 (a0 :: some (.int i1) :: r9) (.int i1 :: st) A := x_nx (op := o_iload 1 1) rfl rfl
theorem x_186_2  : exG TB d 186 2 L [b0, .ref p] A = kw (sel (gc A p) [(0, 185)]) [.ref p, b0] d 186 5 L [] A := x_cvb (op := o_cv [(0, 185)] 1 3 false none) rfl rfl x_noh rfl
theorem x_186_5  : exG TB d 186 5 (a0 :: a1 :: a2 :: a3 :: r9) (v :: st) A = rg v (exG TB d 186 6 (a0 :: a1 :: a2 :: some v :: r9) st A) := x_rgt (op := o_astore 3 1) rfl rfl
theorem x_186_6  : exG TB d 186 6 (a0 :: a1 :: some (.int i1) :: r9) st A = exG TB d 186 7 (a0 :: a1 :: some (.int i1) :: r9) (.int i1 :: st) A := x_nx (op := o_iload 2 1) rfl rfl
theorem x_186_7  : exG TB d 186 7 L (.int i1 :: st) A = exG TB d 186 8 L (.long i1.toInt64 :: st) A := x_nx (op := o_i2l) rfl rfl
theorem x_186_8  : exG TB d 186 8 L st A = exG TB d 186 9 L (.long 1 :: st) A := x_nx (op := o_push 1 (.long 1)) rfl rfl
theorem x_186_9  : exG TB d 186 9 L st A = exG TB d 186 12 L (.long 100000 :: st) A := x_nx (op := o_push 3 (.long 100000)) rfl rfl
theorem x_186_12  : exG TB d 186 12 L [b2, b1, b0] A = kc (evG TB d 165 [b0, b1, b2] A) d 186 15 L [] := x_cv (op := o_cs 165 3 false none) rfl rfl x_noh rfl
theorem x_186_15  : exG TB d 186 15 L [b0] A = kc0 (evG TB d 172 [b0] A) d 186 18 L [] := x_c0 (op := o_cs 172 1 true none) rfl rfl x_noh rfl
theorem x_186_18  : exG TB d 186 18 (a0 :: a1 :: a2 :: some v :: r9) st A = rg v (exG TB d 186 19 (a0 :: a1 :: a2 :: some v :: r9) (v :: st) A) := x_rg (op := o_aload 3 1) rfl rfl
theorem x_186_19  : exG TB d 186 19 L (v :: st) A = ck (c1 v) (exG TB d 186 20 L (v :: v :: st) A) := x_gd (op := o_dup) rfl rfl
theorem x_186_20  : exG TB d 186 20 L (.ref p :: st) A = kv (gf A p 63) d 186 23 L st A := x_bd (op := o_get 63) rfl rfl (fun _ => rfl)
theorem x_186_23  : exG TB d 186 23 (a0 :: a1 :: some (.int i1) :: r9) st A = exG TB d 186 24 (a0 :: a1 :: some (.int i1) :: r9) (.int i1 :: st) A := x_nx (op := o_iload 2 1) rfl rfl
theorem x_186_24  : exG TB d 186 24 L (.int i2 :: .int i1 :: st) A = exG TB d 186 25 L (.int (i1 + i2) :: st) A := x_nx (op := o_iop (fun x y => x + y)) rfl rfl
theorem x_186_25  : exG TB d 186 25 L (v :: .ref p :: st) A = ck ((gf A p 63).isSome && okv 1 v) (exG TB d 186 28 L st (setf A p 63 v)) := x_gd (op := o_put 63 1) rfl rfl
theorem x_186_28  : exG TB d 186 28 (a0 :: a1 :: a2 :: some v :: r9) st A = rg v (exG TB d 186 29 (a0 :: a1 :: a2 :: some v :: r9) (v :: st) A) := x_rg (op := o_aload 3 1) rfl rfl
theorem x_186_29  : exG TB d 186 29 L (.ref p :: st) A = kv (gf A p 63) d 186 32 L st A := x_bd (op := o_get 63) rfl rfl (fun _ => rfl)
theorem x_186_32  : exG TB d 186 32 L [v] A = ck (okv 1 v) (some (.inl (some v), A)) := x_outg (op := o_ret 1) rfl rfl
theorem e_187 {j1 : Int32} {j2 : Int32} : evG TB (d + 1) 187 [.ref p, .int j1, .int j2] A = exG TB d 187 0 [some (.ref p), some (.int j1), some (.int j2), none] [] A := evG_eq TB d 187 _ A
theorem x_187_0  : exG TB d 187 0 (some v :: r9) st A = rg v (exG TB d 187 1 (some v :: r9) (v :: st) A) := x_rg (op := o_aload 0 1) rfl rfl
theorem x_187_1  : exG TB d 187 1 (a0 :: some (.int i1) :: r9) st A = exG TB d 187 2 (a0 :: some (.int i1) :: r9) (.int i1 :: st) A := x_nx (op := o_iload 1 1) rfl rfl
theorem x_187_2  : exG TB d 187 2 L [b0, .ref p] A = kw (sel (gc A p) [(0, 188)]) [.ref p, b0] d 187 5 L [] A := x_cvb (op := o_cv [(0, 188)] 1 3 false none) rfl rfl x_noh rfl
theorem x_187_5  : exG TB d 187 5 (a0 :: a1 :: a2 :: a3 :: r9) (v :: st) A = rg v (exG TB d 187 6 (a0 :: a1 :: a2 :: some v :: r9) st A) := x_rgt (op := o_astore 3 1) rfl rfl
theorem x_187_6  : exG TB d 187 6 (a0 :: a1 :: some (.int i1) :: r9) st A = exG TB d 187 7 (a0 :: a1 :: some (.int i1) :: r9) (.int i1 :: st) A := x_nx (op := o_iload 2 1) rfl rfl
theorem x_187_7  : exG TB d 187 7 L (.int i1 :: st) A = exG TB d 187 8 L (.long i1.toInt64 :: st) A := x_nx (op := o_i2l) rfl rfl
theorem x_187_8  : exG TB d 187 8 L st A = exG TB d 187 9 L (.long 0 :: st) A := x_nx (op := o_push 1 (.long 0)) rfl rfl
theorem x_187_9  : exG TB d 187 9 L st A = exG TB d 187 12 L (.long 6 :: st) A := x_nx (op := o_push 3 (.long 6)) rfl rfl
theorem x_187_12  : exG TB d 187 12 L [b2, b1, b0] A = kc (evG TB d 165 [b0, b1, b2] A) d 187 15 L [] := x_cv (op := o_cs 165 3 false none) rfl rfl x_noh rfl
theorem x_187_15  : exG TB d 187 15 L [b0] A = kc0 (evG TB d 172 [b0] A) d 187 18 L [] := x_c0 (op := o_cs 172 1 true none) rfl rfl x_noh rfl
theorem x_187_18  : exG TB d 187 18 (a0 :: a1 :: some (.int i1) :: r9) st A = exG TB d 187 19 (a0 :: a1 :: some (.int i1) :: r9) (.int i1 :: st) A := x_nx (op := o_iload 2 1) rfl rfl
theorem x_187_19  : exG TB d 187 19 L (.int i1 :: st) A = exG TB d 187 (swt 0 [56, 61, 66, 71, 81, 86] 91 i1) L st A := x_nx (op := o_sw (swt 0 [56, 61, 66, 71, 81, 86] 91)) rfl rfl
theorem x_187_56  : exG TB d 187 56 (a0 :: a1 :: a2 :: some v :: r9) st A = rg v (exG TB d 187 57 (a0 :: a1 :: a2 :: some v :: r9) (v :: st) A) := x_rg (op := o_aload 3 1) rfl rfl
theorem x_187_57  : exG TB d 187 57 L (.ref p :: st) A = kv (gf A p 69) d 187 60 L st A := x_bd (op := o_get 69) rfl rfl (fun _ => rfl)
theorem x_187_60  : exG TB d 187 60 L [v] A = ck (okv 1 v) (some (.inl (some v), A)) := x_outg (op := o_ret 1) rfl rfl
theorem x_187_61  : exG TB d 187 61 (a0 :: a1 :: a2 :: some v :: r9) st A = rg v (exG TB d 187 62 (a0 :: a1 :: a2 :: some v :: r9) (v :: st) A) := x_rg (op := o_aload 3 1) rfl rfl
theorem x_187_62  : exG TB d 187 62 L (.ref p :: st) A = kv (gf A p 70) d 187 65 L st A := x_bd (op := o_get 70) rfl rfl (fun _ => rfl)
theorem x_187_65  : exG TB d 187 65 L [v] A = ck (okv 1 v) (some (.inl (some v), A)) := x_outg (op := o_ret 1) rfl rfl
theorem x_187_66  : exG TB d 187 66 (a0 :: a1 :: a2 :: some v :: r9) st A = rg v (exG TB d 187 67 (a0 :: a1 :: a2 :: some v :: r9) (v :: st) A) := x_rg (op := o_aload 3 1) rfl rfl
theorem x_187_67  : exG TB d 187 67 L (.ref p :: st) A = kv (gf A p 71) d 187 70 L st A := x_bd (op := o_get 71) rfl rfl (fun _ => rfl)
theorem x_187_70  : exG TB d 187 70 L [v] A = ck (okv 1 v) (some (.inl (some v), A)) := x_outg (op := o_ret 1) rfl rfl
theorem x_187_71  : exG TB d 187 71 (some v :: r9) st A = rg v (exG TB d 187 72 (some v :: r9) (v :: st) A) := x_rg (op := o_aload 0 1) rfl rfl
theorem x_187_72  : exG TB d 187 72 L (.ref p :: st) A = kv (gf A p 0) d 187 75 L st A := x_bd (op := o_get 0) rfl rfl (fun _ => rfl)
theorem x_187_75  : exG TB d 187 75 (a0 :: some (.int i1) :: r9) st A = exG TB d 187 76 (a0 :: some (.int i1) :: r9) (.int i1 :: st) A := x_nx (op := o_iload 1 1) rfl rfl
theorem x_187_76  : exG TB d 187 76 L st A = exG TB d 187 77 L (.int (nI 1) :: st) A := x_nx (op := o_push 1 (.int 1)) rfl rfl
theorem x_187_77  : exG TB d 187 77 L [b1, b0, .ref p] A = kw (sel (gc A p) [(1, 260)]) [.ref p, b0, b1] d 187 80 L [] A := x_cvb (op := o_cv [(1, 260)] 2 3 false none) rfl rfl x_noh rfl
theorem x_187_80  : exG TB d 187 80 L [v] A = ck (okv 1 v) (some (.inl (some v), A)) := x_outg (op := o_ret 1) rfl rfl
theorem x_187_81  : exG TB d 187 81 (a0 :: a1 :: a2 :: some v :: r9) st A = rg v (exG TB d 187 82 (a0 :: a1 :: a2 :: some v :: r9) (v :: st) A) := x_rg (op := o_aload 3 1) rfl rfl
theorem x_187_82  : exG TB d 187 82 L (.ref p :: st) A = kv (gf A p 72) d 187 85 L st A := x_bd (op := o_get 72) rfl rfl (fun _ => rfl)
theorem x_187_85  : exG TB d 187 85 L [v] A = ck (okv 1 v) (some (.inl (some v), A)) := x_outg (op := o_ret 1) rfl rfl
theorem x_187_86  : exG TB d 187 86 (a0 :: a1 :: a2 :: some v :: r9) st A = rg v (exG TB d 187 87 (a0 :: a1 :: a2 :: some v :: r9) (v :: st) A) := x_rg (op := o_aload 3 1) rfl rfl
theorem x_187_87  : exG TB d 187 87 L (.ref p :: st) A = kv (gf A p 73) d 187 90 L st A := x_bd (op := o_get 73) rfl rfl (fun _ => rfl)
theorem x_187_90  : exG TB d 187 90 L [v] A = ck (okv 1 v) (some (.inl (some v), A)) := x_outg (op := o_ret 1) rfl rfl
theorem x_187_91  : exG TB d 187 91 (a0 :: a1 :: a2 :: some v :: r9) st A = rg v (exG TB d 187 92 (a0 :: a1 :: a2 :: some v :: r9) (v :: st) A) := x_rg (op := o_aload 3 1) rfl rfl
theorem x_187_92  : exG TB d 187 92 L (.ref p :: st) A = kv (gf A p 74) d 187 95 L st A := x_bd (op := o_get 74) rfl rfl (fun _ => rfl)
theorem x_187_95  : exG TB d 187 95 L [v] A = ck (okv 1 v) (some (.inl (some v), A)) := x_outg (op := o_ret 1) rfl rfl
theorem e_188 {j1 : Int32} : evG TB (d + 1) 188 [.ref p, .int j1] A = exG TB d 188 0 [some (.ref p), some (.int j1)] [] A := evG_eq TB d 188 _ A
theorem x_188_0  : exG TB d 188 0 (a0 :: some (.int i1) :: r9) st A = exG TB d 188 1 (a0 :: some (.int i1) :: r9) (.int i1 :: st) A := x_nx (op := o_iload 1 1) rfl rfl
theorem x_188_1  : exG TB d 188 1 L (.int i1 :: st) A = exG TB d 188 2 L (.long i1.toInt64 :: st) A := x_nx (op := o_i2l) rfl rfl
theorem x_188_2  : exG TB d 188 2 L st A = exG TB d 188 3 L (.long 0 :: st) A := x_nx (op := o_push 1 (.long 0)) rfl rfl
theorem x_188_3  : exG TB d 188 3 (some v :: r9) st A = rg v (exG TB d 188 4 (some v :: r9) (v :: st) A) := x_rg (op := o_aload 0 1) rfl rfl
theorem x_188_4  : exG TB d 188 4 L (.ref p :: st) A = kv (gf A p 0) d 188 7 L st A := x_bd (op := o_get 0) rfl rfl (fun _ => rfl)
theorem x_188_7  : exG TB d 188 7 L (.ref p :: st) A = kv (gf A p 10) d 188 10 L st A := x_bd (op := o_get 10) rfl rfl (fun _ => rfl)
theorem x_188_10  : exG TB d 188 10 L [.ref p, w0, w1] A = kw (sel (gc A p) [(3, 42)]) [.ref p] d 188 13 L [w0, w1] A := x_cvb (op := o_cv [(3, 42)] 0 3 false none) rfl rfl x_noh rfl
theorem x_188_13  : exG TB d 188 13 L st A = exG TB d 188 14 L (.int (nI 1) :: st) A := x_nx (op := o_push 1 (.int 1)) rfl rfl
theorem x_188_14  : exG TB d 188 14 L (.int i2 :: .int i1 :: st) A = exG TB d 188 15 L (.int (i1 - i2) :: st) A := x_nx (op := o_iop (fun x y => x - y)) rfl rfl
theorem x_188_15  : exG TB d 188 15 L (.int i1 :: st) A = exG TB d 188 16 L (.long i1.toInt64 :: st) A := x_nx (op := o_i2l) rfl rfl
theorem x_188_16  : exG TB d 188 16 L [b2, b1, b0] A = kc (evG TB d 165 [b0, b1, b2] A) d 188 19 L [] := x_cv (op := o_cs 165 3 false none) rfl rfl x_noh rfl
theorem x_188_19  : exG TB d 188 19 L [b0] A = kc0 (evG TB d 176 [b0] A) d 188 22 L [] := x_c0 (op := o_cs 176 1 true none) rfl rfl x_noh rfl
theorem x_188_22  : exG TB d 188 22 (some v :: r9) st A = rg v (exG TB d 188 23 (some v :: r9) (v :: st) A) := x_rg (op := o_aload 0 1) rfl rfl
theorem x_188_23  : exG TB d 188 23 L (.ref p :: st) A = kv (gf A p 0) d 188 26 L st A := x_bd (op := o_get 0) rfl rfl (fun _ => rfl)
theorem x_188_26  : exG TB d 188 26 L (.ref p :: st) A = kv (gf A p 10) d 188 29 L st A := x_bd (op := o_get 10) rfl rfl (fun _ => rfl)
theorem x_188_29  : exG TB d 188 29 (a0 :: some (.int i1) :: r9) st A = exG TB d 188 30 (a0 :: some (.int i1) :: r9) (.int i1 :: st) A := x_nx (op := o_iload 1 1) rfl rfl
theorem x_188_30  : exG TB d 188 30 L [b0, .ref p] A = kw (sel (gc A p) [(3, 47)]) [.ref p, b0] d 188 33 L [] A := x_cvb (op := o_cv [(3, 47)] 1 3 false none) rfl rfl x_noh rfl
theorem x_188_33n  : exG TB d 188 33 L (.null :: st) A = exG TB d 188 36 L (.null :: st) A := x_nx (op := o_cast [13]) rfl rfl
theorem x_188_33r  : exG TB d 188 33 L (.ref p :: st) A = ck (cin (gcs A p) [13]) (exG TB d 188 36 L (.ref p :: st) A) := x_gd (op := o_cast [13]) rfl rfl
theorem x_188_36  : exG TB d 188 36 L [v] A = ck (okv 0 v) (some (.inl (some v), A)) := x_outg (op := o_ret 0) rfl rfl
theorem e_189 {j1 : Int32} {j2 : Int32} : evG TB (d + 1) 189 [.ref p, .int j1, .int j2] A = exG TB d 189 0 [some (.ref p), some (.int j1), some (.int j2), none, none] [] A := evG_eq TB d 189 _ A
theorem x_189_0  : exG TB d 189 0 (some v :: r9) st A = rg v (exG TB d 189 1 (some v :: r9) (v :: st) A) := x_rg (op := o_aload 0 1) rfl rfl
theorem x_189_1  : exG TB d 189 1 (a0 :: some (.int i1) :: r9) st A = exG TB d 189 2 (a0 :: some (.int i1) :: r9) (.int i1 :: st) A := x_nx (op := o_iload 1 1) rfl rfl
theorem x_189_2  : exG TB d 189 2 L [b0, .ref p] A = kw (sel (gc A p) [(0, 188)]) [.ref p, b0] d 189 5 L [] A := x_cvb (op := o_cv [(0, 188)] 1 3 false none) rfl rfl x_noh rfl
theorem x_189_5  : exG TB d 189 5 (a0 :: a1 :: a2 :: a3 :: r9) (v :: st) A = rg v (exG TB d 189 6 (a0 :: a1 :: a2 :: some v :: r9) st A) := x_rgt (op := o_astore 3 1) rfl rfl
theorem x_189_6  : exG TB d 189 6 (some v :: r9) st A = rg v (exG TB d 189 7 (some v :: r9) (v :: st) A) := x_rg (op := o_aload 0 1) rfl rfl
theorem x_189_7  : exG TB d 189 7 (a0 :: a1 :: some (.int i1) :: r9) st A = exG TB d 189 8 (a0 :: a1 :: some (.int i1) :: r9) (.int i1 :: st) A := x_nx (op := o_iload 2 1) rfl rfl
theorem x_189_8  : exG TB d 189 8 L [b0, .ref p] A = kw0 (sel (gc A p) [(0, 179)]) [.ref p, b0] d 189 11 L [] A := x_c0b (op := o_cv [(0, 179)] 1 3 true none) rfl rfl x_noh rfl
theorem x_189_11  : exG TB d 189 11 (a0 :: a1 :: a2 :: some v :: r9) st A = rg v (exG TB d 189 12 (a0 :: a1 :: a2 :: some v :: r9) (v :: st) A) := x_rg (op := o_aload 3 1) rfl rfl
theorem x_189_12  : exG TB d 189 12 L (.ref p :: st) A = kv (gf A p 70) d 189 15 L st A := x_bd (op := o_get 70) rfl rfl (fun _ => rfl)
theorem x_189_15  : exG TB d 189 15 (a0 :: a1 :: a2 :: a3 :: a4 :: r9) (.int i1 :: st) A = exG TB d 189 17 (a0 :: a1 :: a2 :: a3 :: some (.int i1) :: r9) st A := x_nx (op := o_istore 4 2) rfl rfl
theorem x_189_17  : exG TB d 189 17 (a0 :: a1 :: a2 :: some v :: r9) st A = rg v (exG TB d 189 18 (a0 :: a1 :: a2 :: some v :: r9) (v :: st) A) := x_rg (op := o_aload 3 1) rfl rfl
theorem x_189_18  : exG TB d 189 18 (a0 :: a1 :: some (.int i1) :: r9) st A = exG TB d 189 19 (a0 :: a1 :: some (.int i1) :: r9) (.int i1 :: st) A := x_nx (op := o_iload 2 1) rfl rfl
theorem x_189_19  : exG TB d 189 19 L (v :: .ref p :: st) A = ck ((gf A p 70).isSome && okv 1 v) (exG TB d 189 22 L st (setf A p 70 v)) := x_gd (op := o_put 70 1) rfl rfl
theorem x_189_22  : exG TB d 189 22 (a0 :: a1 :: a2 :: a3 :: some (.int i1) :: r9) st A = exG TB d 189 24 (a0 :: a1 :: a2 :: a3 :: some (.int i1) :: r9) (.int i1 :: st) A := x_nx (op := o_iload 4 2) rfl rfl
theorem x_189_24  : exG TB d 189 24 L [v] A = ck (okv 1 v) (some (.inl (some v), A)) := x_outg (op := o_ret 1) rfl rfl
theorem e_190 {j1 : Int32} {j2 : Int32} {j3 : Int32} {j4 : Int32} : evG TB (d + 1) 190 [.ref p, .int j1, .int j2, .int j3, .int j4] A = exG TB d 190 0 [some (.ref p), some (.int j1), some (.int j2), some (.int j3), some (.int j4), none] [] A := evG_eq TB d 190 _ A
theorem x_190_0  : exG TB d 190 0 (some v :: r9) st A = rg v (exG TB d 190 1 (some v :: r9) (v :: st) A) := x_rg (op := o_aload 0 1) rfl rfl
theorem x_190_1  : exG TB d 190 1 (a0 :: some (.int i1) :: r9) st A = exG TB d 190 2 (a0 :: some (.int i1) :: r9) (.int i1 :: st) A := x_nx (op := o_iload 1 1) rfl rfl
theorem x_190_2  : exG TB d 190 2 (a0 :: a1 :: some (.int i1) :: r9) st A = exG TB d 190 3 (a0 :: a1 :: some (.int i1) :: r9) (.int i1 :: st) A := x_nx (op := o_iload 2 1) rfl rfl
theorem x_190_3  : exG TB d 190 3 L [b1, b0, .ref p] A = kw0 (sel (gc A p) [(0, 191)]) [.ref p, b0, b1] d 190 6 L [] A := x_c0b (op := o_cv [(0, 191)] 2 3 true none) rfl rfl x_noh rfl
theorem x_190_6  : exG TB d 190 6 (a0 :: some (.int i1) :: r9) st A = exG TB d 190 7 (a0 :: some (.int i1) :: r9) (.int i1 :: st) A := x_nx (op := o_iload 1 1) rfl rfl
theorem x_190_7  : exG TB d 190 7 (a0 :: a1 :: some (.int i1) :: r9) st A = exG TB d 190 8 (a0 :: a1 :: some (.int i1) :: r9) (.int i1 :: st) A := x_nx (op := o_iload 2 1) rfl rfl
theorem x_190_8  : exG TB d 190 8 L (.int i2 :: .int i1 :: st) A = if i1 = i2 then exG TB d 190 40 L st A else exG TB d 190 11 L st A := x_if (op := o_icmp (fun x y => decide (x = y)) 40) rfl rfl rfl
theorem x_190_11  : exG TB d 190 11 (a0 :: a1 :: a2 :: some (.int i1) :: r9) st A = exG TB d 190 12 (a0 :: a1 :: a2 :: some (.int i1) :: r9) (.int i1 :: st) A := x_nx (op := o_iload 3 1) rfl rfl
theorem x_190_12  : exG TB d 190 12 L (.int i1 :: st) A = exG TB d 190 13 L (.long i1.toInt64 :: st) A := x_nx (op := o_i2l) rfl rfl
theorem x_190_13  : exG TB d 190 13 L st A = exG TB d 190 14 L (.long 0 :: st) A := x_nx (op := o_push 1 (.long 0)) rfl rfl
theorem x_190_14  : exG TB d 190 14 L st A = exG TB d 190 17 L (.long 600 :: st) A := x_nx (op := o_push 3 (.long 600)) rfl rfl
theorem x_190_17  : exG TB d 190 17 L [b2, b1, b0] A = kc (evG TB d 165 [b0, b1, b2] A) d 190 20 L [] := x_cv (op := o_cs 165 3 false none) rfl rfl x_noh rfl
theorem x_190_20  : exG TB d 190 20 L (.int i1 :: st) A = if i1 = nI 0 then exG TB d 190 40 L st A else exG TB d 190 23 L st A := x_if (op := o_if (fun x => decide (x = 0)) 40) rfl rfl rfl
theorem x_190_23  : exG TB d 190 23 (a0 :: a1 :: a2 :: a3 :: some (.int i1) :: r9) st A = exG TB d 190 25 (a0 :: a1 :: a2 :: a3 :: some (.int i1) :: r9) (.int i1 :: st) A := x_nx (op := o_iload 4 2) rfl rfl
theorem x_190_25  : exG TB d 190 25 L (.int i1 :: st) A = exG TB d 190 26 L (.long i1.toInt64 :: st) A := x_nx (op := o_i2l) rfl rfl
theorem x_190_26  : exG TB d 190 26 L st A = exG TB d 190 27 L (.long 0 :: st) A := x_nx (op := o_push 1 (.long 0)) rfl rfl
theorem x_190_27  : exG TB d 190 27 L st A = exG TB d 190 30 L (.long 3 :: st) A := x_nx (op := o_push 3 (.long 3)) rfl rfl
theorem x_190_30  : exG TB d 190 30 L [b2, b1, b0] A = kc (evG TB d 165 [b0, b1, b2] A) d 190 33 L [] := x_cv (op := o_cs 165 3 false none) rfl rfl x_noh rfl
theorem x_190_33  : exG TB d 190 33 L (.int i1 :: st) A = if i1 = nI 0 then exG TB d 190 40 L st A else exG TB d 190 36 L st A := x_if (op := o_if (fun x => decide (x = 0)) 40) rfl rfl rfl
theorem x_190_36  : exG TB d 190 36 L st A = exG TB d 190 37 L (.int (nI 1) :: st) A := x_nx (op := o_push 1 (.int 1)) rfl rfl
theorem x_190_37  : exG TB d 190 37 L st A = exG TB d 190 41 L st A := x_nx (op := o_goto 41) rfl rfl
theorem x_190_40  : exG TB d 190 40 L st A = exG TB d 190 41 L (.int (nI 0) :: st) A := x_nx (op := o_push 1 (.int 0)) rfl rfl
theorem x_190_41  : exG TB d 190 41 L [b0] A = kc0 (evG TB d 172 [b0] A) d 190 44 L [] := x_c0 (op := o_cs 172 1 true none) rfl rfl x_noh rfl
theorem x_190_44  : exG TB d 190 44 (some v :: r9) st A = rg v (exG TB d 190 45 (some v :: r9) (v :: st) A) := x_rg (op := o_aload 0 1) rfl rfl
theorem x_190_45  : exG TB d 190 45 (a0 :: some (.int i1) :: r9) st A = exG TB d 190 46 (a0 :: some (.int i1) :: r9) (.int i1 :: st) A := x_nx (op := o_iload 1 1) rfl rfl
theorem x_190_46  : exG TB d 190 46 (a0 :: a1 :: some (.int i1) :: r9) st A = exG TB d 190 47 (a0 :: a1 :: some (.int i1) :: r9) (.int i1 :: st) A := x_nx (op := o_iload 2 1) rfl rfl
theorem x_190_47  : exG TB d 190 47 (a0 :: a1 :: a2 :: some (.int i1) :: r9) st A = exG TB d 190 48 (a0 :: a1 :: a2 :: some (.int i1) :: r9) (.int i1 :: st) A := x_nx (op := o_iload 3 1) rfl rfl
theorem x_190_48  : exG TB d 190 48 L [b2, b1, b0, .ref p] A = kw (sel (gc A p) [(0, 192)]) [.ref p, b0, b1, b2] d 190 51 L [] A := x_cvb (op := o_cv [(0, 192)] 3 3 false none) rfl rfl x_noh rfl
theorem x_190_51  : exG TB d 190 51 (a0 :: a1 :: a2 :: a3 :: a4 :: a5 :: r9) (v :: st) A = rg v (exG TB d 190 53 (a0 :: a1 :: a2 :: a3 :: a4 :: some v :: r9) st A) := x_rgt (op := o_astore 5 2) rfl rfl
theorem x_190_53  : exG TB d 190 53 (a0 :: a1 :: a2 :: a3 :: a4 :: some v :: r9) st A = rg v (exG TB d 190 55 (a0 :: a1 :: a2 :: a3 :: a4 :: some v :: r9) (v :: st) A) := x_rg (op := o_aload 5 2) rfl rfl
theorem x_190_55n  : exG TB d 190 55 L (.null :: st) A = exG TB d 190 58 L st A := x_nx (op := o_ifnonnull 60) rfl rfl
theorem x_190_55r  : exG TB d 190 55 L (.ref p :: st) A = exG TB d 190 60 L st A := x_nx (op := o_ifnonnull 60) rfl rfl
theorem x_190_58  : exG TB d 190 58 L st A = exG TB d 190 59 L (.int nN :: st) A := x_nx (op := o_push 1 (.int (-1))) rfl rfl
theorem x_190_59  : exG TB d 190 59 L [v] A = ck (okv 1 v) (some (.inl (some v), A)) := x_outg (op := o_ret 1) rfl rfl
theorem x_190_60  : exG TB d 190 60 (a0 :: a1 :: a2 :: a3 :: some (.int i1) :: r9) st A = exG TB d 190 62 (a0 :: a1 :: a2 :: a3 :: some (.int i1) :: r9) (.int i1 :: st) A := x_nx (op := o_iload 4 2) rfl rfl
theorem x_190_62  : exG TB d 190 62 L (.int i1 :: st) A = if ¬ i1 = nI 0 then exG TB d 190 73 L st A else exG TB d 190 65 L st A := x_if (op := o_if (fun x => decide (¬ x = 0)) 73) rfl rfl rfl
theorem x_190_65  : exG TB d 190 65 (a0 :: a1 :: a2 :: a3 :: a4 :: some v :: r9) st A = rg v (exG TB d 190 67 (a0 :: a1 :: a2 :: a3 :: a4 :: some v :: r9) (v :: st) A) := x_rg (op := o_aload 5 2) rfl rfl
theorem x_190_67  : exG TB d 190 67 L (.ref p :: st) A = kv (gf A p 85) d 190 70 L st A := x_bd (op := o_get 85) rfl rfl (fun _ => rfl)
theorem x_190_70  : exG TB d 190 70 L st A = exG TB d 190 106 L st A := x_nx (op := o_goto 106) rfl rfl
theorem x_190_73  : exG TB d 190 73 (a0 :: a1 :: a2 :: a3 :: some (.int i1) :: r9) st A = exG TB d 190 75 (a0 :: a1 :: a2 :: a3 :: some (.int i1) :: r9) (.int i1 :: st) A := x_nx (op := o_iload 4 2) rfl rfl
theorem x_190_75  : exG TB d 190 75 L st A = exG TB d 190 76 L (.int (nI 1) :: st) A := x_nx (op := o_push 1 (.int 1)) rfl rfl
theorem x_190_76  : exG TB d 190 76 L (.int i2 :: .int i1 :: st) A = if ¬ i1 = i2 then exG TB d 190 87 L st A else exG TB d 190 79 L st A := x_if (op := o_icmp (fun x y => decide (¬ x = y)) 87) rfl rfl rfl
theorem x_190_79  : exG TB d 190 79 (a0 :: a1 :: a2 :: a3 :: a4 :: some v :: r9) st A = rg v (exG TB d 190 81 (a0 :: a1 :: a2 :: a3 :: a4 :: some v :: r9) (v :: st) A) := x_rg (op := o_aload 5 2) rfl rfl
theorem x_190_81  : exG TB d 190 81 L (.ref p :: st) A = kv (gf A p 81) d 190 84 L st A := x_bd (op := o_get 81) rfl rfl (fun _ => rfl)
theorem x_190_84  : exG TB d 190 84 L st A = exG TB d 190 106 L st A := x_nx (op := o_goto 106) rfl rfl
theorem x_190_87  : exG TB d 190 87 (a0 :: a1 :: a2 :: a3 :: some (.int i1) :: r9) st A = exG TB d 190 89 (a0 :: a1 :: a2 :: a3 :: some (.int i1) :: r9) (.int i1 :: st) A := x_nx (op := o_iload 4 2) rfl rfl
theorem x_190_89  : exG TB d 190 89 L st A = exG TB d 190 90 L (.int (nI 2) :: st) A := x_nx (op := o_push 1 (.int 2)) rfl rfl
theorem x_190_90  : exG TB d 190 90 L (.int i2 :: .int i1 :: st) A = if ¬ i1 = i2 then exG TB d 190 101 L st A else exG TB d 190 93 L st A := x_if (op := o_icmp (fun x y => decide (¬ x = y)) 101) rfl rfl rfl
theorem x_190_93  : exG TB d 190 93 (a0 :: a1 :: a2 :: a3 :: a4 :: some v :: r9) st A = rg v (exG TB d 190 95 (a0 :: a1 :: a2 :: a3 :: a4 :: some v :: r9) (v :: st) A) := x_rg (op := o_aload 5 2) rfl rfl
theorem x_190_95  : exG TB d 190 95 L (.ref p :: st) A = kv (gf A p 87) d 190 98 L st A := x_bd (op := o_get 87) rfl rfl (fun _ => rfl)
theorem x_190_98  : exG TB d 190 98 L st A = exG TB d 190 106 L st A := x_nx (op := o_goto 106) rfl rfl
theorem x_190_101  : exG TB d 190 101 (a0 :: a1 :: a2 :: a3 :: a4 :: some v :: r9) st A = rg v (exG TB d 190 103 (a0 :: a1 :: a2 :: a3 :: a4 :: some v :: r9) (v :: st) A) := x_rg (op := o_aload 5 2) rfl rfl
theorem x_190_103  : exG TB d 190 103 L (.ref p :: st) A = kv (gf A p 86) d 190 106 L st A := x_bd (op := o_get 86) rfl rfl (fun _ => rfl)
theorem x_190_106  : exG TB d 190 106 L [v] A = ck (okv 1 v) (some (.inl (some v), A)) := x_outg (op := o_ret 1) rfl rfl
theorem e_191 {j1 : Int32} {j2 : Int32} : evG TB (d + 1) 191 [.ref p, .int j1, .int j2] A = exG TB d 191 0 [some (.ref p), some (.int j1), some (.int j2)] [] A := evG_eq TB d 191 _ A
theorem x_191_0  : exG TB d 191 0 (some v :: r9) st A = rg v (exG TB d 191 1 (some v :: r9) (v :: st) A) := x_rg (op := o_aload 0 1) rfl rfl
theorem x_191_1  : exG TB d 191 1 (a0 :: some (.int i1) :: r9) st A = exG TB d 191 2 (a0 :: some (.int i1) :: r9) (.int i1 :: st) A := x_nx (op := o_iload 1 1) rfl rfl
theorem x_191_2  : exG TB d 191 2 L [b0, .ref p] A = kw0 (sel (gc A p) [(0, 175)]) [.ref p, b0] d 191 5 L [] A := x_c0b (op := o_cv [(0, 175)] 1 3 true none) rfl rfl x_noh rfl
theorem x_191_5  : exG TB d 191 5 (some v :: r9) st A = rg v (exG TB d 191 6 (some v :: r9) (v :: st) A) := x_rg (op := o_aload 0 1) rfl rfl
theorem x_191_6  : exG TB d 191 6 (a0 :: a1 :: some (.int i1) :: r9) st A = exG TB d 191 7 (a0 :: a1 :: some (.int i1) :: r9) (.int i1 :: st) A := x_nx (op := o_iload 2 1) rfl rfl
theorem x_191_7  : exG TB d 191 7 L [b0, .ref p] A = kw0 (sel (gc A p) [(0, 175)]) [.ref p, b0] d 191 10 L [] A := x_c0b (op := o_cv [(0, 175)] 1 3 true none) rfl rfl x_noh rfl
theorem x_191_10  : exG TB d 191 10 L [] A = some (.inl none, A) := x_out (op := o_vret) rfl rfl
theorem e_192 {j1 : Int32} {j2 : Int32} {j3 : Int32} : evG TB (d + 1) 192 [.ref p, .int j1, .int j2, .int j3] A = exG TB d 192 0 [some (.ref p), some (.int j1), some (.int j2), some (.int j3), none] [] A := evG_eq TB d 192 _ A
theorem x_192_0  : exG TB d 192 0 L st A = exG TB d 192 3 L (.ref (nx A) :: st) (newo A 15 11 dv15) := x_nx (op := o_new 15 11 dv15) rfl rfl
theorem x_192_3  : exG TB d 192 3 L (v :: st) A = ck (c1 v) (exG TB d 192 4 L (v :: v :: st) A) := x_gd (op := o_dup) rfl rfl
theorem x_192_4  : exG TB d 192 4 (some v :: r9) st A = rg v (exG TB d 192 5 (some v :: r9) (v :: st) A) := x_rg (op := o_aload 0 1) rfl rfl
theorem x_192_5  : exG TB d 192 5 L (.ref p :: st) A = kv (gf A p 0) d 192 8 L st A := x_bd (op := o_get 0) rfl rfl (fun _ => rfl)
theorem x_192_8  : exG TB d 192 8 L (.ref p :: st) A = kv (gf A p 6) d 192 11 L st A := x_bd (op := o_get 6) rfl rfl (fun _ => rfl)
theorem x_192_11  : exG TB d 192 11 (some v :: r9) st A = rg v (exG TB d 192 12 (some v :: r9) (v :: st) A) := x_rg (op := o_aload 0 1) rfl rfl
theorem x_192_12  : exG TB d 192 12 L (.ref p :: st) A = kv (gf A p 0) d 192 15 L st A := x_bd (op := o_get 0) rfl rfl (fun _ => rfl)
theorem x_192_15  : exG TB d 192 15 L (.ref p :: st) A = kv (gf A p 7) d 192 18 L st A := x_bd (op := o_get 7) rfl rfl (fun _ => rfl)
theorem x_192_18  : exG TB d 192 18 (a0 :: some (.int i1) :: r9) st A = exG TB d 192 19 (a0 :: some (.int i1) :: r9) (.int i1 :: st) A := x_nx (op := o_iload 1 1) rfl rfl
theorem x_192_19  : exG TB d 192 19 (a0 :: a1 :: some (.int i1) :: r9) st A = exG TB d 192 20 (a0 :: a1 :: some (.int i1) :: r9) (.int i1 :: st) A := x_nx (op := o_iload 2 1) rfl rfl
theorem x_192_20  : exG TB d 192 20 (a0 :: a1 :: a2 :: some (.int i1) :: r9) st A = exG TB d 192 21 (a0 :: a1 :: a2 :: some (.int i1) :: r9) (.int i1 :: st) A := x_nx (op := o_iload 3 1) rfl rfl
theorem x_192_21  : exG TB d 192 21 L [b4, b3, b2, b1, b0, .ref p, w0] A = kc0 (evG TB d 231 [.ref p, b0, b1, b2, b3, b4] A) d 192 24 L [w0] := x_c0 (op := o_ci 231 5) rfl rfl x_noh rfl
theorem x_192_24  : exG TB d 192 24 (a0 :: a1 :: a2 :: a3 :: a4 :: r9) (v :: st) A = rg v (exG TB d 192 26 (a0 :: a1 :: a2 :: a3 :: some v :: r9) st A) := x_rgt (op := o_astore 4 2) rfl rfl
theorem x_192_26  : exG TB d 192 26 (a0 :: a1 :: a2 :: a3 :: some v :: r9) st A = rg v (exG TB d 192 28 (a0 :: a1 :: a2 :: a3 :: some v :: r9) (v :: st) A) := x_rg (op := o_aload 4 2) rfl rfl
theorem x_192_28  : exG TB d 192 28 L [.ref p] A = kw (sel (gc A p) [(15, 228)]) [.ref p] d 192 31 L [] A := x_cvb (op := o_cv [(15, 228)] 0 3 false none) rfl rfl x_noh rfl
theorem x_192_31  : exG TB d 192 31 L [.ref p] A = kw (sel (gc A p) [(16, 230), (15, 230)]) [.ref p] d 192 34 L [] A := x_cvb (op := o_cv [(16, 230), (15, 230)] 0 3 false none) rfl rfl x_noh rfl
theorem x_192_34  : exG TB d 192 34 L (.int i1 :: st) A = if i1 = nI 0 then exG TB d 192 42 L st A else exG TB d 192 37 L st A := x_if (op := o_if (fun x => decide (x = 0)) 42) rfl rfl rfl
theorem x_192_37  : exG TB d 192 37 (a0 :: a1 :: a2 :: a3 :: some v :: r9) st A = rg v (exG TB d 192 39 (a0 :: a1 :: a2 :: a3 :: some v :: r9) (v :: st) A) := x_rg (op := o_aload 4 2) rfl rfl
theorem x_192_39  : exG TB d 192 39 L st A = exG TB d 192 43 L st A := x_nx (op := o_goto 43) rfl rfl
theorem x_192_42  : exG TB d 192 42 L st A = exG TB d 192 43 L (.null :: st) A := x_nx (op := o_push 1 .null) rfl rfl
theorem x_192_43  : exG TB d 192 43 L [v] A = ck (okv 0 v) (some (.inl (some v), A)) := x_outg (op := o_ret 0) rfl rfl
theorem e_193 {j1 : Int32} {j2 : Int32} {j3 : Int32} {j4 : Int32} : evG TB (d + 1) 193 [.ref p, .int j1, .int j2, .int j3, .int j4] A = exG TB d 193 0 [some (.ref p), some (.int j1), some (.int j2), some (.int j3), some (.int j4), none] [] A := evG_eq TB d 193 _ A
theorem x_193_0  : exG TB d 193 0 (some v :: r9) st A = rg v (exG TB d 193 1 (some v :: r9) (v :: st) A) := x_rg (op := o_aload 0 1) rfl rfl
theorem x_193_1  : exG TB d 193 1 (a0 :: some (.int i1) :: r9) st A = exG TB d 193 2 (a0 :: some (.int i1) :: r9) (.int i1 :: st) A := x_nx (op := o_iload 1 1) rfl rfl
theorem x_193_2  : exG TB d 193 2 (a0 :: a1 :: some (.int i1) :: r9) st A = exG TB d 193 3 (a0 :: a1 :: some (.int i1) :: r9) (.int i1 :: st) A := x_nx (op := o_iload 2 1) rfl rfl
theorem x_193_3  : exG TB d 193 3 L [b1, b0, .ref p] A = kw0 (sel (gc A p) [(0, 191)]) [.ref p, b0, b1] d 193 6 L [] A := x_c0b (op := o_cv [(0, 191)] 2 3 true none) rfl rfl x_noh rfl
theorem x_193_6  : exG TB d 193 6 (a0 :: some (.int i1) :: r9) st A = exG TB d 193 7 (a0 :: some (.int i1) :: r9) (.int i1 :: st) A := x_nx (op := o_iload 1 1) rfl rfl
theorem x_193_7  : exG TB d 193 7 (a0 :: a1 :: some (.int i1) :: r9) st A = exG TB d 193 8 (a0 :: a1 :: some (.int i1) :: r9) (.int i1 :: st) A := x_nx (op := o_iload 2 1) rfl rfl
theorem x_193_8  : exG TB d 193 8 L (.int i2 :: .int i1 :: st) A = if i1 = i2 then exG TB d 193 32 L st A else exG TB d 193 11 L st A := x_if (op := o_icmp (fun x y => decide (x = y)) 32) rfl rfl rfl
theorem x_193_11  : exG TB d 193 11 (a0 :: a1 :: a2 :: some (.int i1) :: r9) st A = exG TB d 193 12 (a0 :: a1 :: a2 :: some (.int i1) :: r9) (.int i1 :: st) A := x_nx (op := o_iload 3 1) rfl rfl
theorem x_193_12  : exG TB d 193 12 L (.int i1 :: st) A = exG TB d 193 13 L (.long i1.toInt64 :: st) A := x_nx (op := o_i2l) rfl rfl
theorem x_193_13  : exG TB d 193 13 L st A = exG TB d 193 14 L (.long 0 :: st) A := x_nx (op := o_push 1 (.long 0)) rfl rfl
theorem x_193_14  : exG TB d 193 14 L st A = exG TB d 193 17 L (.long 600 :: st) A := x_nx (op := o_push 3 (.long 600)) rfl rfl
theorem x_193_17  : exG TB d 193 17 L [b2, b1, b0] A = kc (evG TB d 165 [b0, b1, b2] A) d 193 20 L [] := x_cv (op := o_cs 165 3 false none) rfl rfl x_noh rfl
theorem x_193_20  : exG TB d 193 20 L (.int i1 :: st) A = if i1 = nI 0 then exG TB d 193 32 L st A else exG TB d 193 23 L st A := x_if (op := o_if (fun x => decide (x = 0)) 32) rfl rfl rfl
theorem x_193_23  : exG TB d 193 23 (a0 :: a1 :: a2 :: a3 :: some (.int i1) :: r9) st A = exG TB d 193 25 (a0 :: a1 :: a2 :: a3 :: some (.int i1) :: r9) (.int i1 :: st) A := x_nx (op := o_iload 4 2) rfl rfl
theorem x_193_25  : exG TB d 193 25 L (.int i1 :: st) A = if i1 < nI 0 then exG TB d 193 32 L st A else exG TB d 193 28 L st A := x_if (op := o_if (fun x => decide (x < 0)) 32) rfl rfl rfl
theorem x_193_28  : exG TB d 193 28 L st A = exG TB d 193 29 L (.int (nI 1) :: st) A := x_nx (op := o_push 1 (.int 1)) rfl rfl
theorem x_193_29  : exG TB d 193 29 L st A = exG TB d 193 33 L st A := x_nx (op := o_goto 33) rfl rfl
theorem x_193_32  : exG TB d 193 32 L st A = exG TB d 193 33 L (.int (nI 0) :: st) A := x_nx (op := o_push 1 (.int 0)) rfl rfl
theorem x_193_33  : exG TB d 193 33 L [b0] A = kc0 (evG TB d 172 [b0] A) d 193 36 L [] := x_c0 (op := o_cs 172 1 true none) rfl rfl x_noh rfl
theorem x_193_36  : exG TB d 193 36 (some v :: r9) st A = rg v (exG TB d 193 37 (some v :: r9) (v :: st) A) := x_rg (op := o_aload 0 1) rfl rfl
theorem x_193_37  : exG TB d 193 37 (a0 :: some (.int i1) :: r9) st A = exG TB d 193 38 (a0 :: some (.int i1) :: r9) (.int i1 :: st) A := x_nx (op := o_iload 1 1) rfl rfl
theorem x_193_38  : exG TB d 193 38 (a0 :: a1 :: some (.int i1) :: r9) st A = exG TB d 193 39 (a0 :: a1 :: some (.int i1) :: r9) (.int i1 :: st) A := x_nx (op := o_iload 2 1) rfl rfl
theorem x_193_39  : exG TB d 193 39 (a0 :: a1 :: a2 :: some (.int i1) :: r9) st A = exG TB d 193 40 (a0 :: a1 :: a2 :: some (.int i1) :: r9) (.int i1 :: st) A := x_nx (op := o_iload 3 1) rfl rfl
theorem x_193_40  : exG TB d 193 40 L [b2, b1, b0, .ref p] A = kw (sel (gc A p) [(0, 192)]) [.ref p, b0, b1, b2] d 193 43 L [] A := x_cvb (op := o_cv [(0, 192)] 3 3 false none) rfl rfl x_noh rfl
theorem x_193_43  : exG TB d 193 43 (a0 :: a1 :: a2 :: a3 :: a4 :: a5 :: r9) (v :: st) A = rg v (exG TB d 193 45 (a0 :: a1 :: a2 :: a3 :: a4 :: some v :: r9) st A) := x_rgt (op := o_astore 5 2) rfl rfl
theorem x_193_45  : exG TB d 193 45 (a0 :: a1 :: a2 :: a3 :: a4 :: some v :: r9) st A = rg v (exG TB d 193 47 (a0 :: a1 :: a2 :: a3 :: a4 :: some v :: r9) (v :: st) A) := x_rg (op := o_aload 5 2) rfl rfl
theorem x_193_47n  : exG TB d 193 47 L (.null :: st) A = exG TB d 193 60 L st A := x_nx (op := o_ifnull 60) rfl rfl
theorem x_193_47r  : exG TB d 193 47 L (.ref p :: st) A = exG TB d 193 50 L st A := x_nx (op := o_ifnull 60) rfl rfl
theorem x_193_50  : exG TB d 193 50 (a0 :: a1 :: a2 :: a3 :: some (.int i1) :: r9) st A = exG TB d 193 52 (a0 :: a1 :: a2 :: a3 :: some (.int i1) :: r9) (.int i1 :: st) A := x_nx (op := o_iload 4 2) rfl rfl
theorem x_193_52  : exG TB d 193 52 (a0 :: a1 :: a2 :: a3 :: a4 :: some v :: r9) st A = rg v (exG TB d 193 54 (a0 :: a1 :: a2 :: a3 :: a4 :: some v :: r9) (v :: st) A) := x_rg (op := o_aload 5 2) rfl rfl
theorem x_193_54  : exG TB d 193 54 L (.ref p :: st) A = kv (gf A p 81) d 193 57 L st A := x_bd (op := o_get 81) rfl rfl (fun _ => rfl)
theorem x_193_57  : exG TB d 193 57 L (.int i2 :: .int i1 :: st) A = if i1 ≤ i2 then exG TB d 193 64 L st A else exG TB d 193 60 L st A := x_if (op := o_icmp (fun x y => decide (x ≤ y)) 64) rfl rfl rfl
theorem x_193_60  : exG TB d 193 60 L st A = exG TB d 193 61 L (.int nN :: st) A := x_nx (op := o_push 1 (.int (-1))) rfl rfl
theorem x_193_61  : exG TB d 193 61 L st A = exG TB d 193 72 L st A := x_nx (op := o_goto 72) rfl rfl
theorem x_193_64  : exG TB d 193 64 (a0 :: a1 :: a2 :: a3 :: a4 :: some v :: r9) st A = rg v (exG TB d 193 66 (a0 :: a1 :: a2 :: a3 :: a4 :: some v :: r9) (v :: st) A) := x_rg (op := o_aload 5 2) rfl rfl
theorem x_193_66  : exG TB d 193 66 L (.ref p :: st) A = kv (gf A p 80) d 193 69 L st A := x_bd (op := o_get 80) rfl rfl (fun _ => rfl)
theorem x_193_69  : exG TB d 193 69 (a0 :: a1 :: a2 :: a3 :: some (.int i1) :: r9) st A = exG TB d 193 71 (a0 :: a1 :: a2 :: a3 :: some (.int i1) :: r9) (.int i1 :: st) A := x_nx (op := o_iload 4 2) rfl rfl
theorem x_193_71  : exG TB d 193 71 L (.int i1 :: .ref p :: st) A = ki (rdI 0 (ga A p) i1) d 193 72 L st A := x_bd (op := o_rdI 0) rfl rfl (fun _ => rfl)
theorem x_193_72  : exG TB d 193 72 L [v] A = ck (okv 1 v) (some (.inl (some v), A)) := x_outg (op := o_ret 1) rfl rfl
theorem e_194 {j1 : Int32} {j2 : Int32} : evG TB (d + 1) 194 [.ref p, .int j1, .int j2] A = exG TB d 194 0 [some (.ref p), some (.int j1), some (.int j2)] [] A := evG_eq TB d 194 _ A
theorem x_194_0  : exG TB d 194 0 (some v :: r9) st A = rg v (exG TB d 194 1 (some v :: r9) (v :: st) A) := x_rg (op := o_aload 0 1) rfl rfl
theorem x_194_1  : exG TB d 194 1 (a0 :: some (.int i1) :: r9) st A = exG TB d 194 2 (a0 :: some (.int i1) :: r9) (.int i1 :: st) A := x_nx (op := o_iload 1 1) rfl rfl
theorem x_194_2  : exG TB d 194 2 (a0 :: a1 :: some (.int i1) :: r9) st A = exG TB d 194 3 (a0 :: a1 :: some (.int i1) :: r9) (.int i1 :: st) A := x_nx (op := o_iload 2 1) rfl rfl
theorem x_194_3  : exG TB d 194 3 L [b1, b0, .ref p] A = kw0 (sel (gc A p) [(0, 191)]) [.ref p, b0, b1] d 194 6 L [] A := x_c0b (op := o_cv [(0, 191)] 2 3 true none) rfl rfl x_noh rfl
theorem x_194_6  : exG TB d 194 6 (some v :: r9) st A = rg v (exG TB d 194 7 (some v :: r9) (v :: st) A) := x_rg (op := o_aload 0 1) rfl rfl
theorem x_194_7  : exG TB d 194 7 L (.ref p :: st) A = kv (gf A p 0) d 194 10 L st A := x_bd (op := o_get 0) rfl rfl (fun _ => rfl)
theorem x_194_10  : exG TB d 194 10 (a0 :: some (.int i1) :: r9) st A = exG TB d 194 11 (a0 :: some (.int i1) :: r9) (.int i1 :: st) A := x_nx (op := o_iload 1 1) rfl rfl
theorem x_194_11  : exG TB d 194 11 (a0 :: a1 :: some (.int i1) :: r9) st A = exG TB d 194 12 (a0 :: a1 :: some (.int i1) :: r9) (.int i1 :: st) A := x_nx (op := o_iload 2 1) rfl rfl
theorem x_194_12  : exG TB d 194 12 L [b1, b0, .ref p] A = kw (sel (gc A p) [(1, 261)]) [.ref p, b0, b1] d 194 15 L [] A := x_cvb (op := o_cv [(1, 261)] 2 3 false none) rfl rfl x_noh rfl
theorem x_194_15  : exG TB d 194 15 L [v] A = ck (okv 1 v) (some (.inl (some v), A)) := x_outg (op := o_ret 1) rfl rfl
theorem e_195 {j1 : Int32} {j2 : Int32} {j3 : Int32} : evG TB (d + 1) 195 [.ref p, .int j1, .int j2, .int j3] A = exG TB d 195 0 [some (.ref p), some (.int j1), some (.int j2), some (.int j3), none] [] A := evG_eq TB d 195 _ A
theorem x_195_0  : exG TB d 195 0 (some v :: r9) st A = rg v (exG TB d 195 1 (some v :: r9) (v :: st) A) := x_rg (op := o_aload 0 1) rfl rfl
theorem x_195_1  : exG TB d 195 1 (a0 :: some (.int i1) :: r9) st A = exG TB d 195 2 (a0 :: some (.int i1) :: r9) (.int i1 :: st) A := x_nx (op := o_iload 1 1) rfl rfl
theorem x_195_2  : exG TB d 195 2 L [b0, .ref p] A = kw (sel (gc A p) [(0, 188)]) [.ref p, b0] d 195 5 L [] A := x_cvb (op := o_cv [(0, 188)] 1 3 false none) rfl rfl x_noh rfl
theorem x_195_5  : exG TB d 195 5 (a0 :: a1 :: a2 :: a3 :: a4 :: r9) (v :: st) A = rg v (exG TB d 195 7 (a0 :: a1 :: a2 :: a3 :: some v :: r9) st A) := x_rgt (op := o_astore 4 2) rfl rfl
theorem x_195_7  : exG TB d 195 7 (some v :: r9) st A = rg v (exG TB d 195 8 (some v :: r9) (v :: st) A) := x_rg (op := o_aload 0 1) rfl rfl
theorem x_195_8  : exG TB d 195 8 (a0 :: a1 :: some (.int i1) :: r9) st A = exG TB d 195 9 (a0 :: a1 :: some (.int i1) :: r9) (.int i1 :: st) A := x_nx (op := o_iload 2 1) rfl rfl
theorem x_195_9  : exG TB d 195 9 L [b0, .ref p] A = kw0 (sel (gc A p) [(0, 175)]) [.ref p, b0] d 195 12 L [] A := x_c0b (op := o_cv [(0, 175)] 1 3 true none) rfl rfl x_noh rfl
theorem x_195_12  : exG TB d 195 12 (a0 :: a1 :: a2 :: some (.int i1) :: r9) st A = exG TB d 195 13 (a0 :: a1 :: a2 :: some (.int i1) :: r9) (.int i1 :: st) A := x_nx (op := o_iload 3 1) rfl rfl
theorem x_195_13  : exG TB d 195 13 L (.int i1 :: st) A = exG TB d 195 14 L (.long i1.toInt64 :: st) A := x_nx (op := o_i2l) rfl rfl
theorem x_195_14  : exG TB d 195 14 L st A = exG TB d 195 15 L (.long 0 :: st) A := x_nx (op := o_push 1 (.long 0)) rfl rfl
theorem x_195_15  : exG TB d 195 15 L st A = exG TB d 195 18 L (.long 100000 :: st) A := x_nx (op := o_push 3 (.long 100000)) rfl rfl
theorem x_195_18  : exG TB d 195 18 L [b2, b1, b0] A = kc (evG TB d 165 [b0, b1, b2] A) d 195 21 L [] := x_cv (op := o_cs 165 3 false none) rfl rfl x_noh rfl
theorem x_195_21  : exG TB d 195 21 L [b0] A = kc0 (evG TB d 172 [b0] A) d 195 24 L [] := x_c0 (op := o_cs 172 1 true none) rfl rfl x_noh rfl
theorem x_195_24  : exG TB d 195 24 (some v :: r9) st A = rg v (exG TB d 195 25 (some v :: r9) (v :: st) A) := x_rg (op := o_aload 0 1) rfl rfl
theorem x_195_25  : exG TB d 195 25 L (.ref p :: st) A = kv (gf A p 0) d 195 28 L st A := x_bd (op := o_get 0) rfl rfl (fun _ => rfl)
theorem x_195_28  : exG TB d 195 28 L (.ref p :: st) A = kv (gf A p 11) d 195 31 L st A := x_bd (op := o_get 11) rfl rfl (fun _ => rfl)
theorem x_195_31  : exG TB d 195 31 L [.ref p] A = kw (sel (gc A p) [(3, 42)]) [.ref p] d 195 34 L [] A := x_cvb (op := o_cv [(3, 42)] 0 3 false none) rfl rfl x_noh rfl
theorem x_195_34  : exG TB d 195 34 L st A = exG TB d 195 36 L (.int (nI 120) :: st) A := x_nx (op := o_push 2 (.int 120)) rfl rfl
theorem x_195_36  : exG TB d 195 36 L (.int i2 :: .int i1 :: st) A = if i2 ≤ i1 then exG TB d 195 43 L st A else exG TB d 195 39 L st A := x_if (op := o_icmp (fun x y => decide (y ≤ x)) 43) rfl rfl rfl
theorem x_195_39  : exG TB d 195 39 L st A = exG TB d 195 40 L (.int (nI 1) :: st) A := x_nx (op := o_push 1 (.int 1)) rfl rfl
theorem x_195_40  : exG TB d 195 40 L st A = exG TB d 195 44 L st A := x_nx (op := o_goto 44) rfl rfl
theorem x_195_43  : exG TB d 195 43 L st A = exG TB d 195 44 L (.int (nI 0) :: st) A := x_nx (op := o_push 1 (.int 0)) rfl rfl
theorem x_195_44  : exG TB d 195 44 L [b0] A = kc0 (evG TB d 170 [b0] A) d 195 47 L [] := x_c0 (op := o_cs 170 1 true none) rfl rfl x_noh rfl
theorem x_195_47  : exG TB d 195 47 (some v :: r9) st A = rg v (exG TB d 195 48 (some v :: r9) (v :: st) A) := x_rg (op := o_aload 0 1) rfl rfl
theorem x_195_48  : exG TB d 195 48 L (.ref p :: st) A = kv (gf A p 0) d 195 51 L st A := x_bd (op := o_get 0) rfl rfl (fun _ => rfl)
theorem x_195_51  : exG TB d 195 51 L st A = exG TB d 195 54 L (.ref (nx A) :: st) (newo A 17 8 dv17) := x_nx (op := o_new 17 8 dv17) rfl rfl
theorem x_195_54  : exG TB d 195 54 L (v :: st) A = ck (c1 v) (exG TB d 195 55 L (v :: v :: st) A) := x_gd (op := o_dup) rfl rfl
theorem x_195_55  : exG TB d 195 55 (some v :: r9) st A = rg v (exG TB d 195 56 (some v :: r9) (v :: st) A) := x_rg (op := o_aload 0 1) rfl rfl
theorem x_195_56  : exG TB d 195 56 L (.ref p :: st) A = kv (gf A p 0) d 195 59 L st A := x_bd (op := o_get 0) rfl rfl (fun _ => rfl)
theorem x_195_59  : exG TB d 195 59 L (.ref p :: st) A = kv (gf A p 11) d 195 62 L st A := x_bd (op := o_get 11) rfl rfl (fun _ => rfl)
theorem x_195_62  : exG TB d 195 62 L [.ref p, w0, w1, w2] A = kw (sel (gc A p) [(3, 42)]) [.ref p] d 195 65 L [w0, w1, w2] A := x_cvb (op := o_cv [(3, 42)] 0 3 false none) rfl rfl x_noh rfl
theorem x_195_65  : exG TB d 195 65 (a0 :: a1 :: some (.int i1) :: r9) st A = exG TB d 195 66 (a0 :: a1 :: some (.int i1) :: r9) (.int i1 :: st) A := x_nx (op := o_iload 2 1) rfl rfl
theorem x_195_66  : exG TB d 195 66 (a0 :: a1 :: a2 :: some (.int i1) :: r9) st A = exG TB d 195 67 (a0 :: a1 :: a2 :: some (.int i1) :: r9) (.int i1 :: st) A := x_nx (op := o_iload 3 1) rfl rfl
theorem x_195_67  : exG TB d 195 67 L st A = exG TB d 195 68 L (.int (nI 0) :: st) A := x_nx (op := o_push 1 (.int 0)) rfl rfl
theorem x_195_68  : exG TB d 195 68 L [b3, b2, b1, b0, .ref p, w0, w1] A = kc0 (evG TB d 235 [.ref p, b0, b1, b2, b3] A) d 195 71 L [w0, w1] := x_c0 (op := o_ci 235 4) rfl rfl x_noh rfl
theorem x_195_71  : exG TB d 195 71 (a0 :: some (.int i1) :: r9) st A = exG TB d 195 72 (a0 :: some (.int i1) :: r9) (.int i1 :: st) A := x_nx (op := o_iload 1 1) rfl rfl
theorem x_195_72  : exG TB d 195 72 L st A = exG TB d 195 74 L (.int (nI 100) :: st) A := x_nx (op := o_push 2 (.int 100)) rfl rfl
theorem x_195_74  : exG TB d 195 74 L [b2, b1, b0, .ref p] A = kw (sel (gc A p) [(1, 262)]) [.ref p, b0, b1, b2] d 195 77 L [] A := x_cvb (op := o_cv [(1, 262)] 3 3 false none) rfl rfl x_noh rfl
theorem x_195_77  : exG TB d 195 77 L [v] A = ck (okv 1 v) (some (.inl (some v), A)) := x_outg (op := o_ret 1) rfl rfl
theorem e_196 {j1 : Int32} {j2 : Int32} {j3 : Int32} {j4 : Int32} : evG TB (d + 1) 196 [.ref p, .int j1, .int j2, .int j3, .int j4] A = exG TB d 196 0 [some (.ref p), some (.int j1), some (.int j2), some (.int j3), some (.int j4), none] [] A := evG_eq TB d 196 _ A
theorem x_196_0  : exG TB d 196 0 (some v :: r9) st A = rg v (exG TB d 196 1 (some v :: r9) (v :: st) A) := x_rg (op := o_aload 0 1) rfl rfl
theorem x_196_1  : exG TB d 196 1 (a0 :: some (.int i1) :: r9) st A = exG TB d 196 2 (a0 :: some (.int i1) :: r9) (.int i1 :: st) A := x_nx (op := o_iload 1 1) rfl rfl
theorem x_196_2  : exG TB d 196 2 L [b0, .ref p] A = kw (sel (gc A p) [(0, 188)]) [.ref p, b0] d 196 5 L [] A := x_cvb (op := o_cv [(0, 188)] 1 3 false none) rfl rfl x_noh rfl
theorem x_196_5  : exG TB d 196 5 (a0 :: a1 :: a2 :: a3 :: a4 :: a5 :: r9) (v :: st) A = rg v (exG TB d 196 7 (a0 :: a1 :: a2 :: a3 :: a4 :: some v :: r9) st A) := x_rgt (op := o_astore 5 2) rfl rfl
theorem x_196_7  : exG TB d 196 7 (some v :: r9) st A = rg v (exG TB d 196 8 (some v :: r9) (v :: st) A) := x_rg (op := o_aload 0 1) rfl rfl
theorem x_196_8  : exG TB d 196 8 (a0 :: a1 :: some (.int i1) :: r9) st A = exG TB d 196 9 (a0 :: a1 :: some (.int i1) :: r9) (.int i1 :: st) A := x_nx (op := o_iload 2 1) rfl rfl
theorem x_196_9  : exG TB d 196 9 L [b0, .ref p] A = kw0 (sel (gc A p) [(0, 175)]) [.ref p, b0] d 196 12 L [] A := x_c0b (op := o_cv [(0, 175)] 1 3 true none) rfl rfl x_noh rfl
theorem x_196_12  : exG TB d 196 12 (a0 :: a1 :: a2 :: some (.int i1) :: r9) st A = exG TB d 196 13 (a0 :: a1 :: a2 :: some (.int i1) :: r9) (.int i1 :: st) A := x_nx (op := o_iload 3 1) rfl rfl
theorem x_196_13  : exG TB d 196 13 L (.int i1 :: st) A = exG TB d 196 14 L (.long i1.toInt64 :: st) A := x_nx (op := o_i2l) rfl rfl
theorem x_196_14  : exG TB d 196 14 L st A = exG TB d 196 15 L (.long 0 :: st) A := x_nx (op := o_push 1 (.long 0)) rfl rfl
theorem x_196_15  : exG TB d 196 15 L st A = exG TB d 196 18 L (.long 100000 :: st) A := x_nx (op := o_push 3 (.long 100000)) rfl rfl
theorem x_196_18  : exG TB d 196 18 L [b2, b1, b0] A = kc (evG TB d 165 [b0, b1, b2] A) d 196 21 L [] := x_cv (op := o_cs 165 3 false none) rfl rfl x_noh rfl
theorem x_196_21  : exG TB d 196 21 L (.int i1 :: st) A = if i1 = nI 0 then exG TB d 196 41 L st A else exG TB d 196 24 L st A := x_if (op := o_if (fun x => decide (x = 0)) 41) rfl rfl rfl
theorem x_196_24  : exG TB d 196 24 (a0 :: a1 :: a2 :: a3 :: some (.int i1) :: r9) st A = exG TB d 196 26 (a0 :: a1 :: a2 :: a3 :: some (.int i1) :: r9) (.int i1 :: st) A := x_nx (op := o_iload 4 2) rfl rfl
theorem x_196_26  : exG TB d 196 26 L (.int i1 :: st) A = exG TB d 196 27 L (.long i1.toInt64 :: st) A := x_nx (op := o_i2l) rfl rfl
theorem x_196_27  : exG TB d 196 27 L st A = exG TB d 196 28 L (.long 0 :: st) A := x_nx (op := o_push 1 (.long 0)) rfl rfl
theorem x_196_28  : exG TB d 196 28 L st A = exG TB d 196 31 L (.long 100 :: st) A := x_nx (op := o_push 3 (.long 100)) rfl rfl
theorem x_196_31  : exG TB d 196 31 L [b2, b1, b0] A = kc (evG TB d 165 [b0, b1, b2] A) d 196 34 L [] := x_cv (op := o_cs 165 3 false none) rfl rfl x_noh rfl
theorem x_196_34  : exG TB d 196 34 L (.int i1 :: st) A = if i1 = nI 0 then exG TB d 196 41 L st A else exG TB d 196 37 L st A := x_if (op := o_if (fun x => decide (x = 0)) 41) rfl rfl rfl
theorem x_196_37  : exG TB d 196 37 L st A = exG TB d 196 38 L (.int (nI 1) :: st) A := x_nx (op := o_push 1 (.int 1)) rfl rfl
theorem x_196_38  : exG TB d 196 38 L st A = exG TB d 196 42 L st A := x_nx (op := o_goto 42) rfl rfl
theorem x_196_41  : exG TB d 196 41 L st A = exG TB d 196 42 L (.int (nI 0) :: st) A := x_nx (op := o_push 1 (.int 0)) rfl rfl
theorem x_196_42  : exG TB d 196 42 L [b0] A = kc0 (evG TB d 172 [b0] A) d 196 45 L [] := x_c0 (op := o_cs 172 1 true none) rfl rfl x_noh rfl
theorem x_196_45  : exG TB d 196 45 (some v :: r9) st A = rg v (exG TB d 196 46 (some v :: r9) (v :: st) A) := x_rg (op := o_aload 0 1) rfl rfl
theorem x_196_46  : exG TB d 196 46 L (.ref p :: st) A = kv (gf A p 0) d 196 49 L st A := x_bd (op := o_get 0) rfl rfl (fun _ => rfl)
theorem x_196_49  : exG TB d 196 49 L (.ref p :: st) A = kv (gf A p 11) d 196 52 L st A := x_bd (op := o_get 11) rfl rfl (fun _ => rfl)
theorem x_196_52  : exG TB d 196 52 L [.ref p] A = kw (sel (gc A p) [(3, 42)]) [.ref p] d 196 55 L [] A := x_cvb (op := o_cv [(3, 42)] 0 3 false none) rfl rfl x_noh rfl
theorem x_196_55  : exG TB d 196 55 L st A = exG TB d 196 57 L (.int (nI 120) :: st) A := x_nx (op := o_push 2 (.int 120)) rfl rfl
theorem x_196_57  : exG TB d 196 57 L (.int i2 :: .int i1 :: st) A = if i2 ≤ i1 then exG TB d 196 64 L st A else exG TB d 196 60 L st A := x_if (op := o_icmp (fun x y => decide (y ≤ x)) 64) rfl rfl rfl
theorem x_196_60  : exG TB d 196 60 L st A = exG TB d 196 61 L (.int (nI 1) :: st) A := x_nx (op := o_push 1 (.int 1)) rfl rfl
theorem x_196_61  : exG TB d 196 61 L st A = exG TB d 196 65 L st A := x_nx (op := o_goto 65) rfl rfl
theorem x_196_64  : exG TB d 196 64 L st A = exG TB d 196 65 L (.int (nI 0) :: st) A := x_nx (op := o_push 1 (.int 0)) rfl rfl
theorem x_196_65  : exG TB d 196 65 L [b0] A = kc0 (evG TB d 170 [b0] A) d 196 68 L [] := x_c0 (op := o_cs 170 1 true none) rfl rfl x_noh rfl
theorem x_196_68  : exG TB d 196 68 (some v :: r9) st A = rg v (exG TB d 196 69 (some v :: r9) (v :: st) A) := x_rg (op := o_aload 0 1) rfl rfl
theorem x_196_69  : exG TB d 196 69 L (.ref p :: st) A = kv (gf A p 0) d 196 72 L st A := x_bd (op := o_get 0) rfl rfl (fun _ => rfl)
theorem x_196_72  : exG TB d 196 72 L st A = exG TB d 196 75 L (.ref (nx A) :: st) (newo A 17 8 dv17) := x_nx (op := o_new 17 8 dv17) rfl rfl
theorem x_196_75  : exG TB d 196 75 L (v :: st) A = ck (c1 v) (exG TB d 196 76 L (v :: v :: st) A) := x_gd (op := o_dup) rfl rfl
theorem x_196_76  : exG TB d 196 76 (some v :: r9) st A = rg v (exG TB d 196 77 (some v :: r9) (v :: st) A) := x_rg (op := o_aload 0 1) rfl rfl
theorem x_196_77  : exG TB d 196 77 L (.ref p :: st) A = kv (gf A p 0) d 196 80 L st A := x_bd (op := o_get 0) rfl rfl (fun _ => rfl)
theorem x_196_80  : exG TB d 196 80 L (.ref p :: st) A = kv (gf A p 11) d 196 83 L st A := x_bd (op := o_get 11) rfl rfl (fun _ => rfl)
theorem x_196_83  : exG TB d 196 83 L [.ref p, w0, w1, w2] A = kw (sel (gc A p) [(3, 42)]) [.ref p] d 196 86 L [w0, w1, w2] A := x_cvb (op := o_cv [(3, 42)] 0 3 false none) rfl rfl x_noh rfl
theorem x_196_86  : exG TB d 196 86 (a0 :: a1 :: some (.int i1) :: r9) st A = exG TB d 196 87 (a0 :: a1 :: some (.int i1) :: r9) (.int i1 :: st) A := x_nx (op := o_iload 2 1) rfl rfl
theorem x_196_87  : exG TB d 196 87 (a0 :: a1 :: a2 :: some (.int i1) :: r9) st A = exG TB d 196 88 (a0 :: a1 :: a2 :: some (.int i1) :: r9) (.int i1 :: st) A := x_nx (op := o_iload 3 1) rfl rfl
theorem x_196_88  : exG TB d 196 88 L st A = exG TB d 196 89 L (.int (nI 1) :: st) A := x_nx (op := o_push 1 (.int 1)) rfl rfl
theorem x_196_89  : exG TB d 196 89 L [b3, b2, b1, b0, .ref p, w0, w1] A = kc0 (evG TB d 235 [.ref p, b0, b1, b2, b3] A) d 196 92 L [w0, w1] := x_c0 (op := o_ci 235 4) rfl rfl x_noh rfl
theorem x_196_92  : exG TB d 196 92 (a0 :: some (.int i1) :: r9) st A = exG TB d 196 93 (a0 :: some (.int i1) :: r9) (.int i1 :: st) A := x_nx (op := o_iload 1 1) rfl rfl
theorem x_196_93  : exG TB d 196 93 (a0 :: a1 :: a2 :: a3 :: some (.int i1) :: r9) st A = exG TB d 196 95 (a0 :: a1 :: a2 :: a3 :: some (.int i1) :: r9) (.int i1 :: st) A := x_nx (op := o_iload 4 2) rfl rfl
theorem x_196_95  : exG TB d 196 95 L [b2, b1, b0, .ref p] A = kw (sel (gc A p) [(1, 262)]) [.ref p, b0, b1, b2] d 196 98 L [] A := x_cvb (op := o_cv [(1, 262)] 3 3 false none) rfl rfl x_noh rfl
theorem x_196_98  : exG TB d 196 98 L [v] A = ck (okv 1 v) (some (.inl (some v), A)) := x_outg (op := o_ret 1) rfl rfl
end
