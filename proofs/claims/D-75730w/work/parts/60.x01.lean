set_option maxRecDepth 100000
/-! what each instruction does, as an equation -/
section
variable {d p q n9 : Nat} {L r9 : Lc} {st : List Value} {A : Hp} {g9 : Nat → Int32} {v v2 v3 w0 w1 w2 w3 w4 w5 w6 w7 w8 w9 w10 w11 b0 b1 b2 b3 b4 b5 b6 b7 b8 b9 b10 b11 : Value} {i1 i2 i3 i4 : Int32} {l1 l2 : Int64} {f1 f2 : UInt32} {d1 d2 : UInt64} {a0 a1 a2 a3 a4 a5 a6 a7 a8 a9 a10 a11 a12 a13 a14 a15 a16 a17 a18 a19 a20 a21 a22 a23 a24 a25 a26 a27 a28 a29 a30 a31 a32 a33 a34 a35 a36 a37 a38 a39 a40 a41 a42 a43 : Option Value}
theorem e_67  : evG TB (d + 1) 67 [.ref p, b1] A = rg b1 (exG TB d 67 0 [some (.ref p), some (b1), none] [] A) := by
  rw [evG_eq]
  show (bif (true && (isR b1 && true)) then exG TB d 67 0 [some (.ref p), some (b1), none] [] A else none) = _
  unfold rg
  cases isR b1 <;> rfl
theorem x_67_0  : exG TB d 67 0 (a0 :: some v :: r9) st A = rg v (exG TB d 67 1 (a0 :: some v :: r9) (v :: st) A) := x_rg (op := o_aload 1 1) rfl rfl
theorem x_67_1n  : exG TB d 67 1 L (.null :: st) A = exG TB d 67 95 L st A := x_nx (op := o_ifnull 95) rfl rfl
theorem x_67_1r  : exG TB d 67 1 L (.ref p :: st) A = exG TB d 67 4 L st A := x_nx (op := o_ifnull 95) rfl rfl
theorem x_67_4  : exG TB d 67 4 (a0 :: some v :: r9) st A = rg v (exG TB d 67 5 (a0 :: some v :: r9) (v :: st) A) := x_rg (op := o_aload 1 1) rfl rfl
theorem x_67_5  : exG TB d 67 5 L (.ref p :: st) A = kv (gf A p 112) d 67 8 L st A := x_bd (op := o_get 112) rfl rfl (fun _ => rfl)
theorem x_67_8  : exG TB d 67 8 (a0 :: a1 :: a2 :: r9) (v :: st) A = rg v (exG TB d 67 9 (a0 :: a1 :: some v :: r9) st A) := x_rgt (op := o_astore 2 1) rfl rfl
theorem x_67_9  : exG TB d 67 9 (a0 :: some v :: r9) st A = rg v (exG TB d 67 10 (a0 :: some v :: r9) (v :: st) A) := x_rg (op := o_aload 1 1) rfl rfl
theorem x_67_10  : exG TB d 67 10 (a0 :: a1 :: some v :: r9) st A = rg v (exG TB d 67 11 (a0 :: a1 :: some v :: r9) (v :: st) A) := x_rg (op := o_aload 2 1) rfl rfl
theorem x_67_11  : exG TB d 67 11 L (.ref p :: st) A = kv (gf A p 113) d 67 14 L st A := x_bd (op := o_get 113) rfl rfl (fun _ => rfl)
theorem x_67_14  : exG TB d 67 14 L (v :: .ref p :: st) A = ck ((gf A p 112).isSome && okv 0 v) (exG TB d 67 17 L st (setf A p 112 v)) := x_gd (op := o_put 112 0) rfl rfl
theorem x_67_17  : exG TB d 67 17 (a0 :: a1 :: some v :: r9) st A = rg v (exG TB d 67 18 (a0 :: a1 :: some v :: r9) (v :: st) A) := x_rg (op := o_aload 2 1) rfl rfl
theorem x_67_18  : exG TB d 67 18 L (.ref p :: st) A = kv (gf A p 113) d 67 21 L st A := x_bd (op := o_get 113) rfl rfl (fun _ => rfl)
theorem x_67_21n  : exG TB d 67 21 L (.null :: st) A = exG TB d 67 32 L st A := x_nx (op := o_ifnull 32) rfl rfl
theorem x_67_21r  : exG TB d 67 21 L (.ref p :: st) A = exG TB d 67 24 L st A := x_nx (op := o_ifnull 32) rfl rfl
theorem x_67_24  : exG TB d 67 24 (a0 :: a1 :: some v :: r9) st A = rg v (exG TB d 67 25 (a0 :: a1 :: some v :: r9) (v :: st) A) := x_rg (op := o_aload 2 1) rfl rfl
theorem x_67_25  : exG TB d 67 25 L (.ref p :: st) A = kv (gf A p 113) d 67 28 L st A := x_bd (op := o_get 113) rfl rfl (fun _ => rfl)
theorem x_67_28  : exG TB d 67 28 (a0 :: some v :: r9) st A = rg v (exG TB d 67 29 (a0 :: some v :: r9) (v :: st) A) := x_rg (op := o_aload 1 1) rfl rfl
theorem x_67_29  : exG TB d 67 29 L (v :: .ref p :: st) A = ck ((gf A p 114).isSome && okv 0 v) (exG TB d 67 32 L st (setf A p 114 v)) := x_gd (op := o_put 114 0) rfl rfl
theorem x_67_32  : exG TB d 67 32 (a0 :: a1 :: some v :: r9) st A = rg v (exG TB d 67 33 (a0 :: a1 :: some v :: r9) (v :: st) A) := x_rg (op := o_aload 2 1) rfl rfl
theorem x_67_33  : exG TB d 67 33 (a0 :: some v :: r9) st A = rg v (exG TB d 67 34 (a0 :: some v :: r9) (v :: st) A) := x_rg (op := o_aload 1 1) rfl rfl
theorem x_67_34  : exG TB d 67 34 L (.ref p :: st) A = kv (gf A p 114) d 67 37 L st A := x_bd (op := o_get 114) rfl rfl (fun _ => rfl)
theorem x_67_37  : exG TB d 67 37 L (v :: .ref p :: st) A = ck ((gf A p 114).isSome && okv 0 v) (exG TB d 67 40 L st (setf A p 114 v)) := x_gd (op := o_put 114 0) rfl rfl
theorem x_67_40  : exG TB d 67 40 (a0 :: some v :: r9) st A = rg v (exG TB d 67 41 (a0 :: some v :: r9) (v :: st) A) := x_rg (op := o_aload 1 1) rfl rfl
theorem x_67_41  : exG TB d 67 41 L (.ref p :: st) A = kv (gf A p 114) d 67 44 L st A := x_bd (op := o_get 114) rfl rfl (fun _ => rfl)
theorem x_67_44n  : exG TB d 67 44 L (.null :: st) A = exG TB d 67 47 L st A := x_nx (op := o_ifnonnull 55) rfl rfl
theorem x_67_44r  : exG TB d 67 44 L (.ref p :: st) A = exG TB d 67 55 L st A := x_nx (op := o_ifnonnull 55) rfl rfl
theorem x_67_47  : exG TB d 67 47 (some v :: r9) st A = rg v (exG TB d 67 48 (some v :: r9) (v :: st) A) := x_rg (op := o_aload 0 1) rfl rfl
theorem x_67_48  : exG TB d 67 48 (a0 :: a1 :: some v :: r9) st A = rg v (exG TB d 67 49 (a0 :: a1 :: some v :: r9) (v :: st) A) := x_rg (op := o_aload 2 1) rfl rfl
theorem x_67_49  : exG TB d 67 49 L (v :: .ref p :: st) A = ck ((gf A p 103).isSome && okv 0 v) (exG TB d 67 52 L st (setf A p 103 v)) := x_gd (op := o_put 103 0) rfl rfl
theorem x_67_52  : exG TB d 67 52 L st A = exG TB d 67 85 L st A := x_nx (op := o_goto 85) rfl rfl
theorem x_67_55  : exG TB d 67 55 (a0 :: some v :: r9) st A = rg v (exG TB d 67 56 (a0 :: some v :: r9) (v :: st) A) := x_rg (op := o_aload 1 1) rfl rfl
theorem x_67_56  : exG TB d 67 56 L (.ref p :: st) A = kv (gf A p 114) d 67 59 L st A := x_bd (op := o_get 114) rfl rfl (fun _ => rfl)
theorem x_67_59  : exG TB d 67 59 L (.ref p :: st) A = kv (gf A p 113) d 67 62 L st A := x_bd (op := o_get 113) rfl rfl (fun _ => rfl)
theorem x_67_62  : exG TB d 67 62 (a0 :: some v :: r9) st A = rg v (exG TB d 67 63 (a0 :: some v :: r9) (v :: st) A) := x_rg (op := o_aload 1 1) rfl rfl
theorem x_67_63  : exG TB d 67 63 L (.ref q :: .ref p :: st) A = if ¬ p = q then exG TB d 67 77 L st A else exG TB d 67 66 L st A := x_if (op := o_acmp false 77) rfl (ac_f p q) rfl
theorem x_67_63rn  : exG TB d 67 63 L (.null :: .ref p :: st) A = exG TB d 67 77 L st A := x_nx (op := o_acmp false 77) rfl rfl
theorem x_67_63nr  : exG TB d 67 63 L (.ref p :: .null :: st) A = exG TB d 67 77 L st A := x_nx (op := o_acmp false 77) rfl rfl
theorem x_67_63nn  : exG TB d 67 63 L (.null :: .null :: st) A = exG TB d 67 66 L st A := x_nx (op := o_acmp false 77) rfl rfl
theorem x_67_66  : exG TB d 67 66 (a0 :: some v :: r9) st A = rg v (exG TB d 67 67 (a0 :: some v :: r9) (v :: st) A) := x_rg (op := o_aload 1 1) rfl rfl
theorem x_67_67  : exG TB d 67 67 L (.ref p :: st) A = kv (gf A p 114) d 67 70 L st A := x_bd (op := o_get 114) rfl rfl (fun _ => rfl)
theorem x_67_70  : exG TB d 67 70 (a0 :: a1 :: some v :: r9) st A = rg v (exG TB d 67 71 (a0 :: a1 :: some v :: r9) (v :: st) A) := x_rg (op := o_aload 2 1) rfl rfl
theorem x_67_71  : exG TB d 67 71 L (v :: .ref p :: st) A = ck ((gf A p 113).isSome && okv 0 v) (exG TB d 67 74 L st (setf A p 113 v)) := x_gd (op := o_put 113 0) rfl rfl
theorem x_67_74  : exG TB d 67 74 L st A = exG TB d 67 85 L st A := x_nx (op := o_goto 85) rfl rfl
theorem x_67_77  : exG TB d 67 77 (a0 :: some v :: r9) st A = rg v (exG TB d 67 78 (a0 :: some v :: r9) (v :: st) A) := x_rg (op := o_aload 1 1) rfl rfl
theorem x_67_78  : exG TB d 67 78 L (.ref p :: st) A = kv (gf A p 114) d 67 81 L st A := x_bd (op := o_get 114) rfl rfl (fun _ => rfl)
theorem x_67_81  : exG TB d 67 81 (a0 :: a1 :: some v :: r9) st A = rg v (exG TB d 67 82 (a0 :: a1 :: some v :: r9) (v :: st) A) := x_rg (op := o_aload 2 1) rfl rfl
theorem x_67_82  : exG TB d 67 82 L (v :: .ref p :: st) A = ck ((gf A p 112).isSome && okv 0 v) (exG TB d 67 85 L st (setf A p 112 v)) := x_gd (op := o_put 112 0) rfl rfl
theorem x_67_85  : exG TB d 67 85 (a0 :: a1 :: some v :: r9) st A = rg v (exG TB d 67 86 (a0 :: a1 :: some v :: r9) (v :: st) A) := x_rg (op := o_aload 2 1) rfl rfl
theorem x_67_86  : exG TB d 67 86 (a0 :: some v :: r9) st A = rg v (exG TB d 67 87 (a0 :: some v :: r9) (v :: st) A) := x_rg (op := o_aload 1 1) rfl rfl
theorem x_67_87  : exG TB d 67 87 L (v :: .ref p :: st) A = ck ((gf A p 113).isSome && okv 0 v) (exG TB d 67 90 L st (setf A p 113 v)) := x_gd (op := o_put 113 0) rfl rfl
theorem x_67_90  : exG TB d 67 90 (a0 :: some v :: r9) st A = rg v (exG TB d 67 91 (a0 :: some v :: r9) (v :: st) A) := x_rg (op := o_aload 1 1) rfl rfl
theorem x_67_91  : exG TB d 67 91 (a0 :: a1 :: some v :: r9) st A = rg v (exG TB d 67 92 (a0 :: a1 :: some v :: r9) (v :: st) A) := x_rg (op := o_aload 2 1) rfl rfl
theorem x_67_92  : exG TB d 67 92 L (v :: .ref p :: st) A = ck ((gf A p 114).isSome && okv 0 v) (exG TB d 67 95 L st (setf A p 114 v)) := x_gd (op := o_put 114 0) rfl rfl
theorem x_67_95  : exG TB d 67 95 L [] A = some (.inl none, A) := x_out (op := o_vret) rfl rfl
theorem e_68  : evG TB (d + 1) 68 [.ref p] A = exG TB d 68 0 [some (.ref p), none] [] A := evG_eq TB d 68 _ A
theorem x_68_0  : exG TB d 68 0 (some v :: r9) st A = rg v (exG TB d 68 1 (some v :: r9) (v :: st) A) := x_rg (op := o_aload 0 1) rfl rfl
theorem x_68_1  : exG TB d 68 1 L (.ref p :: st) A = kv (gf A p 30) d 68 4 L st A := x_bd (op := o_get 30) rfl rfl (fun _ => rfl)
theorem x_68_4  : exG TB d 68 4 (a0 :: a1 :: r9) (v :: st) A = rg v (exG TB d 68 5 (a0 :: some v :: r9) st A) := x_rgt (op := o_astore 1 1) rfl rfl
theorem x_68_5  : exG TB d 68 5 (a0 :: some v :: r9) st A = rg v (exG TB d 68 6 (a0 :: some v :: r9) (v :: st) A) := x_rg (op := o_aload 1 1) rfl rfl
theorem x_68_6n  : exG TB d 68 6 L (.null :: st) A = exG TB d 68 9 L st A := x_nx (op := o_ifnonnull 23) rfl rfl
theorem x_68_6r  : exG TB d 68 6 L (.ref p :: st) A = exG TB d 68 23 L st A := x_nx (op := o_ifnonnull 23) rfl rfl
theorem x_68_9  : exG TB d 68 9 L st A = exG TB d 68 12 L (.ref (nx A) :: st) (newo A 23 1 dv23) := x_nx (op := o_new 23 1 dv23) rfl rfl
theorem x_68_12  : exG TB d 68 12 L (v :: st) A = ck (c1 v) (exG TB d 68 13 L (v :: v :: st) A) := x_gd (op := o_dup) rfl rfl
theorem x_68_13  : exG TB d 68 13 (some v :: r9) st A = rg v (exG TB d 68 14 (some v :: r9) (v :: st) A) := x_rg (op := o_aload 0 1) rfl rfl
theorem x_68_14  : exG TB d 68 14 L [b0, .ref p, w0] A = kc0 (evG TB d 84 [.ref p, b0] A) d 68 17 L [w0] := x_c0 (op := o_ci 84 1) rfl rfl x_noh rfl
theorem x_68_17  : exG TB d 68 17 (a0 :: a1 :: r9) (v :: st) A = rg v (exG TB d 68 18 (a0 :: some v :: r9) st A) := x_rgt (op := o_astore 1 1) rfl rfl
theorem x_68_18  : exG TB d 68 18 (some v :: r9) st A = rg v (exG TB d 68 19 (some v :: r9) (v :: st) A) := x_rg (op := o_aload 0 1) rfl rfl
theorem x_68_19  : exG TB d 68 19 (a0 :: some v :: r9) st A = rg v (exG TB d 68 20 (a0 :: some v :: r9) (v :: st) A) := x_rg (op := o_aload 1 1) rfl rfl
theorem x_68_20  : exG TB d 68 20 L (v :: .ref p :: st) A = ck ((gf A p 30).isSome && okv 0 v) (exG TB d 68 23 L st (setf A p 30 v)) := x_gd (op := o_put 30 0) rfl rfl
theorem x_68_23  : exG TB d 68 23 (a0 :: some v :: r9) st A = rg v (exG TB d 68 24 (a0 :: some v :: r9) (v :: st) A) := x_rg (op := o_aload 1 1) rfl rfl
theorem x_68_24  : exG TB d 68 24 L [v] A = ck (okv 0 v) (some (.inl (some v), A)) := x_outg (op := o_ret 0) rfl rfl
theorem e_69  : evG TB (d + 1) 69 [.ref p] A = exG TB d 69 0 [some (.ref p), none] [] A := evG_eq TB d 69 _ A
theorem x_69_0  : exG TB d 69 0 (some v :: r9) st A = rg v (exG TB d 69 1 (some v :: r9) (v :: st) A) := x_rg (op := o_aload 0 1) rfl rfl
theorem x_69_1  : exG TB d 69 1 L (.ref p :: st) A = kv (gf A p 103) d 69 4 L st A := x_bd (op := o_get 103) rfl rfl (fun _ => rfl)
theorem x_69_4  : exG TB d 69 4 (a0 :: a1 :: r9) (v :: st) A = rg v (exG TB d 69 5 (a0 :: some v :: r9) st A) := x_rgt (op := o_astore 1 1) rfl rfl
theorem x_69_5  : exG TB d 69 5 (a0 :: some v :: r9) st A = rg v (exG TB d 69 6 (a0 :: some v :: r9) (v :: st) A) := x_rg (op := o_aload 1 1) rfl rfl
theorem x_69_6n  : exG TB d 69 6 L (.null :: st) A = exG TB d 69 24 L st A := x_nx (op := o_ifnull 24) rfl rfl
theorem x_69_6r  : exG TB d 69 6 L (.ref p :: st) A = exG TB d 69 9 L st A := x_nx (op := o_ifnull 24) rfl rfl
theorem x_69_9  : exG TB d 69 9 (a0 :: some v :: r9) st A = rg v (exG TB d 69 10 (a0 :: some v :: r9) (v :: st) A) := x_rg (op := o_aload 1 1) rfl rfl
theorem x_69_10  : exG TB d 69 10 L (.ref p :: st) A = kv (gf A p 112) d 69 13 L st A := x_bd (op := o_get 112) rfl rfl (fun _ => rfl)
theorem x_69_13n  : exG TB d 69 13 L (.null :: st) A = exG TB d 69 24 L st A := x_nx (op := o_ifnull 24) rfl rfl
theorem x_69_13r  : exG TB d 69 13 L (.ref p :: st) A = exG TB d 69 16 L st A := x_nx (op := o_ifnull 24) rfl rfl
theorem x_69_16  : exG TB d 69 16 (a0 :: some v :: r9) st A = rg v (exG TB d 69 17 (a0 :: some v :: r9) (v :: st) A) := x_rg (op := o_aload 1 1) rfl rfl
theorem x_69_17  : exG TB d 69 17 L (.ref p :: st) A = kv (gf A p 112) d 69 20 L st A := x_bd (op := o_get 112) rfl rfl (fun _ => rfl)
theorem x_69_20  : exG TB d 69 20 (a0 :: a1 :: r9) (v :: st) A = rg v (exG TB d 69 21 (a0 :: some v :: r9) st A) := x_rgt (op := o_astore 1 1) rfl rfl
theorem x_69_21  : exG TB d 69 21 L st A = exG TB d 69 9 L st A := x_nx (op := o_goto 9) rfl rfl
theorem x_69_24  : exG TB d 69 24 (a0 :: some v :: r9) st A = rg v (exG TB d 69 25 (a0 :: some v :: r9) (v :: st) A) := x_rg (op := o_aload 1 1) rfl rfl
theorem x_69_25  : exG TB d 69 25 L [v] A = ck (okv 0 v) (some (.inl (some v), A)) := x_outg (op := o_ret 0) rfl rfl
theorem e_70 {j0 : Int32} {j1 : Int32} : evG TB (d + 1) 70 [.int j0, .int j1] A = exG TB d 70 0 [some (.int j0), some (.int j1)] [] A := evG_eq TB d 70 _ A
theorem x_70_0  : exG TB d 70 0 (some (.int i1) :: r9) st A = exG TB d 70 1 (some (.int i1) :: r9) (.int i1 :: st) A := x_nx (op := o_iload 0 1) rfl rfl
theorem x_70_1  : exG TB d 70 1 (a0 :: some (.int i1) :: r9) st A = exG TB d 70 2 (a0 :: some (.int i1) :: r9) (.int i1 :: st) A := x_nx (op := o_iload 1 1) rfl rfl
theorem x_70_2  : exG TB d 70 2 L st A = exG TB d 70 3 L (.null :: st) A := x_nx (op := o_push 1 .null) rfl rfl
theorem x_70_3  : exG TB d 70 3 L [b2, b1, b0] A = kc (evG TB d 15 [b0, b1, b2] A) d 70 6 L [] := x_cv (op := o_cs 15 3 false none) rfl rfl x_noh rfl
theorem x_70_6  : exG TB d 70 6 L [v] A = ck (okv 1 v) (some (.inl (some v), A)) := x_outg (op := o_ret 1) rfl rfl
theorem e_71  : evG TB (d + 1) 71 [b0] A = rg b0 (exG TB d 71 0 [some (b0)] [] A) := by
  rw [evG_eq]
  show (bif (isR b0 && true) then exG TB d 71 0 [some (b0)] [] A else none) = _
  unfold rg
  cases isR b0 <;> rfl
theorem x_71_0  : exG TB d 71 0 (some v :: r9) st A = rg v (exG TB d 71 1 (some v :: r9) (v :: st) A) := x_rg (op := o_aload 0 1) rfl rfl
theorem x_71_1n  : exG TB d 71 1 L (.null :: st) A = exG TB d 71 4 L st A := x_nx (op := o_ifnonnull 12) rfl rfl
theorem x_71_1r  : exG TB d 71 1 L (.ref p :: st) A = exG TB d 71 12 L st A := x_nx (op := o_ifnonnull 12) rfl rfl
theorem x_71_7  : exG TB d 71 7 L (v :: st) A = ck (c1 v) (exG TB d 71 8 L (v :: v :: st) A) := x_gd (op := o_dup) rfl rfl
theorem x_71_12  : exG TB d 71 12 (some v :: r9) st A = rg v (exG TB d 71 13 (some v :: r9) (v :: st) A) := x_rg (op := o_aload 0 1) rfl rfl
theorem x_71_13  : exG TB d 71 13 L [v] A = ck (okv 0 v) (some (.inl (some v), A)) := x_outg (op := o_ret 0) rfl rfl
theorem e_72  : evG TB (d + 1) 72 [.ref p] A = exG TB d 72 0 [some (.ref p)] [] A := evG_eq TB d 72 _ A
theorem x_72_0  : exG TB d 72 0 (some v :: r9) st A = rg v (exG TB d 72 1 (some v :: r9) (v :: st) A) := x_rg (op := o_aload 0 1) rfl rfl
theorem x_72_1  : exG TB d 72 1 L [.ref p] A = kc0 (evG TB d 0 [.ref p] A) d 72 4 L [] := x_c0 (op := o_ci 0 0) rfl rfl x_noh rfl
theorem x_72_4  : exG TB d 72 4 L [] A = some (.inl none, A) := x_out (op := o_vret) rfl rfl
theorem e_73 {j1 : Int32} : evG TB (d + 1) 73 [.ref p, .int j1, b2] A = rg b2 (exG TB d 73 0 [some (.ref p), some (.int j1), some (b2)] [] A) := by
  rw [evG_eq]
  show (bif (true && (true && (isR b2 && true))) then exG TB d 73 0 [some (.ref p), some (.int j1), some (b2)] [] A else none) = _
  unfold rg
  cases isR b2 <;> rfl
theorem x_73_0  : exG TB d 73 0 (some v :: r9) st A = rg v (exG TB d 73 1 (some v :: r9) (v :: st) A) := x_rg (op := o_aload 0 1) rfl rfl
theorem x_73_1  : exG TB d 73 1 L [.ref p] A = kc0 (evG TB d 72 [.ref p] A) d 73 4 L [] := x_c0 (op := o_ci 72 0) rfl rfl x_noh rfl
theorem x_73_4  : exG TB d 73 4 (a0 :: some (.int i1) :: r9) st A = exG TB d 73 5 (a0 :: some (.int i1) :: r9) (.int i1 :: st) A := x_nx (op := o_iload 1 1) rfl rfl
theorem x_73_5  : exG TB d 73 5 L st A = exG TB d 73 6 L (.int (nI 1) :: st) A := x_nx (op := o_push 1 (.int 1)) rfl rfl
theorem x_73_6  : exG TB d 73 6 L (.int i2 :: .int i1 :: st) A = if i2 ≤ i1 then exG TB d 73 17 L st A else exG TB d 73 9 L st A := x_if (op := o_icmp (fun x y => decide (y ≤ x)) 17) rfl rfl rfl
theorem x_73_12  : exG TB d 73 12 L (v :: st) A = ck (c1 v) (exG TB d 73 13 L (v :: v :: st) A) := x_gd (op := o_dup) rfl rfl
theorem x_73_17  : exG TB d 73 17 (some v :: r9) st A = rg v (exG TB d 73 18 (some v :: r9) (v :: st) A) := x_rg (op := o_aload 0 1) rfl rfl
theorem x_73_18  : exG TB d 73 18 (a0 :: some (.int i1) :: r9) st A = exG TB d 73 19 (a0 :: some (.int i1) :: r9) (.int i1 :: st) A := x_nx (op := o_iload 1 1) rfl rfl
theorem x_73_19  : exG TB d 73 19 L (.int i1 :: st) A = ck (okn i1) (exG TB d 73 22 L (.ref (nx A) :: st) (newa A (zar 5 i1.toNatClampNeg))) := x_gd (op := o_newa 5 3) rfl rfl
theorem x_73_22  : exG TB d 73 22 L (v :: .ref p :: st) A = ck ((gf A p 97).isSome && okv 0 v) (exG TB d 73 25 L st (setf A p 97 v)) := x_gd (op := o_put 97 0) rfl rfl
theorem x_73_25  : exG TB d 73 25 (some v :: r9) st A = rg v (exG TB d 73 26 (some v :: r9) (v :: st) A) := x_rg (op := o_aload 0 1) rfl rfl
theorem x_73_26  : exG TB d 73 26 (a0 :: a1 :: some v :: r9) st A = rg v (exG TB d 73 27 (a0 :: a1 :: some v :: r9) (v :: st) A) := x_rg (op := o_aload 2 1) rfl rfl
theorem x_73_27  : exG TB d 73 27 L (v :: .ref p :: st) A = ck ((gf A p 99).isSome && okv 0 v) (exG TB d 73 30 L st (setf A p 99 v)) := x_gd (op := o_put 99 0) rfl rfl
theorem x_73_30  : exG TB d 73 30 L [] A = some (.inl none, A) := x_out (op := o_vret) rfl rfl
theorem e_74  : evG TB (d + 1) 74 [.ref p, b1] A = rg b1 (exG TB d 74 0 [some (.ref p), some (b1)] [] A) := by
  rw [evG_eq]
  show (bif (true && (isR b1 && true)) then exG TB d 74 0 [some (.ref p), some (b1)] [] A else none) = _
  unfold rg
  cases isR b1 <;> rfl
theorem x_74_0  : exG TB d 74 0 (some v :: r9) st A = rg v (exG TB d 74 1 (some v :: r9) (v :: st) A) := x_rg (op := o_aload 0 1) rfl rfl
theorem x_74_1  : exG TB d 74 1 (a0 :: some v :: r9) st A = rg v (exG TB d 74 2 (a0 :: some v :: r9) (v :: st) A) := x_rg (op := o_aload 1 1) rfl rfl
theorem x_74_2  : exG TB d 74 2 L [b0, .ref p] A = kw (sel (gc A p) [(18, 75)]) [.ref p, b0] d 74 5 L [] A := x_cvb (op := o_cv [(18, 75)] 1 3 false none) rfl rfl x_noh rfl
theorem x_74_5  : exG TB d 74 5 L [v] A = ck (okv 5 v) (some (.inl (some v), A)) := x_outg (op := o_ret 5) rfl rfl
theorem e_75  : evG TB (d + 1) 75 [.ref p, b1] A = rg b1 (exG TB d 75 0 [some (.ref p), some (b1), none] [] A) := by
  rw [evG_eq]
  show (bif (true && (isR b1 && true)) then exG TB d 75 0 [some (.ref p), some (b1), none] [] A else none) = _
  unfold rg
  cases isR b1 <;> rfl
theorem x_75_0  : exG TB d 75 0 (a0 :: some v :: r9) st A = rg v (exG TB d 75 1 (a0 :: some v :: r9) (v :: st) A) := x_rg (op := o_aload 1 1) rfl rfl
theorem x_75_1n  : exG TB d 75 1 L (.null :: st) A = exG TB d 75 4 L st A := x_nx (op := o_ifnonnull 12) rfl rfl
theorem x_75_1r  : exG TB d 75 1 L (.ref p :: st) A = exG TB d 75 12 L st A := x_nx (op := o_ifnonnull 12) rfl rfl
theorem x_75_7  : exG TB d 75 7 L (v :: st) A = ck (c1 v) (exG TB d 75 8 L (v :: v :: st) A) := x_gd (op := o_dup) rfl rfl
theorem x_75_12  : exG TB d 75 12 (some v :: r9) st A = rg v (exG TB d 75 13 (some v :: r9) (v :: st) A) := x_rg (op := o_aload 0 1) rfl rfl
theorem x_75_13  : exG TB d 75 13 L (v :: st) A = ck (c1 v) (exG TB d 75 14 L (v :: v :: st) A) := x_gd (op := o_dup) rfl rfl
theorem x_75_14  : exG TB d 75 14 L (.ref p :: st) A = kv (gf A p 100) d 75 17 L st A := x_bd (op := o_get 100) rfl rfl (fun _ => rfl)
theorem x_75_17  : exG TB d 75 17 L st A = exG TB d 75 18 L (.int (nI 1) :: st) A := x_nx (op := o_push 1 (.int 1)) rfl rfl
theorem x_75_18  : exG TB d 75 18 L (.int i2 :: .int i1 :: st) A = exG TB d 75 19 L (.int (i1 + i2) :: st) A := x_nx (op := o_iop (fun x y => x + y)) rfl rfl
theorem x_75_19  : exG TB d 75 19 L (v :: .ref p :: st) A = ck ((gf A p 100).isSome && okv 1 v) (exG TB d 75 22 L st (setf A p 100 v)) := x_gd (op := o_put 100 1) rfl rfl
theorem x_75_22  : exG TB d 75 22 (some v :: r9) st A = rg v (exG TB d 75 23 (some v :: r9) (v :: st) A) := x_rg (op := o_aload 0 1) rfl rfl
theorem x_75_23  : exG TB d 75 23 L (.ref p :: st) A = kv (gf A p 98) d 75 26 L st A := x_bd (op := o_get 98) rfl rfl (fun _ => rfl)
theorem x_75_26  : exG TB d 75 26 (a0 :: a1 :: a2 :: r9) (.int i1 :: st) A = exG TB d 75 27 (a0 :: a1 :: some (.int i1) :: r9) st A := x_nx (op := o_istore 2 1) rfl rfl
theorem x_75_27  : exG TB d 75 27 (a0 :: a1 :: some (.int i1) :: r9) st A = exG TB d 75 28 (a0 :: a1 :: some (.int i1) :: r9) (.int i1 :: st) A := x_nx (op := o_iload 2 1) rfl rfl
theorem x_75_28  : exG TB d 75 28 (some v :: r9) st A = rg v (exG TB d 75 29 (some v :: r9) (v :: st) A) := x_rg (op := o_aload 0 1) rfl rfl
theorem x_75_29  : exG TB d 75 29 L (.ref p :: st) A = kv (gf A p 97) d 75 32 L st A := x_bd (op := o_get 97) rfl rfl (fun _ => rfl)
theorem x_75_32  : exG TB d 75 32 L (.ref p :: st) A = ki (aln (ga A p)) d 75 33 L st A := x_bd (op := o_alen) rfl rfl (fun _ => rfl)
theorem x_75_33  : exG TB d 75 33 L (.int i2 :: .int i1 :: st) A = if i1 < i2 then exG TB d 75 43 L st A else exG TB d 75 36 L st A := x_if (op := o_icmp (fun x y => decide (x < y)) 43) rfl rfl rfl
theorem x_75_36  : exG TB d 75 36 (some v :: r9) st A = rg v (exG TB d 75 37 (some v :: r9) (v :: st) A) := x_rg (op := o_aload 0 1) rfl rfl
theorem x_75_37  : exG TB d 75 37 (a0 :: a1 :: some (.int i1) :: r9) st A = exG TB d 75 38 (a0 :: a1 :: some (.int i1) :: r9) (.int i1 :: st) A := x_nx (op := o_iload 2 1) rfl rfl
theorem x_75_38  : exG TB d 75 38 L st A = exG TB d 75 39 L (.int (nI 1) :: st) A := x_nx (op := o_push 1 (.int 1)) rfl rfl
theorem x_75_39  : exG TB d 75 39 L (.int i2 :: .int i1 :: st) A = exG TB d 75 40 L (.int (i1 + i2) :: st) A := x_nx (op := o_iop (fun x y => x + y)) rfl rfl
theorem x_75_40  : exG TB d 75 40 L [b0, .ref p] A = kw0 (sel (gc A p) [(18, 76)]) [.ref p, b0] d 75 43 L [] A := x_c0b (op := o_cv [(18, 76)] 1 3 true none) rfl rfl x_noh rfl
theorem x_75_43  : exG TB d 75 43 (some v :: r9) st A = rg v (exG TB d 75 44 (some v :: r9) (v :: st) A) := x_rg (op := o_aload 0 1) rfl rfl
theorem x_75_44  : exG TB d 75 44 (a0 :: a1 :: some (.int i1) :: r9) st A = exG TB d 75 45 (a0 :: a1 :: some (.int i1) :: r9) (.int i1 :: st) A := x_nx (op := o_iload 2 1) rfl rfl
theorem x_75_45  : exG TB d 75 45 (a0 :: some v :: r9) st A = rg v (exG TB d 75 46 (a0 :: some v :: r9) (v :: st) A) := x_rg (op := o_aload 1 1) rfl rfl
theorem x_75_46  : exG TB d 75 46 L [b1, b0, .ref p] A = kw0 (sel (gc A p) [(18, 77)]) [.ref p, b0, b1] d 75 49 L [] A := x_c0b (op := o_cv [(18, 77)] 2 3 true none) rfl rfl x_noh rfl
theorem x_75_49  : exG TB d 75 49 (some v :: r9) st A = rg v (exG TB d 75 50 (some v :: r9) (v :: st) A) := x_rg (op := o_aload 0 1) rfl rfl
theorem x_75_50  : exG TB d 75 50 (a0 :: a1 :: some (.int i1) :: r9) st A = exG TB d 75 51 (a0 :: a1 :: some (.int i1) :: r9) (.int i1 :: st) A := x_nx (op := o_iload 2 1) rfl rfl
theorem x_75_51  : exG TB d 75 51 L st A = exG TB d 75 52 L (.int (nI 1) :: st) A := x_nx (op := o_push 1 (.int 1)) rfl rfl
theorem x_75_52  : exG TB d 75 52 L (.int i2 :: .int i1 :: st) A = exG TB d 75 53 L (.int (i1 + i2) :: st) A := x_nx (op := o_iop (fun x y => x + y)) rfl rfl
theorem x_75_53  : exG TB d 75 53 L (v :: .ref p :: st) A = ck ((gf A p 98).isSome && okv 1 v) (exG TB d 75 56 L st (setf A p 98 v)) := x_gd (op := o_put 98 1) rfl rfl
theorem x_75_56  : exG TB d 75 56 L st A = exG TB d 75 57 L (.int (nI 1) :: st) A := x_nx (op := o_push 1 (.int 1)) rfl rfl
theorem x_75_57  : exG TB d 75 57 L [v] A = ck (okv 5 v) (some (.inl (some v), A)) := x_outg (op := o_ret 5) rfl rfl
theorem e_76 {j1 : Int32} : evG TB (d + 1) 76 [.ref p, .int j1] A = exG TB d 76 0 [some (.ref p), some (.int j1), none, none] [] A := evG_eq TB d 76 _ A
theorem x_76_0  : exG TB d 76 0 (some v :: r9) st A = rg v (exG TB d 76 1 (some v :: r9) (v :: st) A) := x_rg (op := o_aload 0 1) rfl rfl
theorem x_76_1  : exG TB d 76 1 L (.ref p :: st) A = kv (gf A p 97) d 76 4 L st A := x_bd (op := o_get 97) rfl rfl (fun _ => rfl)
theorem x_76_4  : exG TB d 76 4 L (.ref p :: st) A = ki (aln (ga A p)) d 76 5 L st A := x_bd (op := o_alen) rfl rfl (fun _ => rfl)
theorem x_76_5  : exG TB d 76 5 (a0 :: a1 :: a2 :: r9) (.int i1 :: st) A = exG TB d 76 6 (a0 :: a1 :: some (.int i1) :: r9) st A := x_nx (op := o_istore 2 1) rfl rfl
theorem x_76_6  : exG TB d 76 6 (a0 :: a1 :: some (.int i1) :: r9) st A = exG TB d 76 7 (a0 :: a1 :: some (.int i1) :: r9) (.int i1 :: st) A := x_nx (op := o_iload 2 1) rfl rfl
theorem x_76_7  : exG TB d 76 7 (a0 :: some (.int i1) :: r9) st A = exG TB d 76 8 (a0 :: some (.int i1) :: r9) (.int i1 :: st) A := x_nx (op := o_iload 1 1) rfl rfl
theorem x_76_8  : exG TB d 76 8 (a0 :: a1 :: some (.int i1) :: r9) st A = exG TB d 76 9 (a0 :: a1 :: some (.int i1) :: r9) (.int i1 :: st) A := x_nx (op := o_iload 2 1) rfl rfl
theorem x_76_9  : exG TB d 76 9 L (.int i2 :: .int i1 :: st) A = exG TB d 76 10 L (.int (i1 - i2) :: st) A := x_nx (op := o_iop (fun x y => x - y)) rfl rfl
theorem x_76_10  : exG TB d 76 10 (a0 :: a1 :: some (.int i1) :: r9) st A = exG TB d 76 11 (a0 :: a1 :: some (.int i1) :: r9) (.int i1 :: st) A := x_nx (op := o_iload 2 1) rfl rfl
theorem x_76_11  : exG TB d 76 11 L st A = exG TB d 76 13 L (.int (nI 64) :: st) A := x_nx (op := o_push 2 (.int 64)) rfl rfl
theorem x_76_13  : exG TB d 76 13 L (.int i2 :: .int i1 :: st) A = if i2 ≤ i1 then exG TB d 76 22 L st A else exG TB d 76 16 L st A := x_if (op := o_icmp (fun x y => decide (y ≤ x)) 22) rfl rfl rfl
theorem x_76_16  : exG TB d 76 16 (a0 :: a1 :: some (.int i1) :: r9) st A = exG TB d 76 17 (a0 :: a1 :: some (.int i1) :: r9) (.int i1 :: st) A := x_nx (op := o_iload 2 1) rfl rfl
theorem x_76_17  : exG TB d 76 17 L st A = exG TB d 76 18 L (.int (nI 2) :: st) A := x_nx (op := o_push 1 (.int 2)) rfl rfl
theorem x_76_18  : exG TB d 76 18 L (.int i2 :: .int i1 :: st) A = exG TB d 76 19 L (.int (i1 + i2) :: st) A := x_nx (op := o_iop (fun x y => x + y)) rfl rfl
theorem x_76_19  : exG TB d 76 19 L st A = exG TB d 76 25 L st A := x_nx (op := o_goto 25) rfl rfl
theorem x_76_22  : exG TB d 76 22 (a0 :: a1 :: some (.int i1) :: r9) st A = exG TB d 76 23 (a0 :: a1 :: some (.int i1) :: r9) (.int i1 :: st) A := x_nx (op := o_iload 2 1) rfl rfl
theorem x_76_23  : exG TB d 76 23 L st A = exG TB d 76 24 L (.int (nI 1) :: st) A := x_nx (op := o_push 1 (.int 1)) rfl rfl
theorem x_76_24  : exG TB d 76 24 L (.int i2 :: .int i1 :: st) A = exG TB d 76 25 L (.int (i1 >>> (i2 &&& 31)) :: st) A := x_nx (op := o_iop (fun x y => x >>> (y &&& 31))) rfl rfl
theorem x_76_25  : exG TB d 76 25 L [b2, b1, b0] A = kc (evG TB d 2 [b0, b1, b2] A) d 76 28 L [] := x_cv (op := o_cs 2 3 false none) rfl rfl x_noh rfl
theorem x_76_28  : exG TB d 76 28 (a0 :: a1 :: a2 :: a3 :: r9) (.int i1 :: st) A = exG TB d 76 29 (a0 :: a1 :: a2 :: some (.int i1) :: r9) st A := x_nx (op := o_istore 3 1) rfl rfl
theorem x_76_29  : exG TB d 76 29 (some v :: r9) st A = rg v (exG TB d 76 30 (some v :: r9) (v :: st) A) := x_rg (op := o_aload 0 1) rfl rfl
theorem x_76_30  : exG TB d 76 30 (some v :: r9) st A = rg v (exG TB d 76 31 (some v :: r9) (v :: st) A) := x_rg (op := o_aload 0 1) rfl rfl
theorem x_76_31  : exG TB d 76 31 L (.ref p :: st) A = kv (gf A p 97) d 76 34 L st A := x_bd (op := o_get 97) rfl rfl (fun _ => rfl)
theorem x_76_34  : exG TB d 76 34 (a0 :: a1 :: a2 :: some (.int i1) :: r9) st A = exG TB d 76 35 (a0 :: a1 :: a2 :: some (.int i1) :: r9) (.int i1 :: st) A := x_nx (op := o_iload 3 1) rfl rfl
theorem x_76_35  : exG TB d 76 35 L [b1, b0, w0] A = kc (evG TB d 13 [b0, b1] A) d 76 38 L [w0] := x_cv (op := o_cs 13 2 false none) rfl rfl x_noh rfl
theorem x_76_38  : exG TB d 76 38 L (v :: .ref p :: st) A = ck ((gf A p 97).isSome && okv 0 v) (exG TB d 76 41 L st (setf A p 97 v)) := x_gd (op := o_put 97 0) rfl rfl
theorem x_76_41  : exG TB d 76 41 L [] A = some (.inl none, A) := x_out (op := o_vret) rfl rfl
theorem e_77 {j1 : Int32} : evG TB (d + 1) 77 [.ref p, .int j1, b2] A = rg b2 (exG TB d 77 0 [some (.ref p), some (.int j1), some (b2)] [] A) := by
  rw [evG_eq]
  show (bif (true && (true && (isR b2 && true))) then exG TB d 77 0 [some (.ref p), some (.int j1), some (b2)] [] A else none) = _
  unfold rg
  cases isR b2 <;> rfl
theorem x_77_0  : exG TB d 77 0 (some v :: r9) st A = rg v (exG TB d 77 1 (some v :: r9) (v :: st) A) := x_rg (op := o_aload 0 1) rfl rfl
theorem x_77_1  : exG TB d 77 1 L (.ref p :: st) A = kv (gf A p 99) d 77 4 L st A := x_bd (op := o_get 99) rfl rfl (fun _ => rfl)
theorem x_77_4n  : exG TB d 77 4 L (.null :: st) A = exG TB d 77 23 L st A := x_nx (op := o_ifnull 23) rfl rfl
theorem x_77_4r  : exG TB d 77 4 L (.ref p :: st) A = exG TB d 77 7 L st A := x_nx (op := o_ifnull 23) rfl rfl
theorem x_77_7  : exG TB d 77 7 (a0 :: some (.int i1) :: r9) st A = exG TB d 77 8 (a0 :: some (.int i1) :: r9) (.int i1 :: st) A := x_nx (op := o_iload 1 1) rfl rfl
theorem x_77_8  : exG TB d 77 8 (a0 :: a1 :: some v :: r9) st A = rg v (exG TB d 77 9 (a0 :: a1 :: some v :: r9) (v :: st) A) := x_rg (op := o_aload 2 1) rfl rfl
theorem x_77_9  : exG TB d 77 9 (some v :: r9) st A = rg v (exG TB d 77 10 (some v :: r9) (v :: st) A) := x_rg (op := o_aload 0 1) rfl rfl
theorem x_77_10  : exG TB d 77 10 L (.ref p :: st) A = kv (gf A p 97) d 77 13 L st A := x_bd (op := o_get 97) rfl rfl (fun _ => rfl)
theorem x_77_13  : exG TB d 77 13 (some v :: r9) st A = rg v (exG TB d 77 14 (some v :: r9) (v :: st) A) := x_rg (op := o_aload 0 1) rfl rfl
theorem x_77_14  : exG TB d 77 14 L (.ref p :: st) A = kv (gf A p 99) d 77 17 L st A := x_bd (op := o_get 99) rfl rfl (fun _ => rfl)
theorem x_77_17  : exG TB d 77 17 L [b3, b2, b1, b0] A = kc0 (evG TB d 78 [b0, b1, b2, b3] A) d 77 20 L [] := x_c0 (op := o_cs 78 4 true none) rfl rfl x_noh rfl
theorem x_77_20  : exG TB d 77 20 L st A = exG TB d 77 32 L st A := x_nx (op := o_goto 32) rfl rfl
theorem x_77_23  : exG TB d 77 23 (a0 :: some (.int i1) :: r9) st A = exG TB d 77 24 (a0 :: some (.int i1) :: r9) (.int i1 :: st) A := x_nx (op := o_iload 1 1) rfl rfl
theorem x_77_24  : exG TB d 77 24 (a0 :: a1 :: some v :: r9) st A = rg v (exG TB d 77 25 (a0 :: a1 :: some v :: r9) (v :: st) A) := x_rg (op := o_aload 2 1) rfl rfl
theorem x_77_25  : exG TB d 77 25 (some v :: r9) st A = rg v (exG TB d 77 26 (some v :: r9) (v :: st) A) := x_rg (op := o_aload 0 1) rfl rfl
theorem x_77_26  : exG TB d 77 26 L (.ref p :: st) A = kv (gf A p 97) d 77 29 L st A := x_bd (op := o_get 97) rfl rfl (fun _ => rfl)
theorem x_77_32  : exG TB d 77 32 L [] A = some (.inl none, A) := x_out (op := o_vret) rfl rfl
theorem e_78 {j0 : Int32} : evG TB (d + 1) 78 [.int j0, b1, b2, b3] A = rg b1 (rg b2 (rg b3 (exG TB d 78 0 [some (.int j0), some (b1), some (b2), some (b3), none, none] [] A))) := by
  rw [evG_eq]
  show (bif (true && (isR b1 && (isR b2 && (isR b3 && true)))) then exG TB d 78 0 [some (.int j0), some (b1), some (b2), some (b3), none, none] [] A else none) = _
  unfold rg
  cases isR b1 <;> cases isR b2 <;> cases isR b3 <;> rfl
theorem x_78_0  : exG TB d 78 0 (some (.int i1) :: r9) st A = exG TB d 78 1 (some (.int i1) :: r9) (.int i1 :: st) A := x_nx (op := o_iload 0 1) rfl rfl
theorem x_78_1  : exG TB d 78 1 L (.int i1 :: st) A = if i1 ≤ nI 0 then exG TB d 78 43 L st A else exG TB d 78 4 L st A := x_if (op := o_if (fun x => decide (x ≤ 0)) 43) rfl rfl rfl
theorem x_78_4  : exG TB d 78 4 (some (.int i1) :: r9) st A = exG TB d 78 5 (some (.int i1) :: r9) (.int i1 :: st) A := x_nx (op := o_iload 0 1) rfl rfl
theorem x_78_5  : exG TB d 78 5 L st A = exG TB d 78 6 L (.int (nI 1) :: st) A := x_nx (op := o_push 1 (.int 1)) rfl rfl
theorem x_78_6  : exG TB d 78 6 L (.int i2 :: .int i1 :: st) A = exG TB d 78 7 L (.int (i1 - i2) :: st) A := x_nx (op := o_iop (fun x y => x - y)) rfl rfl
theorem x_78_7  : exG TB d 78 7 L st A = exG TB d 78 8 L (.int (nI 1) :: st) A := x_nx (op := o_push 1 (.int 1)) rfl rfl
theorem x_78_8  : exG TB d 78 8 L (.int i2 :: .int i1 :: st) A = exG TB d 78 9 L (.int ((i1.toUInt32 >>> (i2.toUInt32 &&& Int32.toUInt32 31)).toInt32) :: st) A := x_nx (op := o_iop (fun x y => (x.toUInt32 >>> (y.toUInt32 &&& Int32.toUInt32 31)).toInt32)) rfl rfl
theorem x_78_9  : exG TB d 78 9 (a0 :: a1 :: a2 :: a3 :: a4 :: r9) (.int i1 :: st) A = exG TB d 78 11 (a0 :: a1 :: a2 :: a3 :: some (.int i1) :: r9) st A := x_nx (op := o_istore 4 2) rfl rfl
theorem x_78_11  : exG TB d 78 11 (a0 :: a1 :: some v :: r9) st A = rg v (exG TB d 78 12 (a0 :: a1 :: some v :: r9) (v :: st) A) := x_rg (op := o_aload 2 1) rfl rfl
theorem x_78_12  : exG TB d 78 12 (a0 :: a1 :: a2 :: a3 :: some (.int i1) :: r9) st A = exG TB d 78 14 (a0 :: a1 :: a2 :: a3 :: some (.int i1) :: r9) (.int i1 :: st) A := x_nx (op := o_iload 4 2) rfl rfl
theorem x_78_14  : exG TB d 78 14 L (.int i1 :: .ref p :: st) A = kq (rdQ (ga A p) i1) d 78 15 L st A := x_bd (op := o_rdQ) rfl rfl (fun _ => rfl)
theorem x_78_15  : exG TB d 78 15 (a0 :: a1 :: a2 :: a3 :: a4 :: a5 :: r9) (v :: st) A = rg v (exG TB d 78 17 (a0 :: a1 :: a2 :: a3 :: a4 :: some v :: r9) st A) := x_rgt (op := o_astore 5 2) rfl rfl
theorem x_78_17  : exG TB d 78 17 (a0 :: a1 :: a2 :: some v :: r9) st A = rg v (exG TB d 78 18 (a0 :: a1 :: a2 :: some v :: r9) (v :: st) A) := x_rg (op := o_aload 3 1) rfl rfl
theorem x_78_18  : exG TB d 78 18 (a0 :: some v :: r9) st A = rg v (exG TB d 78 19 (a0 :: some v :: r9) (v :: st) A) := x_rg (op := o_aload 1 1) rfl rfl
theorem x_78_19  : exG TB d 78 19 (a0 :: a1 :: a2 :: a3 :: a4 :: some v :: r9) st A = rg v (exG TB d 78 21 (a0 :: a1 :: a2 :: a3 :: a4 :: some v :: r9) (v :: st) A) := x_rg (op := o_aload 5 2) rfl rfl
theorem x_78_21  : exG TB d 78 21 L [b1, b0, .ref p] A = kw (sel (gc A p) [(19, 239)]) [.ref p, b0, b1] d 78 26 L [] A := x_cvb (op := o_cv [(19, 239)] 2 5 false none) rfl rfl x_noh rfl
theorem x_78_26  : exG TB d 78 26 L (.int i1 :: st) A = if i1 < nI 0 then exG TB d 78 32 L st A else exG TB d 78 29 L st A := x_if (op := o_if (fun x => decide (x < 0)) 32) rfl rfl rfl
theorem x_78_29  : exG TB d 78 29 L st A = exG TB d 78 43 L st A := x_nx (op := o_goto 43) rfl rfl
theorem x_78_32  : exG TB d 78 32 (a0 :: a1 :: some v :: r9) st A = rg v (exG TB d 78 33 (a0 :: a1 :: some v :: r9) (v :: st) A) := x_rg (op := o_aload 2 1) rfl rfl
theorem x_78_33  : exG TB d 78 33 (some (.int i1) :: r9) st A = exG TB d 78 34 (some (.int i1) :: r9) (.int i1 :: st) A := x_nx (op := o_iload 0 1) rfl rfl
theorem x_78_34  : exG TB d 78 34 (a0 :: a1 :: a2 :: a3 :: a4 :: some v :: r9) st A = rg v (exG TB d 78 36 (a0 :: a1 :: a2 :: a3 :: a4 :: some v :: r9) (v :: st) A) := x_rg (op := o_aload 5 2) rfl rfl
theorem x_78_36r  : exG TB d 78 36 L (.ref q :: .int i1 :: .ref p :: st) A = ck (atag (ga A p) 5 && okq A [0, 1, 2, 3, 4, 5, 6, 7, 8, 9, 10, 11, 12, 13, 14, 15, 16, 17, 18, 19, 20, 21, 22, 23, 24, 25, 26, 27, 28, 29, 30, 31, 32, 33, 34] (.ref q)) (ka (wrQ (ga A p) i1 (some q)) p d 78 37 L st A) := x_gb (op := o_wrQ 5 [0, 1, 2, 3, 4, 5, 6, 7, 8, 9, 10, 11, 12, 13, 14, 15, 16, 17, 18, 19, 20, 21, 22, 23, 24, 25, 26, 27, 28, 29, 30, 31, 32, 33, 34]) rfl rfl (fun _ => rfl)
theorem x_78_36n  : exG TB d 78 36 L (.null :: .int i1 :: .ref p :: st) A = ck (atag (ga A p) 5 && okq A [0, 1, 2, 3, 4, 5, 6, 7, 8, 9, 10, 11, 12, 13, 14, 15, 16, 17, 18, 19, 20, 21, 22, 23, 24, 25, 26, 27, 28, 29, 30, 31, 32, 33, 34] (.null)) (ka (wrQ (ga A p) i1 none) p d 78 37 L st A) := x_gb (op := o_wrQ 5 [0, 1, 2, 3, 4, 5, 6, 7, 8, 9, 10, 11, 12, 13, 14, 15, 16, 17, 18, 19, 20, 21, 22, 23, 24, 25, 26, 27, 28, 29, 30, 31, 32, 33, 34]) rfl rfl (fun _ => rfl)
theorem x_78_37  : exG TB d 78 37 (a0 :: a1 :: a2 :: a3 :: some (.int i1) :: r9) st A = exG TB d 78 39 (a0 :: a1 :: a2 :: a3 :: some (.int i1) :: r9) (.int i1 :: st) A := x_nx (op := o_iload 4 2) rfl rfl
theorem x_78_39  : exG TB d 78 39 (a0 :: r9) (.int i1 :: st) A = exG TB d 78 40 (some (.int i1) :: r9) st A := x_nx (op := o_istore 0 1) rfl rfl
theorem x_78_40  : exG TB d 78 40 L st A = exG TB d 78 0 L st A := x_nx (op := o_goto 0) rfl rfl
theorem x_78_43  : exG TB d 78 43 (a0 :: a1 :: some v :: r9) st A = rg v (exG TB d 78 44 (a0 :: a1 :: some v :: r9) (v :: st) A) := x_rg (op := o_aload 2 1) rfl rfl
theorem x_78_44  : exG TB d 78 44 (some (.int i1) :: r9) st A = exG TB d 78 45 (some (.int i1) :: r9) (.int i1 :: st) A := x_nx (op := o_iload 0 1) rfl rfl
theorem x_78_45  : exG TB d 78 45 (a0 :: some v :: r9) st A = rg v (exG TB d 78 46 (a0 :: some v :: r9) (v :: st) A) := x_rg (op := o_aload 1 1) rfl rfl
theorem x_78_46r  : exG TB d 78 46 L (.ref q :: .int i1 :: .ref p :: st) A = ck (atag (ga A p) 5 && okq A [0, 1, 2, 3, 4, 5, 6, 7, 8, 9, 10, 11, 12, 13, 14, 15, 16, 17, 18, 19, 20, 21, 22, 23, 24, 25, 26, 27, 28, 29, 30, 31, 32, 33, 34] (.ref q)) (ka (wrQ (ga A p) i1 (some q)) p d 78 47 L st A) := x_gb (op := o_wrQ 5 [0, 1, 2, 3, 4, 5, 6, 7, 8, 9, 10, 11, 12, 13, 14, 15, 16, 17, 18, 19, 20, 21, 22, 23, 24, 25, 26, 27, 28, 29, 30, 31, 32, 33, 34]) rfl rfl (fun _ => rfl)
theorem x_78_46n  : exG TB d 78 46 L (.null :: .int i1 :: .ref p :: st) A = ck (atag (ga A p) 5 && okq A [0, 1, 2, 3, 4, 5, 6, 7, 8, 9, 10, 11, 12, 13, 14, 15, 16, 17, 18, 19, 20, 21, 22, 23, 24, 25, 26, 27, 28, 29, 30, 31, 32, 33, 34] (.null)) (ka (wrQ (ga A p) i1 none) p d 78 47 L st A) := x_gb (op := o_wrQ 5 [0, 1, 2, 3, 4, 5, 6, 7, 8, 9, 10, 11, 12, 13, 14, 15, 16, 17, 18, 19, 20, 21, 22, 23, 24, 25, 26, 27, 28, 29, 30, 31, 32, 33, 34]) rfl rfl (fun _ => rfl)
theorem x_78_47  : exG TB d 78 47 L [] A = some (.inl none, A) := x_out (op := o_vret) rfl rfl
theorem e_79  : evG TB (d + 1) 79 [.ref p] A = exG TB d 79 0 [some (.ref p)] [] A := evG_eq TB d 79 _ A
theorem x_79_0  : exG TB d 79 0 (some v :: r9) st A = rg v (exG TB d 79 1 (some v :: r9) (v :: st) A) := x_rg (op := o_aload 0 1) rfl rfl
theorem x_79_1  : exG TB d 79 1 L (.ref p :: st) A = kv (gf A p 98) d 79 4 L st A := x_bd (op := o_get 98) rfl rfl (fun _ => rfl)
theorem x_79_4  : exG TB d 79 4 L [v] A = ck (okv 1 v) (some (.inl (some v), A)) := x_outg (op := o_ret 1) rfl rfl
theorem e_80  : evG TB (d + 1) 80 [.ref p] A = exG TB d 80 0 [some (.ref p), none, none, none, none, none] [] A := evG_eq TB d 80 _ A
theorem x_80_0  : exG TB d 80 0 (some v :: r9) st A = rg v (exG TB d 80 1 (some v :: r9) (v :: st) A) := x_rg (op := o_aload 0 1) rfl rfl
theorem x_80_1  : exG TB d 80 1 L (.ref p :: st) A = kv (gf A p 97) d 80 4 L st A := x_bd (op := o_get 97) rfl rfl (fun _ => rfl)
theorem x_80_4  : exG TB d 80 4 L (v :: st) A = ck (c1 v) (exG TB d 80 5 L (v :: v :: st) A) := x_gd (op := o_dup) rfl rfl
theorem x_80_5  : exG TB d 80 5 (a0 :: a1 :: r9) (v :: st) A = rg v (exG TB d 80 6 (a0 :: some v :: r9) st A) := x_rgt (op := o_astore 1 1) rfl rfl
theorem x_80_6  : exG TB d 80 6 L st A = exG TB d 80 7 L (.int (nI 0) :: st) A := x_nx (op := o_push 1 (.int 0)) rfl rfl
theorem x_80_7  : exG TB d 80 7 L (.int i1 :: .ref p :: st) A = kq (rdQ (ga A p) i1) d 80 8 L st A := x_bd (op := o_rdQ) rfl rfl (fun _ => rfl)
theorem x_80_8  : exG TB d 80 8 L (v :: st) A = ck (c1 v) (exG TB d 80 9 L (v :: v :: st) A) := x_gd (op := o_dup) rfl rfl
theorem x_80_9  : exG TB d 80 9 (a0 :: a1 :: a2 :: r9) (v :: st) A = rg v (exG TB d 80 10 (a0 :: a1 :: some v :: r9) st A) := x_rgt (op := o_astore 2 1) rfl rfl
theorem x_80_10n  : exG TB d 80 10 L (.null :: st) A = exG TB d 80 79 L st A := x_nx (op := o_ifnull 79) rfl rfl
theorem x_80_10r  : exG TB d 80 10 L (.ref p :: st) A = exG TB d 80 13 L st A := x_nx (op := o_ifnull 79) rfl rfl
theorem x_80_13  : exG TB d 80 13 (some v :: r9) st A = rg v (exG TB d 80 14 (some v :: r9) (v :: st) A) := x_rg (op := o_aload 0 1) rfl rfl
theorem x_80_14  : exG TB d 80 14 L (v :: st) A = ck (c1 v) (exG TB d 80 15 L (v :: v :: st) A) := x_gd (op := o_dup) rfl rfl
theorem x_80_15  : exG TB d 80 15 L (.ref p :: st) A = kv (gf A p 100) d 80 18 L st A := x_bd (op := o_get 100) rfl rfl (fun _ => rfl)
theorem x_80_18  : exG TB d 80 18 L st A = exG TB d 80 19 L (.int (nI 1) :: st) A := x_nx (op := o_push 1 (.int 1)) rfl rfl
theorem x_80_19  : exG TB d 80 19 L (.int i2 :: .int i1 :: st) A = exG TB d 80 20 L (.int (i1 + i2) :: st) A := x_nx (op := o_iop (fun x y => x + y)) rfl rfl
theorem x_80_20  : exG TB d 80 20 L (v :: .ref p :: st) A = ck ((gf A p 100).isSome && okv 1 v) (exG TB d 80 23 L st (setf A p 100 v)) := x_gd (op := o_put 100 1) rfl rfl
theorem x_80_23  : exG TB d 80 23 (a0 :: some v :: r9) st A = rg v (exG TB d 80 24 (a0 :: some v :: r9) (v :: st) A) := x_rg (op := o_aload 1 1) rfl rfl
theorem x_80_24  : exG TB d 80 24 (some v :: r9) st A = rg v (exG TB d 80 25 (some v :: r9) (v :: st) A) := x_rg (op := o_aload 0 1) rfl rfl
theorem x_80_25  : exG TB d 80 25 L (v :: st) A = ck (c1 v) (exG TB d 80 26 L (v :: v :: st) A) := x_gd (op := o_dup) rfl rfl
theorem x_80_26  : exG TB d 80 26 L (.ref p :: st) A = kv (gf A p 98) d 80 29 L st A := x_bd (op := o_get 98) rfl rfl (fun _ => rfl)
theorem x_80_29  : exG TB d 80 29 L st A = exG TB d 80 30 L (.int (nI 1) :: st) A := x_nx (op := o_push 1 (.int 1)) rfl rfl
theorem x_80_30  : exG TB d 80 30 L (.int i2 :: .int i1 :: st) A = exG TB d 80 31 L (.int (i1 - i2) :: st) A := x_nx (op := o_iop (fun x y => x - y)) rfl rfl
theorem x_80_31  : exG TB d 80 31 L (v :: v2 :: st) A = ck (c1 v && c1 v2) (exG TB d 80 32 L (v :: v2 :: v :: st) A) := x_gd (op := o_dupx1) rfl rfl
theorem x_80_32  : exG TB d 80 32 L (v :: .ref p :: st) A = ck ((gf A p 98).isSome && okv 1 v) (exG TB d 80 35 L st (setf A p 98 v)) := x_gd (op := o_put 98 1) rfl rfl
theorem x_80_35  : exG TB d 80 35 L (v :: st) A = ck (c1 v) (exG TB d 80 36 L (v :: v :: st) A) := x_gd (op := o_dup) rfl rfl
theorem x_80_36  : exG TB d 80 36 (a0 :: a1 :: a2 :: a3 :: r9) (.int i1 :: st) A = exG TB d 80 37 (a0 :: a1 :: a2 :: some (.int i1) :: r9) st A := x_nx (op := o_istore 3 1) rfl rfl
theorem x_80_37  : exG TB d 80 37 L (.int i1 :: .ref p :: st) A = kq (rdQ (ga A p) i1) d 80 38 L st A := x_bd (op := o_rdQ) rfl rfl (fun _ => rfl)
theorem x_80_38  : exG TB d 80 38 (a0 :: a1 :: a2 :: a3 :: a4 :: r9) (v :: st) A = rg v (exG TB d 80 40 (a0 :: a1 :: a2 :: a3 :: some v :: r9) st A) := x_rgt (op := o_astore 4 2) rfl rfl
theorem x_80_40  : exG TB d 80 40 (a0 :: some v :: r9) st A = rg v (exG TB d 80 41 (a0 :: some v :: r9) (v :: st) A) := x_rg (op := o_aload 1 1) rfl rfl
theorem x_80_41  : exG TB d 80 41 (a0 :: a1 :: a2 :: some (.int i1) :: r9) st A = exG TB d 80 42 (a0 :: a1 :: a2 :: some (.int i1) :: r9) (.int i1 :: st) A := x_nx (op := o_iload 3 1) rfl rfl
theorem x_80_42  : exG TB d 80 42 L st A = exG TB d 80 43 L (.null :: st) A := x_nx (op := o_push 1 .null) rfl rfl
theorem x_80_43r  : exG TB d 80 43 L (.ref q :: .int i1 :: .ref p :: st) A = ck (atag (ga A p) 5 && okq A [0, 1, 2, 3, 4, 5, 6, 7, 8, 9, 10, 11, 12, 13, 14, 15, 16, 17, 18, 19, 20, 21, 22, 23, 24, 25, 26, 27, 28, 29, 30, 31, 32, 33, 34] (.ref q)) (ka (wrQ (ga A p) i1 (some q)) p d 80 44 L st A) := x_gb (op := o_wrQ 5 [0, 1, 2, 3, 4, 5, 6, 7, 8, 9, 10, 11, 12, 13, 14, 15, 16, 17, 18, 19, 20, 21, 22, 23, 24, 25, 26, 27, 28, 29, 30, 31, 32, 33, 34]) rfl rfl (fun _ => rfl)
theorem x_80_43n  : exG TB d 80 43 L (.null :: .int i1 :: .ref p :: st) A = ck (atag (ga A p) 5 && okq A [0, 1, 2, 3, 4, 5, 6, 7, 8, 9, 10, 11, 12, 13, 14, 15, 16, 17, 18, 19, 20, 21, 22, 23, 24, 25, 26, 27, 28, 29, 30, 31, 32, 33, 34] (.null)) (ka (wrQ (ga A p) i1 none) p d 80 44 L st A) := x_gb (op := o_wrQ 5 [0, 1, 2, 3, 4, 5, 6, 7, 8, 9, 10, 11, 12, 13, 14, 15, 16, 17, 18, 19, 20, 21, 22, 23, 24, 25, 26, 27, 28, 29, 30, 31, 32, 33, 34]) rfl rfl (fun _ => rfl)
theorem x_80_44  : exG TB d 80 44 (a0 :: a1 :: a2 :: some (.int i1) :: r9) st A = exG TB d 80 45 (a0 :: a1 :: a2 :: some (.int i1) :: r9) (.int i1 :: st) A := x_nx (op := o_iload 3 1) rfl rfl
theorem x_80_45  : exG TB d 80 45 L (.int i1 :: st) A = if i1 ≤ nI 0 then exG TB d 80 79 L st A else exG TB d 80 48 L st A := x_if (op := o_if (fun x => decide (x ≤ 0)) 79) rfl rfl rfl
theorem x_80_48  : exG TB d 80 48 (some v :: r9) st A = rg v (exG TB d 80 49 (some v :: r9) (v :: st) A) := x_rg (op := o_aload 0 1) rfl rfl
theorem x_80_49  : exG TB d 80 49 L (.ref p :: st) A = kv (gf A p 99) d 80 52 L st A := x_bd (op := o_get 99) rfl rfl (fun _ => rfl)
theorem x_80_52  : exG TB d 80 52 L (v :: st) A = ck (c1 v) (exG TB d 80 53 L (v :: v :: st) A) := x_gd (op := o_dup) rfl rfl
theorem x_80_53  : exG TB d 80 53 (a0 :: a1 :: a2 :: a3 :: a4 :: a5 :: r9) (v :: st) A = rg v (exG TB d 80 55 (a0 :: a1 :: a2 :: a3 :: a4 :: some v :: r9) st A) := x_rgt (op := o_astore 5 2) rfl rfl
theorem x_80_55n  : exG TB d 80 55 L (.null :: st) A = exG TB d 80 58 L st A := x_nx (op := o_ifnonnull 69) rfl rfl
theorem x_80_55r  : exG TB d 80 55 L (.ref p :: st) A = exG TB d 80 69 L st A := x_nx (op := o_ifnonnull 69) rfl rfl
theorem x_80_58  : exG TB d 80 58 L st A = exG TB d 80 59 L (.int (nI 0) :: st) A := x_nx (op := o_push 1 (.int 0)) rfl rfl
theorem x_80_59  : exG TB d 80 59 (a0 :: a1 :: a2 :: a3 :: some v :: r9) st A = rg v (exG TB d 80 61 (a0 :: a1 :: a2 :: a3 :: some v :: r9) (v :: st) A) := x_rg (op := o_aload 4 2) rfl rfl
theorem x_80_61  : exG TB d 80 61 (a0 :: some v :: r9) st A = rg v (exG TB d 80 62 (a0 :: some v :: r9) (v :: st) A) := x_rg (op := o_aload 1 1) rfl rfl
theorem x_80_62  : exG TB d 80 62 (a0 :: a1 :: a2 :: some (.int i1) :: r9) st A = exG TB d 80 63 (a0 :: a1 :: a2 :: some (.int i1) :: r9) (.int i1 :: st) A := x_nx (op := o_iload 3 1) rfl rfl
theorem x_80_66  : exG TB d 80 66 L st A = exG TB d 80 79 L st A := x_nx (op := o_goto 79) rfl rfl
theorem x_80_69  : exG TB d 80 69 L st A = exG TB d 80 70 L (.int (nI 0) :: st) A := x_nx (op := o_push 1 (.int 0)) rfl rfl
theorem x_80_70  : exG TB d 80 70 (a0 :: a1 :: a2 :: a3 :: some v :: r9) st A = rg v (exG TB d 80 72 (a0 :: a1 :: a2 :: a3 :: some v :: r9) (v :: st) A) := x_rg (op := o_aload 4 2) rfl rfl
theorem x_80_72  : exG TB d 80 72 (a0 :: some v :: r9) st A = rg v (exG TB d 80 73 (a0 :: some v :: r9) (v :: st) A) := x_rg (op := o_aload 1 1) rfl rfl
theorem x_80_73  : exG TB d 80 73 (a0 :: a1 :: a2 :: some (.int i1) :: r9) st A = exG TB d 80 74 (a0 :: a1 :: a2 :: some (.int i1) :: r9) (.int i1 :: st) A := x_nx (op := o_iload 3 1) rfl rfl
theorem x_80_74  : exG TB d 80 74 (a0 :: a1 :: a2 :: a3 :: a4 :: some v :: r9) st A = rg v (exG TB d 80 76 (a0 :: a1 :: a2 :: a3 :: a4 :: some v :: r9) (v :: st) A) := x_rg (op := o_aload 5 2) rfl rfl
theorem x_80_76  : exG TB d 80 76 L [b4, b3, b2, b1, b0] A = kc0 (evG TB d 81 [b0, b1, b2, b3, b4] A) d 80 79 L [] := x_c0 (op := o_cs 81 5 true none) rfl rfl x_noh rfl
theorem x_80_79  : exG TB d 80 79 (a0 :: a1 :: some v :: r9) st A = rg v (exG TB d 80 80 (a0 :: a1 :: some v :: r9) (v :: st) A) := x_rg (op := o_aload 2 1) rfl rfl
theorem x_80_80  : exG TB d 80 80 L [v] A = ck (okv 0 v) (some (.inl (some v), A)) := x_outg (op := o_ret 0) rfl rfl
theorem e_81 {j0 : Int32} {j3 : Int32} : evG TB (d + 1) 81 [.int j0, b1, b2, .int j3, b4] A = rg b1 (rg b2 (rg b4 (exG TB d 81 0 [some (.int j0), some (b1), some (b2), some (.int j3), some (b4), none, none, none, none] [] A))) := by
  rw [evG_eq]
  show (bif (true && (isR b1 && (isR b2 && (true && (isR b4 && true))))) then exG TB d 81 0 [some (.int j0), some (b1), some (b2), some (.int j3), some (b4), none, none, none, none] [] A else none) = _
  unfold rg
  cases isR b1 <;> cases isR b2 <;> cases isR b4 <;> rfl
theorem x_81_0  : exG TB d 81 0 (a0 :: a1 :: a2 :: some (.int i1) :: r9) st A = exG TB d 81 1 (a0 :: a1 :: a2 :: some (.int i1) :: r9) (.int i1 :: st) A := x_nx (op := o_iload 3 1) rfl rfl
theorem x_81_1  : exG TB d 81 1 L st A = exG TB d 81 2 L (.int (nI 1) :: st) A := x_nx (op := o_push 1 (.int 1)) rfl rfl
theorem x_81_2  : exG TB d 81 2 L (.int i2 :: .int i1 :: st) A = exG TB d 81 3 L (.int ((i1.toUInt32 >>> (i2.toUInt32 &&& Int32.toUInt32 31)).toInt32) :: st) A := x_nx (op := o_iop (fun x y => (x.toUInt32 >>> (y.toUInt32 &&& Int32.toUInt32 31)).toInt32)) rfl rfl
theorem x_81_3  : exG TB d 81 3 (a0 :: a1 :: a2 :: a3 :: a4 :: a5 :: r9) (.int i1 :: st) A = exG TB d 81 5 (a0 :: a1 :: a2 :: a3 :: a4 :: some (.int i1) :: r9) st A := x_nx (op := o_istore 5 2) rfl rfl
theorem x_81_5  : exG TB d 81 5 (some (.int i1) :: r9) st A = exG TB d 81 6 (some (.int i1) :: r9) (.int i1 :: st) A := x_nx (op := o_iload 0 1) rfl rfl
theorem x_81_6  : exG TB d 81 6 (a0 :: a1 :: a2 :: a3 :: a4 :: some (.int i1) :: r9) st A = exG TB d 81 8 (a0 :: a1 :: a2 :: a3 :: a4 :: some (.int i1) :: r9) (.int i1 :: st) A := x_nx (op := o_iload 5 2) rfl rfl
theorem x_81_8  : exG TB d 81 8 L (.int i2 :: .int i1 :: st) A = if i2 ≤ i1 then exG TB d 81 88 L st A else exG TB d 81 11 L st A := x_if (op := o_icmp (fun x y => decide (y ≤ x)) 88) rfl rfl rfl
theorem x_81_11  : exG TB d 81 11 (some (.int i1) :: r9) st A = exG TB d 81 12 (some (.int i1) :: r9) (.int i1 :: st) A := x_nx (op := o_iload 0 1) rfl rfl
theorem x_81_12  : exG TB d 81 12 L st A = exG TB d 81 13 L (.int (nI 1) :: st) A := x_nx (op := o_push 1 (.int 1)) rfl rfl
theorem x_81_13  : exG TB d 81 13 L (.int i2 :: .int i1 :: st) A = exG TB d 81 14 L (.int (i1 <<< (i2 &&& 31)) :: st) A := x_nx (op := o_iop (fun x y => x <<< (y &&& 31))) rfl rfl
theorem x_81_14  : exG TB d 81 14 L st A = exG TB d 81 15 L (.int (nI 1) :: st) A := x_nx (op := o_push 1 (.int 1)) rfl rfl
theorem x_81_15  : exG TB d 81 15 L (.int i2 :: .int i1 :: st) A = exG TB d 81 16 L (.int (i1 + i2) :: st) A := x_nx (op := o_iop (fun x y => x + y)) rfl rfl
theorem x_81_16  : exG TB d 81 16 (a0 :: a1 :: a2 :: a3 :: a4 :: a5 :: a6 :: r9) (.int i1 :: st) A = exG TB d 81 18 (a0 :: a1 :: a2 :: a3 :: a4 :: a5 :: some (.int i1) :: r9) st A := x_nx (op := o_istore 6 2) rfl rfl
theorem x_81_18  : exG TB d 81 18 (a0 :: a1 :: some v :: r9) st A = rg v (exG TB d 81 19 (a0 :: a1 :: some v :: r9) (v :: st) A) := x_rg (op := o_aload 2 1) rfl rfl
theorem x_81_19  : exG TB d 81 19 (a0 :: a1 :: a2 :: a3 :: a4 :: a5 :: some (.int i1) :: r9) st A = exG TB d 81 21 (a0 :: a1 :: a2 :: a3 :: a4 :: a5 :: some (.int i1) :: r9) (.int i1 :: st) A := x_nx (op := o_iload 6 2) rfl rfl
theorem x_81_21  : exG TB d 81 21 L (.int i1 :: .ref p :: st) A = kq (rdQ (ga A p) i1) d 81 22 L st A := x_bd (op := o_rdQ) rfl rfl (fun _ => rfl)
theorem x_81_22  : exG TB d 81 22 (a0 :: a1 :: a2 :: a3 :: a4 :: a5 :: a6 :: a7 :: r9) (v :: st) A = rg v (exG TB d 81 24 (a0 :: a1 :: a2 :: a3 :: a4 :: a5 :: a6 :: some v :: r9) st A) := x_rgt (op := o_astore 7 2) rfl rfl
theorem x_81_24  : exG TB d 81 24 (a0 :: a1 :: a2 :: a3 :: a4 :: a5 :: some (.int i1) :: r9) st A = exG TB d 81 26 (a0 :: a1 :: a2 :: a3 :: a4 :: a5 :: some (.int i1) :: r9) (.int i1 :: st) A := x_nx (op := o_iload 6 2) rfl rfl
theorem x_81_26  : exG TB d 81 26 L st A = exG TB d 81 27 L (.int (nI 1) :: st) A := x_nx (op := o_push 1 (.int 1)) rfl rfl
theorem x_81_27  : exG TB d 81 27 L (.int i2 :: .int i1 :: st) A = exG TB d 81 28 L (.int (i1 + i2) :: st) A := x_nx (op := o_iop (fun x y => x + y)) rfl rfl
theorem x_81_28  : exG TB d 81 28 (a0 :: a1 :: a2 :: a3 :: a4 :: a5 :: a6 :: a7 :: a8 :: r9) (.int i1 :: st) A = exG TB d 81 30 (a0 :: a1 :: a2 :: a3 :: a4 :: a5 :: a6 :: a7 :: some (.int i1) :: r9) st A := x_nx (op := o_istore 8 2) rfl rfl
theorem x_81_30  : exG TB d 81 30 (a0 :: a1 :: a2 :: a3 :: a4 :: a5 :: a6 :: a7 :: some (.int i1) :: r9) st A = exG TB d 81 32 (a0 :: a1 :: a2 :: a3 :: a4 :: a5 :: a6 :: a7 :: some (.int i1) :: r9) (.int i1 :: st) A := x_nx (op := o_iload 8 2) rfl rfl
theorem x_81_32  : exG TB d 81 32 (a0 :: a1 :: a2 :: some (.int i1) :: r9) st A = exG TB d 81 33 (a0 :: a1 :: a2 :: some (.int i1) :: r9) (.int i1 :: st) A := x_nx (op := o_iload 3 1) rfl rfl
theorem x_81_33  : exG TB d 81 33 L (.int i2 :: .int i1 :: st) A = if i2 ≤ i1 then exG TB d 81 61 L st A else exG TB d 81 36 L st A := x_if (op := o_icmp (fun x y => decide (y ≤ x)) 61) rfl rfl rfl
theorem x_81_36  : exG TB d 81 36 (a0 :: a1 :: a2 :: a3 :: some v :: r9) st A = rg v (exG TB d 81 38 (a0 :: a1 :: a2 :: a3 :: some v :: r9) (v :: st) A) := x_rg (op := o_aload 4 2) rfl rfl
theorem x_81_38  : exG TB d 81 38 (a0 :: a1 :: a2 :: a3 :: a4 :: a5 :: a6 :: some v :: r9) st A = rg v (exG TB d 81 40 (a0 :: a1 :: a2 :: a3 :: a4 :: a5 :: a6 :: some v :: r9) (v :: st) A) := x_rg (op := o_aload 7 2) rfl rfl
theorem x_81_40  : exG TB d 81 40 (a0 :: a1 :: some v :: r9) st A = rg v (exG TB d 81 41 (a0 :: a1 :: some v :: r9) (v :: st) A) := x_rg (op := o_aload 2 1) rfl rfl
theorem x_81_41  : exG TB d 81 41 (a0 :: a1 :: a2 :: a3 :: a4 :: a5 :: a6 :: a7 :: some (.int i1) :: r9) st A = exG TB d 81 43 (a0 :: a1 :: a2 :: a3 :: a4 :: a5 :: a6 :: a7 :: some (.int i1) :: r9) (.int i1 :: st) A := x_nx (op := o_iload 8 2) rfl rfl
theorem x_81_43  : exG TB d 81 43 L (.int i1 :: .ref p :: st) A = kq (rdQ (ga A p) i1) d 81 44 L st A := x_bd (op := o_rdQ) rfl rfl (fun _ => rfl)
theorem x_81_44  : exG TB d 81 44 L [b1, b0, .ref p] A = kw (sel (gc A p) [(19, 239)]) [.ref p, b0, b1] d 81 49 L [] A := x_cvb (op := o_cv [(19, 239)] 2 5 false none) rfl rfl x_noh rfl
theorem x_81_49  : exG TB d 81 49 L (.int i1 :: st) A = if i1 ≤ nI 0 then exG TB d 81 61 L st A else exG TB d 81 52 L st A := x_if (op := o_if (fun x => decide (x ≤ 0)) 61) rfl rfl rfl
theorem x_81_52  : exG TB d 81 52 (a0 :: a1 :: some v :: r9) st A = rg v (exG TB d 81 53 (a0 :: a1 :: some v :: r9) (v :: st) A) := x_rg (op := o_aload 2 1) rfl rfl
theorem x_81_53  : exG TB d 81 53 (a0 :: a1 :: a2 :: a3 :: a4 :: a5 :: a6 :: a7 :: some (.int i1) :: r9) st A = exG TB d 81 55 (a0 :: a1 :: a2 :: a3 :: a4 :: a5 :: a6 :: a7 :: some (.int i1) :: r9) (.int i1 :: st) A := x_nx (op := o_iload 8 2) rfl rfl
theorem x_81_55  : exG TB d 81 55 L (v :: st) A = ck (c1 v) (exG TB d 81 56 L (v :: v :: st) A) := x_gd (op := o_dup) rfl rfl
theorem x_81_56  : exG TB d 81 56 (a0 :: a1 :: a2 :: a3 :: a4 :: a5 :: a6 :: r9) (.int i1 :: st) A = exG TB d 81 58 (a0 :: a1 :: a2 :: a3 :: a4 :: a5 :: some (.int i1) :: r9) st A := x_nx (op := o_istore 6 2) rfl rfl
theorem x_81_58  : exG TB d 81 58 L (.int i1 :: .ref p :: st) A = kq (rdQ (ga A p) i1) d 81 59 L st A := x_bd (op := o_rdQ) rfl rfl (fun _ => rfl)
theorem x_81_59  : exG TB d 81 59 (a0 :: a1 :: a2 :: a3 :: a4 :: a5 :: a6 :: a7 :: r9) (v :: st) A = rg v (exG TB d 81 61 (a0 :: a1 :: a2 :: a3 :: a4 :: a5 :: a6 :: some v :: r9) st A) := x_rgt (op := o_astore 7 2) rfl rfl
theorem x_81_61  : exG TB d 81 61 (a0 :: a1 :: a2 :: a3 :: some v :: r9) st A = rg v (exG TB d 81 63 (a0 :: a1 :: a2 :: a3 :: some v :: r9) (v :: st) A) := x_rg (op := o_aload 4 2) rfl rfl
theorem x_81_63  : exG TB d 81 63 (a0 :: some v :: r9) st A = rg v (exG TB d 81 64 (a0 :: some v :: r9) (v :: st) A) := x_rg (op := o_aload 1 1) rfl rfl
theorem x_81_64  : exG TB d 81 64 (a0 :: a1 :: a2 :: a3 :: a4 :: a5 :: a6 :: some v :: r9) st A = rg v (exG TB d 81 66 (a0 :: a1 :: a2 :: a3 :: a4 :: a5 :: a6 :: some v :: r9) (v :: st) A) := x_rg (op := o_aload 7 2) rfl rfl
theorem x_81_66  : exG TB d 81 66 L [b1, b0, .ref p] A = kw (sel (gc A p) [(19, 239)]) [.ref p, b0, b1] d 81 71 L [] A := x_cvb (op := o_cv [(19, 239)] 2 5 false none) rfl rfl x_noh rfl
theorem x_81_71  : exG TB d 81 71 L (.int i1 :: st) A = if nI 0 < i1 then exG TB d 81 77 L st A else exG TB d 81 74 L st A := x_if (op := o_if (fun x => decide (0 < x)) 77) rfl rfl rfl
theorem x_81_74  : exG TB d 81 74 L st A = exG TB d 81 88 L st A := x_nx (op := o_goto 88) rfl rfl
theorem x_81_77  : exG TB d 81 77 (a0 :: a1 :: some v :: r9) st A = rg v (exG TB d 81 78 (a0 :: a1 :: some v :: r9) (v :: st) A) := x_rg (op := o_aload 2 1) rfl rfl
theorem x_81_78  : exG TB d 81 78 (some (.int i1) :: r9) st A = exG TB d 81 79 (some (.int i1) :: r9) (.int i1 :: st) A := x_nx (op := o_iload 0 1) rfl rfl
theorem x_81_79  : exG TB d 81 79 (a0 :: a1 :: a2 :: a3 :: a4 :: a5 :: a6 :: some v :: r9) st A = rg v (exG TB d 81 81 (a0 :: a1 :: a2 :: a3 :: a4 :: a5 :: a6 :: some v :: r9) (v :: st) A) := x_rg (op := o_aload 7 2) rfl rfl
theorem x_81_81r  : exG TB d 81 81 L (.ref q :: .int i1 :: .ref p :: st) A = ck (atag (ga A p) 5 && okq A [0, 1, 2, 3, 4, 5, 6, 7, 8, 9, 10, 11, 12, 13, 14, 15, 16, 17, 18, 19, 20, 21, 22, 23, 24, 25, 26, 27, 28, 29, 30, 31, 32, 33, 34] (.ref q)) (ka (wrQ (ga A p) i1 (some q)) p d 81 82 L st A) := x_gb (op := o_wrQ 5 [0, 1, 2, 3, 4, 5, 6, 7, 8, 9, 10, 11, 12, 13, 14, 15, 16, 17, 18, 19, 20, 21, 22, 23, 24, 25, 26, 27, 28, 29, 30, 31, 32, 33, 34]) rfl rfl (fun _ => rfl)
theorem x_81_81n  : exG TB d 81 81 L (.null :: .int i1 :: .ref p :: st) A = ck (atag (ga A p) 5 && okq A [0, 1, 2, 3, 4, 5, 6, 7, 8, 9, 10, 11, 12, 13, 14, 15, 16, 17, 18, 19, 20, 21, 22, 23, 24, 25, 26, 27, 28, 29, 30, 31, 32, 33, 34] (.null)) (ka (wrQ (ga A p) i1 none) p d 81 82 L st A) := x_gb (op := o_wrQ 5 [0, 1, 2, 3, 4, 5, 6, 7, 8, 9, 10, 11, 12, 13, 14, 15, 16, 17, 18, 19, 20, 21, 22, 23, 24, 25, 26, 27, 28, 29, 30, 31, 32, 33, 34]) rfl rfl (fun _ => rfl)
theorem x_81_82  : exG TB d 81 82 (a0 :: a1 :: a2 :: a3 :: a4 :: a5 :: some (.int i1) :: r9) st A = exG TB d 81 84 (a0 :: a1 :: a2 :: a3 :: a4 :: a5 :: some (.int i1) :: r9) (.int i1 :: st) A := x_nx (op := o_iload 6 2) rfl rfl
theorem x_81_84  : exG TB d 81 84 (a0 :: r9) (.int i1 :: st) A = exG TB d 81 85 (some (.int i1) :: r9) st A := x_nx (op := o_istore 0 1) rfl rfl
theorem x_81_85  : exG TB d 81 85 L st A = exG TB d 81 5 L st A := x_nx (op := o_goto 5) rfl rfl
theorem x_81_88  : exG TB d 81 88 (a0 :: a1 :: some v :: r9) st A = rg v (exG TB d 81 89 (a0 :: a1 :: some v :: r9) (v :: st) A) := x_rg (op := o_aload 2 1) rfl rfl
theorem x_81_89  : exG TB d 81 89 (some (.int i1) :: r9) st A = exG TB d 81 90 (some (.int i1) :: r9) (.int i1 :: st) A := x_nx (op := o_iload 0 1) rfl rfl
theorem x_81_90  : exG TB d 81 90 (a0 :: some v :: r9) st A = rg v (exG TB d 81 91 (a0 :: some v :: r9) (v :: st) A) := x_rg (op := o_aload 1 1) rfl rfl
theorem x_81_91r  : exG TB d 81 91 L (.ref q :: .int i1 :: .ref p :: st) A = ck (atag (ga A p) 5 && okq A [0, 1, 2, 3, 4, 5, 6, 7, 8, 9, 10, 11, 12, 13, 14, 15, 16, 17, 18, 19, 20, 21, 22, 23, 24, 25, 26, 27, 28, 29, 30, 31, 32, 33, 34] (.ref q)) (ka (wrQ (ga A p) i1 (some q)) p d 81 92 L st A) := x_gb (op := o_wrQ 5 [0, 1, 2, 3, 4, 5, 6, 7, 8, 9, 10, 11, 12, 13, 14, 15, 16, 17, 18, 19, 20, 21, 22, 23, 24, 25, 26, 27, 28, 29, 30, 31, 32, 33, 34]) rfl rfl (fun _ => rfl)
theorem x_81_91n  : exG TB d 81 91 L (.null :: .int i1 :: .ref p :: st) A = ck (atag (ga A p) 5 && okq A [0, 1, 2, 3, 4, 5, 6, 7, 8, 9, 10, 11, 12, 13, 14, 15, 16, 17, 18, 19, 20, 21, 22, 23, 24, 25, 26, 27, 28, 29, 30, 31, 32, 33, 34] (.null)) (ka (wrQ (ga A p) i1 none) p d 81 92 L st A) := x_gb (op := o_wrQ 5 [0, 1, 2, 3, 4, 5, 6, 7, 8, 9, 10, 11, 12, 13, 14, 15, 16, 17, 18, 19, 20, 21, 22, 23, 24, 25, 26, 27, 28, 29, 30, 31, 32, 33, 34]) rfl rfl (fun _ => rfl)
theorem x_81_92  : exG TB d 81 92 L [] A = some (.inl none, A) := x_out (op := o_vret) rfl rfl
theorem e_82 {j3 : Int32} {j4 : Int32} : evG TB (d + 1) 82 [.ref p, b1, b2, .int j3, .int j4] A = rg b1 (rg b2 (exG TB d 82 0 [some (.ref p), some (b1), some (b2), some (.int j3), some (.int j4)] [] A)) := by
  rw [evG_eq]
  show (bif (true && (isR b1 && (isR b2 && (true && (true && true))))) then exG TB d 82 0 [some (.ref p), some (b1), some (b2), some (.int j3), some (.int j4)] [] A else none) = _
  unfold rg
  cases isR b1 <;> cases isR b2 <;> rfl
theorem x_82_0  : exG TB d 82 0 (some v :: r9) st A = rg v (exG TB d 82 1 (some v :: r9) (v :: st) A) := x_rg (op := o_aload 0 1) rfl rfl
theorem x_82_1  : exG TB d 82 1 L [.ref p] A = exG TB d 82 4 L [] A := x_nx (op := o_oi) rfl rfl
theorem x_82_4  : exG TB d 82 4 (some v :: r9) st A = rg v (exG TB d 82 5 (some v :: r9) (v :: st) A) := x_rg (op := o_aload 0 1) rfl rfl
theorem x_82_5  : exG TB d 82 5 (some v :: r9) st A = rg v (exG TB d 82 6 (some v :: r9) (v :: st) A) := x_rg (op := o_aload 0 1) rfl rfl
theorem x_82_6  : exG TB d 82 6 L (v :: .ref p :: st) A = ck ((gf A p 52).isSome && okv 0 v) (exG TB d 82 9 L st (setf A p 52 v)) := x_gd (op := o_put 52 0) rfl rfl
theorem x_82_9  : exG TB d 82 9 (some v :: r9) st A = rg v (exG TB d 82 10 (some v :: r9) (v :: st) A) := x_rg (op := o_aload 0 1) rfl rfl
theorem x_82_10  : exG TB d 82 10 L st A = exG TB d 82 13 L (va_rf (sRf (sg A) 0) :: st) A := x_nx (op := o_pushR 3 0) rfl rfl
theorem x_82_13  : exG TB d 82 13 L (v :: .ref p :: st) A = ck ((gf A p 53).isSome && okv 0 v) (exG TB d 82 16 L st (setf A p 53 v)) := x_gd (op := o_put 53 0) rfl rfl
theorem x_82_16  : exG TB d 82 16 (some v :: r9) st A = rg v (exG TB d 82 17 (some v :: r9) (v :: st) A) := x_rg (op := o_aload 0 1) rfl rfl
theorem x_82_17  : exG TB d 82 17 L st A = exG TB d 82 20 L (va_rf (sRf (sg A) 1) :: st) A := x_nx (op := o_pushR 3 1) rfl rfl
theorem x_82_20  : exG TB d 82 20 L (v :: .ref p :: st) A = ck ((gf A p 54).isSome && okv 0 v) (exG TB d 82 23 L st (setf A p 54 v)) := x_gd (op := o_put 54 0) rfl rfl
theorem x_82_23  : exG TB d 82 23 (a0 :: a1 :: a2 :: a3 :: some (.int i1) :: r9) st A = exG TB d 82 25 (a0 :: a1 :: a2 :: a3 :: some (.int i1) :: r9) (.int i1 :: st) A := x_nx (op := o_iload 4 2) rfl rfl
theorem x_82_25  : exG TB d 82 25 L (.int i1 :: st) A = if i1 = nI 0 then exG TB d 82 36 L st A else exG TB d 82 28 L st A := x_if (op := o_if (fun x => decide (x = 0)) 36) rfl rfl rfl
theorem x_82_28  : exG TB d 82 28 (some v :: r9) st A = rg v (exG TB d 82 29 (some v :: r9) (v :: st) A) := x_rg (op := o_aload 0 1) rfl rfl
theorem x_82_32  : exG TB d 82 32 L (v :: st) A = ck (c1 v) (exG TB d 82 33 L st A) := x_gd (op := o_pop) rfl rfl
theorem x_82_33  : exG TB d 82 33 L st A = exG TB d 82 41 L st A := x_nx (op := o_goto 41) rfl rfl
theorem x_82_36  : exG TB d 82 36 (some v :: r9) st A = rg v (exG TB d 82 37 (some v :: r9) (v :: st) A) := x_rg (op := o_aload 0 1) rfl rfl
theorem x_82_37  : exG TB d 82 37 L st A = exG TB d 82 38 L (.null :: st) A := x_nx (op := o_push 1 .null) rfl rfl
theorem x_82_38  : exG TB d 82 38 L (v :: .ref p :: st) A = ck ((gf A p 53).isSome && okv 0 v) (exG TB d 82 41 L st (setf A p 53 v)) := x_gd (op := o_put 53 0) rfl rfl
theorem x_82_41  : exG TB d 82 41 (some v :: r9) st A = rg v (exG TB d 82 42 (some v :: r9) (v :: st) A) := x_rg (op := o_aload 0 1) rfl rfl
theorem x_82_42  : exG TB d 82 42 (a0 :: some v :: r9) st A = rg v (exG TB d 82 43 (a0 :: some v :: r9) (v :: st) A) := x_rg (op := o_aload 1 1) rfl rfl
theorem x_82_43  : exG TB d 82 43 L (v :: .ref p :: st) A = ck ((gf A p 55).isSome && okv 0 v) (exG TB d 82 46 L st (setf A p 55 v)) := x_gd (op := o_put 55 0) rfl rfl
theorem x_82_46  : exG TB d 82 46 (some v :: r9) st A = rg v (exG TB d 82 47 (some v :: r9) (v :: st) A) := x_rg (op := o_aload 0 1) rfl rfl
theorem x_82_47  : exG TB d 82 47 (a0 :: a1 :: some v :: r9) st A = rg v (exG TB d 82 48 (a0 :: a1 :: some v :: r9) (v :: st) A) := x_rg (op := o_aload 2 1) rfl rfl
theorem x_82_48  : exG TB d 82 48 L (v :: .ref p :: st) A = ck ((gf A p 52).isSome && okv 0 v) (exG TB d 82 51 L st (setf A p 52 v)) := x_gd (op := o_put 52 0) rfl rfl
theorem x_82_51  : exG TB d 82 51 (a0 :: a1 :: a2 :: some (.int i1) :: r9) st A = exG TB d 82 52 (a0 :: a1 :: a2 :: some (.int i1) :: r9) (.int i1 :: st) A := x_nx (op := o_iload 3 1) rfl rfl
theorem x_82_52  : exG TB d 82 52 L (.int i1 :: st) A = if ¬ i1 = nI 0 then exG TB d 82 60 L st A else exG TB d 82 55 L st A := x_if (op := o_if (fun x => decide (¬ x = 0)) 60) rfl rfl rfl
theorem x_82_55  : exG TB d 82 55 (some v :: r9) st A = rg v (exG TB d 82 56 (some v :: r9) (v :: st) A) := x_rg (op := o_aload 0 1) rfl rfl
theorem x_82_56  : exG TB d 82 56 L st A = exG TB d 82 57 L (.null :: st) A := x_nx (op := o_push 1 .null) rfl rfl
theorem x_82_57  : exG TB d 82 57 L (v :: .ref p :: st) A = ck ((gf A p 54).isSome && okv 0 v) (exG TB d 82 60 L st (setf A p 54 v)) := x_gd (op := o_put 54 0) rfl rfl
theorem x_82_60  : exG TB d 82 60 L [] A = some (.inl none, A) := x_out (op := o_vret) rfl rfl
theorem e_83  : evG TB (d + 1) 83 [.ref p, b1, b2, b3] A = rg b1 (rg b2 (rg b3 (exG TB d 83 0 [some (.ref p), some (b1), some (b2), some (b3)] [] A))) := by
  rw [evG_eq]
  show (bif (true && (isR b1 && (isR b2 && (isR b3 && true)))) then exG TB d 83 0 [some (.ref p), some (b1), some (b2), some (b3)] [] A else none) = _
  unfold rg
  cases isR b1 <;> cases isR b2 <;> cases isR b3 <;> rfl
theorem x_83_0  : exG TB d 83 0 (some v :: r9) st A = rg v (exG TB d 83 1 (some v :: r9) (v :: st) A) := x_rg (op := o_aload 0 1) rfl rfl
theorem x_83_1  : exG TB d 83 1 L [.ref p] A = exG TB d 83 4 L [] A := x_nx (op := o_oi) rfl rfl
theorem x_83_4  : exG TB d 83 4 (some v :: r9) st A = rg v (exG TB d 83 5 (some v :: r9) (v :: st) A) := x_rg (op := o_aload 0 1) rfl rfl
theorem x_83_5  : exG TB d 83 5 L st A = exG TB d 83 6 L (.int (nI 1) :: st) A := x_nx (op := o_push 1 (.int 1)) rfl rfl
theorem x_83_6  : exG TB d 83 6 L (v :: .ref p :: st) A = ck ((gf A p 115).isSome && okv 5 v) (exG TB d 83 9 L st (setf A p 115 v)) := x_gd (op := o_put 115 5) rfl rfl
theorem x_83_9  : exG TB d 83 9 (some v :: r9) st A = rg v (exG TB d 83 10 (some v :: r9) (v :: st) A) := x_rg (op := o_aload 0 1) rfl rfl
theorem x_83_10  : exG TB d 83 10 (a0 :: some v :: r9) st A = rg v (exG TB d 83 11 (a0 :: some v :: r9) (v :: st) A) := x_rg (op := o_aload 1 1) rfl rfl
theorem x_83_11  : exG TB d 83 11 L (v :: .ref p :: st) A = ck ((gf A p 110).isSome && okv 0 v) (exG TB d 83 14 L st (setf A p 110 v)) := x_gd (op := o_put 110 0) rfl rfl
theorem x_83_14  : exG TB d 83 14 (some v :: r9) st A = rg v (exG TB d 83 15 (some v :: r9) (v :: st) A) := x_rg (op := o_aload 0 1) rfl rfl
theorem x_83_15  : exG TB d 83 15 (a0 :: a1 :: some v :: r9) st A = rg v (exG TB d 83 16 (a0 :: a1 :: some v :: r9) (v :: st) A) := x_rg (op := o_aload 2 1) rfl rfl
theorem x_83_16  : exG TB d 83 16 L (v :: .ref p :: st) A = ck ((gf A p 111).isSome && okv 0 v) (exG TB d 83 19 L st (setf A p 111 v)) := x_gd (op := o_put 111 0) rfl rfl
theorem x_83_19  : exG TB d 83 19 (some v :: r9) st A = rg v (exG TB d 83 20 (some v :: r9) (v :: st) A) := x_rg (op := o_aload 0 1) rfl rfl
theorem x_83_20  : exG TB d 83 20 (a0 :: a1 :: a2 :: some v :: r9) st A = rg v (exG TB d 83 21 (a0 :: a1 :: a2 :: some v :: r9) (v :: st) A) := x_rg (op := o_aload 3 1) rfl rfl
theorem x_83_21  : exG TB d 83 21 L (v :: .ref p :: st) A = ck ((gf A p 114).isSome && okv 0 v) (exG TB d 83 24 L st (setf A p 114 v)) := x_gd (op := o_put 114 0) rfl rfl
theorem x_83_24  : exG TB d 83 24 L [] A = some (.inl none, A) := x_out (op := o_vret) rfl rfl
theorem e_84  : evG TB (d + 1) 84 [.ref p, b1] A = rg b1 (exG TB d 84 0 [some (.ref p), some (b1)] [] A) := by
  rw [evG_eq]
  show (bif (true && (isR b1 && true)) then exG TB d 84 0 [some (.ref p), some (b1)] [] A else none) = _
  unfold rg
  cases isR b1 <;> rfl
theorem x_84_0  : exG TB d 84 0 (some v :: r9) st A = rg v (exG TB d 84 1 (some v :: r9) (v :: st) A) := x_rg (op := o_aload 0 1) rfl rfl
theorem x_84_1  : exG TB d 84 1 (a0 :: some v :: r9) st A = rg v (exG TB d 84 2 (a0 :: some v :: r9) (v :: st) A) := x_rg (op := o_aload 1 1) rfl rfl
theorem x_84_2  : exG TB d 84 2 L (v :: .ref p :: st) A = ck ((gf A p 116).isSome && okv 0 v) (exG TB d 84 5 L st (setf A p 116 v)) := x_gd (op := o_put 116 0) rfl rfl
theorem x_84_5  : exG TB d 84 5 (some v :: r9) st A = rg v (exG TB d 84 6 (some v :: r9) (v :: st) A) := x_rg (op := o_aload 0 1) rfl rfl
theorem x_84_6  : exG TB d 84 6 L [.ref p] A = kc0 (evG TB d 0 [.ref p] A) d 84 9 L [] := x_c0 (op := o_ci 0 0) rfl rfl x_noh rfl
theorem x_84_9  : exG TB d 84 9 L [] A = some (.inl none, A) := x_out (op := o_vret) rfl rfl
theorem e_85  : evG TB (d + 1) 85 [.ref p] A = exG TB d 85 0 [some (.ref p)] [] A := evG_eq TB d 85 _ A
theorem x_85_0  : exG TB d 85 0 L st A = exG TB d 85 3 L (.ref (nx A) :: st) (newo A 25 4 dv25) := x_nx (op := o_new 25 4 dv25) rfl rfl
theorem x_85_3  : exG TB d 85 3 L (v :: st) A = ck (c1 v) (exG TB d 85 4 L (v :: v :: st) A) := x_gd (op := o_dup) rfl rfl
theorem x_85_4  : exG TB d 85 4 (some v :: r9) st A = rg v (exG TB d 85 5 (some v :: r9) (v :: st) A) := x_rg (op := o_aload 0 1) rfl rfl
theorem x_85_5  : exG TB d 85 5 L (.ref p :: st) A = kv (gf A p 116) d 85 8 L st A := x_bd (op := o_get 116) rfl rfl (fun _ => rfl)
theorem x_85_8  : exG TB d 85 8 (some v :: r9) st A = rg v (exG TB d 85 9 (some v :: r9) (v :: st) A) := x_rg (op := o_aload 0 1) rfl rfl
theorem x_85_9  : exG TB d 85 9 L (.ref p :: st) A = kv (gf A p 116) d 85 12 L st A := x_bd (op := o_get 116) rfl rfl (fun _ => rfl)
theorem x_85_12  : exG TB d 85 12 L [.ref p, w0, w1, w2] A = kw (sel (gc A p) [(20, 69)]) [.ref p] d 85 15 L [w0, w1, w2] A := x_cvb (op := o_cv [(20, 69)] 0 3 false none) rfl rfl x_noh rfl
theorem x_85_15  : exG TB d 85 15 L [b1, b0, .ref p, w0] A = kc0 (evG TB d 96 [.ref p, b0, b1] A) d 85 18 L [w0] := x_c0 (op := o_ci 96 2) rfl rfl x_noh rfl
theorem x_85_18  : exG TB d 85 18 L [v] A = ck (okv 0 v) (some (.inl (some v), A)) := x_outg (op := o_ret 0) rfl rfl
theorem e_86  : evG TB (d + 1) 86 [.ref p] A = exG TB d 86 0 [some (.ref p)] [] A := evG_eq TB d 86 _ A
theorem x_86_0  : exG TB d 86 0 (some v :: r9) st A = rg v (exG TB d 86 1 (some v :: r9) (v :: st) A) := x_rg (op := o_aload 0 1) rfl rfl
theorem x_86_1  : exG TB d 86 1 L (.ref p :: st) A = kv (gf A p 117) d 86 4 L st A := x_bd (op := o_get 117) rfl rfl (fun _ => rfl)
theorem x_86_4n  : exG TB d 86 4 L (.null :: st) A = exG TB d 86 11 L st A := x_nx (op := o_ifnull 11) rfl rfl
theorem x_86_4r  : exG TB d 86 4 L (.ref p :: st) A = exG TB d 86 7 L st A := x_nx (op := o_ifnull 11) rfl rfl
theorem x_86_7  : exG TB d 86 7 L st A = exG TB d 86 8 L (.int (nI 1) :: st) A := x_nx (op := o_push 1 (.int 1)) rfl rfl
theorem x_86_8  : exG TB d 86 8 L st A = exG TB d 86 12 L st A := x_nx (op := o_goto 12) rfl rfl
theorem x_86_11  : exG TB d 86 11 L st A = exG TB d 86 12 L (.int (nI 0) :: st) A := x_nx (op := o_push 1 (.int 0)) rfl rfl
theorem x_86_12  : exG TB d 86 12 L [v] A = ck (okv 5 v) (some (.inl (some v), A)) := x_outg (op := o_ret 5) rfl rfl
theorem e_87  : evG TB (d + 1) 87 [.ref p] A = exG TB d 87 0 [some (.ref p), none, none] [] A := evG_eq TB d 87 _ A
theorem x_87_0  : exG TB d 87 0 (some v :: r9) st A = rg v (exG TB d 87 1 (some v :: r9) (v :: st) A) := x_rg (op := o_aload 0 1) rfl rfl
theorem x_87_1  : exG TB d 87 1 L (.ref p :: st) A = kv (gf A p 117) d 87 4 L st A := x_bd (op := o_get 117) rfl rfl (fun _ => rfl)
theorem x_87_4  : exG TB d 87 4 (a0 :: a1 :: a2 :: r9) (v :: st) A = rg v (exG TB d 87 5 (a0 :: a1 :: some v :: r9) st A) := x_rgt (op := o_astore 2 1) rfl rfl
theorem x_87_5  : exG TB d 87 5 (some v :: r9) st A = rg v (exG TB d 87 6 (some v :: r9) (v :: st) A) := x_rg (op := o_aload 0 1) rfl rfl
theorem x_87_6  : exG TB d 87 6 L (.ref p :: st) A = kv (gf A p 121) d 87 9 L st A := x_bd (op := o_get 121) rfl rfl (fun _ => rfl)
theorem x_87_9  : exG TB d 87 9 L (.ref p :: st) A = kv (gf A p 34) d 87 12 L st A := x_bd (op := o_get 34) rfl rfl (fun _ => rfl)
theorem x_87_12  : exG TB d 87 12 (some v :: r9) st A = rg v (exG TB d 87 13 (some v :: r9) (v :: st) A) := x_rg (op := o_aload 0 1) rfl rfl
theorem x_87_13  : exG TB d 87 13 L (.ref p :: st) A = kv (gf A p 119) d 87 16 L st A := x_bd (op := o_get 119) rfl rfl (fun _ => rfl)
theorem x_87_16  : exG TB d 87 16 L (.int i2 :: .int i1 :: st) A = if i1 = i2 then exG TB d 87 27 L st A else exG TB d 87 19 L st A := x_if (op := o_icmp (fun x y => decide (x = y)) 27) rfl rfl rfl
theorem x_87_22  : exG TB d 87 22 L (v :: st) A = ck (c1 v) (exG TB d 87 23 L (v :: v :: st) A) := x_gd (op := o_dup) rfl rfl
theorem x_87_27  : exG TB d 87 27 (a0 :: a1 :: some v :: r9) st A = rg v (exG TB d 87 28 (a0 :: a1 :: some v :: r9) (v :: st) A) := x_rg (op := o_aload 2 1) rfl rfl
theorem x_87_28n  : exG TB d 87 28 L (.null :: st) A = exG TB d 87 31 L st A := x_nx (op := o_ifnonnull 39) rfl rfl
theorem x_87_28r  : exG TB d 87 28 L (.ref p :: st) A = exG TB d 87 39 L st A := x_nx (op := o_ifnonnull 39) rfl rfl
theorem x_87_34  : exG TB d 87 34 L (v :: st) A = ck (c1 v) (exG TB d 87 35 L (v :: v :: st) A) := x_gd (op := o_dup) rfl rfl
theorem x_87_39  : exG TB d 87 39 (some v :: r9) st A = rg v (exG TB d 87 40 (some v :: r9) (v :: st) A) := x_rg (op := o_aload 0 1) rfl rfl
theorem x_87_40  : exG TB d 87 40 (some v :: r9) st A = rg v (exG TB d 87 41 (some v :: r9) (v :: st) A) := x_rg (op := o_aload 0 1) rfl rfl
theorem x_87_41  : exG TB d 87 41 (a0 :: a1 :: some v :: r9) st A = rg v (exG TB d 87 42 (a0 :: a1 :: some v :: r9) (v :: st) A) := x_rg (op := o_aload 2 1) rfl rfl
theorem x_87_42  : exG TB d 87 42 L (v :: v2 :: st) A = ck (c1 v && c1 v2) (exG TB d 87 43 L (v :: v2 :: v :: st) A) := x_gd (op := o_dupx1) rfl rfl
theorem x_87_43  : exG TB d 87 43 L (v :: .ref p :: st) A = ck ((gf A p 118).isSome && okv 0 v) (exG TB d 87 46 L st (setf A p 118 v)) := x_gd (op := o_put 118 0) rfl rfl
theorem x_87_46  : exG TB d 87 46 L (.ref p :: st) A = kv (gf A p 146) d 87 49 L st A := x_bd (op := o_get 146) rfl rfl (fun _ => rfl)
theorem x_87_49  : exG TB d 87 49 L (v :: v2 :: st) A = ck (c1 v && c1 v2) (exG TB d 87 50 L (v :: v2 :: v :: st) A) := x_gd (op := o_dupx1) rfl rfl
theorem x_87_50  : exG TB d 87 50 L (v :: .ref p :: st) A = ck ((gf A p 117).isSome && okv 0 v) (exG TB d 87 53 L st (setf A p 117 v)) := x_gd (op := o_put 117 0) rfl rfl
theorem x_87_53n  : exG TB d 87 53 L (.null :: st) A = exG TB d 87 56 L st A := x_nx (op := o_ifnonnull 98) rfl rfl
theorem x_87_53r  : exG TB d 87 53 L (.ref p :: st) A = exG TB d 87 98 L st A := x_nx (op := o_ifnonnull 98) rfl rfl
theorem x_87_56  : exG TB d 87 56 (some v :: r9) st A = rg v (exG TB d 87 57 (some v :: r9) (v :: st) A) := x_rg (op := o_aload 0 1) rfl rfl
theorem x_87_57  : exG TB d 87 57 L (.ref p :: st) A = kv (gf A p 121) d 87 60 L st A := x_bd (op := o_get 121) rfl rfl (fun _ => rfl)
theorem x_87_60  : exG TB d 87 60 L (.ref p :: st) A = kv (gf A p 31) d 87 63 L st A := x_bd (op := o_get 31) rfl rfl (fun _ => rfl)
theorem x_87_63  : exG TB d 87 63 L (v :: st) A = ck (c1 v) (exG TB d 87 64 L (v :: v :: st) A) := x_gd (op := o_dup) rfl rfl
theorem x_87_64  : exG TB d 87 64 (a0 :: a1 :: r9) (v :: st) A = rg v (exG TB d 87 65 (a0 :: some v :: r9) st A) := x_rgt (op := o_astore 1 1) rfl rfl
theorem x_87_65n  : exG TB d 87 65 L (.null :: st) A = exG TB d 87 98 L st A := x_nx (op := o_ifnull 98) rfl rfl
theorem x_87_65r  : exG TB d 87 65 L (.ref p :: st) A = exG TB d 87 68 L st A := x_nx (op := o_ifnull 98) rfl rfl
theorem x_87_68  : exG TB d 87 68 (some v :: r9) st A = rg v (exG TB d 87 69 (some v :: r9) (v :: st) A) := x_rg (op := o_aload 0 1) rfl rfl
theorem x_87_69  : exG TB d 87 69 L (.ref p :: st) A = kv (gf A p 120) d 87 72 L st A := x_bd (op := o_get 120) rfl rfl (fun _ => rfl)
theorem x_87_72  : exG TB d 87 72 (a0 :: some v :: r9) st A = rg v (exG TB d 87 73 (a0 :: some v :: r9) (v :: st) A) := x_rg (op := o_aload 1 1) rfl rfl
theorem x_87_73  : exG TB d 87 73 L (.ref p :: st) A = ki (aln (ga A p)) d 87 74 L st A := x_bd (op := o_alen) rfl rfl (fun _ => rfl)
theorem x_87_74  : exG TB d 87 74 L (.int i2 :: .int i1 :: st) A = if i2 ≤ i1 then exG TB d 87 98 L st A else exG TB d 87 77 L st A := x_if (op := o_icmp (fun x y => decide (y ≤ x)) 98) rfl rfl rfl
theorem x_87_77  : exG TB d 87 77 (some v :: r9) st A = rg v (exG TB d 87 78 (some v :: r9) (v :: st) A) := x_rg (op := o_aload 0 1) rfl rfl
theorem x_87_78  : exG TB d 87 78 (a0 :: some v :: r9) st A = rg v (exG TB d 87 79 (a0 :: some v :: r9) (v :: st) A) := x_rg (op := o_aload 1 1) rfl rfl
theorem x_87_79  : exG TB d 87 79 (some v :: r9) st A = rg v (exG TB d 87 80 (some v :: r9) (v :: st) A) := x_rg (op := o_aload 0 1) rfl rfl
theorem x_87_80  : exG TB d 87 80 L (v :: st) A = ck (c1 v) (exG TB d 87 81 L (v :: v :: st) A) := x_gd (op := o_dup) rfl rfl
theorem x_87_81  : exG TB d 87 81 L (.ref p :: st) A = kv (gf A p 120) d 87 84 L st A := x_bd (op := o_get 120) rfl rfl (fun _ => rfl)
theorem x_87_84  : exG TB d 87 84 L (v :: v2 :: st) A = ck (c1 v && c1 v2) (exG TB d 87 85 L (v :: v2 :: v :: st) A) := x_gd (op := o_dupx1) rfl rfl
theorem x_87_85  : exG TB d 87 85 L st A = exG TB d 87 86 L (.int (nI 1) :: st) A := x_nx (op := o_push 1 (.int 1)) rfl rfl
theorem x_87_86  : exG TB d 87 86 L (.int i2 :: .int i1 :: st) A = exG TB d 87 87 L (.int (i1 + i2) :: st) A := x_nx (op := o_iop (fun x y => x + y)) rfl rfl
theorem x_87_87  : exG TB d 87 87 L (v :: .ref p :: st) A = ck ((gf A p 120).isSome && okv 1 v) (exG TB d 87 90 L st (setf A p 120 v)) := x_gd (op := o_put 120 1) rfl rfl
theorem x_87_90  : exG TB d 87 90 L (.int i1 :: .ref p :: st) A = kq (rdQ (ga A p) i1) d 87 91 L st A := x_bd (op := o_rdQ) rfl rfl (fun _ => rfl)
theorem x_87_91  : exG TB d 87 91 L (v :: v2 :: st) A = ck (c1 v && c1 v2) (exG TB d 87 92 L (v :: v2 :: v :: st) A) := x_gd (op := o_dupx1) rfl rfl
theorem x_87_92  : exG TB d 87 92 L (v :: .ref p :: st) A = ck ((gf A p 117).isSome && okv 0 v) (exG TB d 87 95 L st (setf A p 117 v)) := x_gd (op := o_put 117 0) rfl rfl
theorem x_87_95n  : exG TB d 87 95 L (.null :: st) A = exG TB d 87 68 L st A := x_nx (op := o_ifnull 68) rfl rfl
theorem x_87_95r  : exG TB d 87 95 L (.ref p :: st) A = exG TB d 87 98 L st A := x_nx (op := o_ifnull 68) rfl rfl
theorem x_87_98  : exG TB d 87 98 (a0 :: a1 :: some v :: r9) st A = rg v (exG TB d 87 99 (a0 :: a1 :: some v :: r9) (v :: st) A) := x_rg (op := o_aload 2 1) rfl rfl
theorem x_87_99  : exG TB d 87 99 L [v] A = ck (okv 0 v) (some (.inl (some v), A)) := x_outg (op := o_ret 0) rfl rfl
theorem e_88  : evG TB (d + 1) 88 [.ref p, b1] A = rg b1 (exG TB d 88 0 [some (.ref p), some (b1), none] [] A) := by
  rw [evG_eq]
  show (bif (true && (isR b1 && true)) then exG TB d 88 0 [some (.ref p), some (b1), none] [] A else none) = _
  unfold rg
  cases isR b1 <;> rfl
theorem x_88_0  : exG TB d 88 0 (some v :: r9) st A = rg v (exG TB d 88 1 (some v :: r9) (v :: st) A) := x_rg (op := o_aload 0 1) rfl rfl
theorem x_88_1  : exG TB d 88 1 (a0 :: some v :: r9) st A = rg v (exG TB d 88 2 (a0 :: some v :: r9) (v :: st) A) := x_rg (op := o_aload 1 1) rfl rfl
theorem x_88_2  : exG TB d 88 2 L (v :: .ref p :: st) A = ck ((gf A p 121).isSome && okv 0 v) (exG TB d 88 5 L st (setf A p 121 v)) := x_gd (op := o_put 121 0) rfl rfl
theorem x_88_5  : exG TB d 88 5 (some v :: r9) st A = rg v (exG TB d 88 6 (some v :: r9) (v :: st) A) := x_rg (op := o_aload 0 1) rfl rfl
theorem x_88_6  : exG TB d 88 6 L [.ref p] A = exG TB d 88 9 L [] A := x_nx (op := o_oi) rfl rfl
theorem x_88_9  : exG TB d 88 9 (some v :: r9) st A = rg v (exG TB d 88 10 (some v :: r9) (v :: st) A) := x_rg (op := o_aload 0 1) rfl rfl
theorem x_88_10  : exG TB d 88 10 (a0 :: some v :: r9) st A = rg v (exG TB d 88 11 (a0 :: some v :: r9) (v :: st) A) := x_rg (op := o_aload 1 1) rfl rfl
theorem x_88_11  : exG TB d 88 11 L (.ref p :: st) A = kv (gf A p 34) d 88 14 L st A := x_bd (op := o_get 34) rfl rfl (fun _ => rfl)
theorem x_88_14  : exG TB d 88 14 L (v :: .ref p :: st) A = ck ((gf A p 119).isSome && okv 1 v) (exG TB d 88 17 L st (setf A p 119 v)) := x_gd (op := o_put 119 1) rfl rfl
theorem x_88_17  : exG TB d 88 17 (a0 :: some v :: r9) st A = rg v (exG TB d 88 18 (a0 :: some v :: r9) (v :: st) A) := x_rg (op := o_aload 1 1) rfl rfl
theorem x_88_18  : exG TB d 88 18 L (.ref p :: st) A = kv (gf A p 31) d 88 21 L st A := x_bd (op := o_get 31) rfl rfl (fun _ => rfl)
theorem x_88_21  : exG TB d 88 21 (a0 :: a1 :: a2 :: r9) (v :: st) A = rg v (exG TB d 88 22 (a0 :: a1 :: some v :: r9) st A) := x_rgt (op := o_astore 2 1) rfl rfl
theorem x_88_22  : exG TB d 88 22 (some v :: r9) st A = rg v (exG TB d 88 23 (some v :: r9) (v :: st) A) := x_rg (op := o_aload 0 1) rfl rfl
theorem x_88_23  : exG TB d 88 23 (some v :: r9) st A = rg v (exG TB d 88 24 (some v :: r9) (v :: st) A) := x_rg (op := o_aload 0 1) rfl rfl
theorem x_88_24  : exG TB d 88 24 L st A = exG TB d 88 25 L (.null :: st) A := x_nx (op := o_push 1 .null) rfl rfl
theorem x_88_25  : exG TB d 88 25 L (v :: v2 :: st) A = ck (c1 v && c1 v2) (exG TB d 88 26 L (v :: v2 :: v :: st) A) := x_gd (op := o_dupx1) rfl rfl
theorem x_88_26  : exG TB d 88 26 L (v :: .ref p :: st) A = ck ((gf A p 117).isSome && okv 0 v) (exG TB d 88 29 L st (setf A p 117 v)) := x_gd (op := o_put 117 0) rfl rfl
theorem x_88_29  : exG TB d 88 29 L (v :: .ref p :: st) A = ck ((gf A p 118).isSome && okv 0 v) (exG TB d 88 32 L st (setf A p 118 v)) := x_gd (op := o_put 118 0) rfl rfl
theorem x_88_32  : exG TB d 88 32 (some v :: r9) st A = rg v (exG TB d 88 33 (some v :: r9) (v :: st) A) := x_rg (op := o_aload 0 1) rfl rfl
theorem x_88_33  : exG TB d 88 33 L st A = exG TB d 88 34 L (.int (nI 0) :: st) A := x_nx (op := o_push 1 (.int 0)) rfl rfl
theorem x_88_34  : exG TB d 88 34 L (v :: .ref p :: st) A = ck ((gf A p 120).isSome && okv 1 v) (exG TB d 88 37 L st (setf A p 120 v)) := x_gd (op := o_put 120 1) rfl rfl
theorem x_88_37  : exG TB d 88 37 (a0 :: a1 :: some v :: r9) st A = rg v (exG TB d 88 38 (a0 :: a1 :: some v :: r9) (v :: st) A) := x_rg (op := o_aload 2 1) rfl rfl
theorem x_88_38n  : exG TB d 88 38 L (.null :: st) A = exG TB d 88 78 L st A := x_nx (op := o_ifnull 78) rfl rfl
theorem x_88_38r  : exG TB d 88 38 L (.ref p :: st) A = exG TB d 88 41 L st A := x_nx (op := o_ifnull 78) rfl rfl
theorem x_88_41  : exG TB d 88 41 (a0 :: some v :: r9) st A = rg v (exG TB d 88 42 (a0 :: some v :: r9) (v :: st) A) := x_rg (op := o_aload 1 1) rfl rfl
theorem x_88_42  : exG TB d 88 42 L (.ref p :: st) A = kv (gf A p 33) d 88 45 L st A := x_bd (op := o_get 33) rfl rfl (fun _ => rfl)
theorem x_88_45  : exG TB d 88 45 L (.int i1 :: st) A = if i1 ≤ nI 0 then exG TB d 88 78 L st A else exG TB d 88 48 L st A := x_if (op := o_if (fun x => decide (x ≤ 0)) 78) rfl rfl rfl
theorem x_88_48  : exG TB d 88 48 (some v :: r9) st A = rg v (exG TB d 88 49 (some v :: r9) (v :: st) A) := x_rg (op := o_aload 0 1) rfl rfl
theorem x_88_49  : exG TB d 88 49 L (.ref p :: st) A = kv (gf A p 120) d 88 52 L st A := x_bd (op := o_get 120) rfl rfl (fun _ => rfl)
theorem x_88_52  : exG TB d 88 52 (a0 :: a1 :: some v :: r9) st A = rg v (exG TB d 88 53 (a0 :: a1 :: some v :: r9) (v :: st) A) := x_rg (op := o_aload 2 1) rfl rfl
theorem x_88_53  : exG TB d 88 53 L (.ref p :: st) A = ki (aln (ga A p)) d 88 54 L st A := x_bd (op := o_alen) rfl rfl (fun _ => rfl)
theorem x_88_54  : exG TB d 88 54 L (.int i2 :: .int i1 :: st) A = if i2 ≤ i1 then exG TB d 88 78 L st A else exG TB d 88 57 L st A := x_if (op := o_icmp (fun x y => decide (y ≤ x)) 78) rfl rfl rfl
theorem x_88_57  : exG TB d 88 57 (some v :: r9) st A = rg v (exG TB d 88 58 (some v :: r9) (v :: st) A) := x_rg (op := o_aload 0 1) rfl rfl
theorem x_88_58  : exG TB d 88 58 (a0 :: a1 :: some v :: r9) st A = rg v (exG TB d 88 59 (a0 :: a1 :: some v :: r9) (v :: st) A) := x_rg (op := o_aload 2 1) rfl rfl
theorem x_88_59  : exG TB d 88 59 (some v :: r9) st A = rg v (exG TB d 88 60 (some v :: r9) (v :: st) A) := x_rg (op := o_aload 0 1) rfl rfl
theorem x_88_60  : exG TB d 88 60 L (v :: st) A = ck (c1 v) (exG TB d 88 61 L (v :: v :: st) A) := x_gd (op := o_dup) rfl rfl
theorem x_88_61  : exG TB d 88 61 L (.ref p :: st) A = kv (gf A p 120) d 88 64 L st A := x_bd (op := o_get 120) rfl rfl (fun _ => rfl)
theorem x_88_64  : exG TB d 88 64 L (v :: v2 :: st) A = ck (c1 v && c1 v2) (exG TB d 88 65 L (v :: v2 :: v :: st) A) := x_gd (op := o_dupx1) rfl rfl
theorem x_88_65  : exG TB d 88 65 L st A = exG TB d 88 66 L (.int (nI 1) :: st) A := x_nx (op := o_push 1 (.int 1)) rfl rfl
theorem x_88_66  : exG TB d 88 66 L (.int i2 :: .int i1 :: st) A = exG TB d 88 67 L (.int (i1 + i2) :: st) A := x_nx (op := o_iop (fun x y => x + y)) rfl rfl
theorem x_88_67  : exG TB d 88 67 L (v :: .ref p :: st) A = ck ((gf A p 120).isSome && okv 1 v) (exG TB d 88 70 L st (setf A p 120 v)) := x_gd (op := o_put 120 1) rfl rfl
theorem x_88_70  : exG TB d 88 70 L (.int i1 :: .ref p :: st) A = kq (rdQ (ga A p) i1) d 88 71 L st A := x_bd (op := o_rdQ) rfl rfl (fun _ => rfl)
theorem x_88_71  : exG TB d 88 71 L (v :: v2 :: st) A = ck (c1 v && c1 v2) (exG TB d 88 72 L (v :: v2 :: v :: st) A) := x_gd (op := o_dupx1) rfl rfl
theorem x_88_72  : exG TB d 88 72 L (v :: .ref p :: st) A = ck ((gf A p 117).isSome && okv 0 v) (exG TB d 88 75 L st (setf A p 117 v)) := x_gd (op := o_put 117 0) rfl rfl
theorem x_88_75n  : exG TB d 88 75 L (.null :: st) A = exG TB d 88 48 L st A := x_nx (op := o_ifnull 48) rfl rfl
theorem x_88_75r  : exG TB d 88 75 L (.ref p :: st) A = exG TB d 88 78 L st A := x_nx (op := o_ifnull 48) rfl rfl
theorem x_88_78  : exG TB d 88 78 L [] A = some (.inl none, A) := x_out (op := o_vret) rfl rfl
theorem e_89  : evG TB (d + 1) 89 [.ref p] A = exG TB d 89 0 [some (.ref p)] [] A := evG_eq TB d 89 _ A
theorem x_89_0  : exG TB d 89 0 (some v :: r9) st A = rg v (exG TB d 89 1 (some v :: r9) (v :: st) A) := x_rg (op := o_aload 0 1) rfl rfl
theorem x_89_1  : exG TB d 89 1 L [.ref p] A = kw (sel (gc A p) [(24, 90)]) [.ref p] d 89 4 L [] A := x_cvb (op := o_cv [(24, 90)] 0 3 false none) rfl rfl x_noh rfl
theorem x_89_4  : exG TB d 89 4 L [v] A = ck (okv 0 v) (some (.inl (some v), A)) := x_outg (op := o_ret 0) rfl rfl
theorem e_90  : evG TB (d + 1) 90 [.ref p] A = exG TB d 90 0 [some (.ref p)] [] A := evG_eq TB d 90 _ A
theorem x_90_0  : exG TB d 90 0 (some v :: r9) st A = rg v (exG TB d 90 1 (some v :: r9) (v :: st) A) := x_rg (op := o_aload 0 1) rfl rfl
theorem x_90_1  : exG TB d 90 1 L [.ref p] A = kw (sel (gc A p) [(24, 87)]) [.ref p] d 90 4 L [] A := x_cvb (op := o_cv [(24, 87)] 0 3 false none) rfl rfl x_noh rfl
theorem x_90_4  : exG TB d 90 4 L [v] A = ck (okv 0 v) (some (.inl (some v), A)) := x_outg (op := o_ret 0) rfl rfl
theorem e_91  : evG TB (d + 1) 91 [.ref p, b1] A = rg b1 (exG TB d 91 0 [some (.ref p), some (b1)] [] A) := by
  rw [evG_eq]
  show (bif (true && (isR b1 && true)) then exG TB d 91 0 [some (.ref p), some (b1)] [] A else none) = _
  unfold rg
  cases isR b1 <;> rfl
theorem x_91_0  : exG TB d 91 0 (some v :: r9) st A = rg v (exG TB d 91 1 (some v :: r9) (v :: st) A) := x_rg (op := o_aload 0 1) rfl rfl
theorem x_91_1  : exG TB d 91 1 (a0 :: some v :: r9) st A = rg v (exG TB d 91 2 (a0 :: some v :: r9) (v :: st) A) := x_rg (op := o_aload 1 1) rfl rfl
theorem x_91_2  : exG TB d 91 2 L [b0, .ref p] A = kc0 (evG TB d 88 [.ref p, b0] A) d 91 5 L [] := x_c0 (op := o_ci 88 1) rfl rfl x_noh rfl
theorem x_91_5  : exG TB d 91 5 L [] A = some (.inl none, A) := x_out (op := o_vret) rfl rfl
theorem e_92  : evG TB (d + 1) 92 [.ref p] A = exG TB d 92 0 [some (.ref p)] [] A := evG_eq TB d 92 _ A
theorem x_92_0  : exG TB d 92 0 (some v :: r9) st A = rg v (exG TB d 92 1 (some v :: r9) (v :: st) A) := x_rg (op := o_aload 0 1) rfl rfl
theorem x_92_1  : exG TB d 92 1 L (.ref p :: st) A = kv (gf A p 122) d 92 4 L st A := x_bd (op := o_get 122) rfl rfl (fun _ => rfl)
theorem x_92_4n  : exG TB d 92 4 L (.null :: st) A = exG TB d 92 11 L st A := x_nx (op := o_ifnull 11) rfl rfl
theorem x_92_4r  : exG TB d 92 4 L (.ref p :: st) A = exG TB d 92 7 L st A := x_nx (op := o_ifnull 11) rfl rfl
theorem x_92_7  : exG TB d 92 7 L st A = exG TB d 92 8 L (.int (nI 1) :: st) A := x_nx (op := o_push 1 (.int 1)) rfl rfl
theorem x_92_8  : exG TB d 92 8 L st A = exG TB d 92 12 L st A := x_nx (op := o_goto 12) rfl rfl
theorem x_92_11  : exG TB d 92 11 L st A = exG TB d 92 12 L (.int (nI 0) :: st) A := x_nx (op := o_push 1 (.int 0)) rfl rfl
theorem x_92_12  : exG TB d 92 12 L [v] A = ck (okv 5 v) (some (.inl (some v), A)) := x_outg (op := o_ret 5) rfl rfl
theorem e_93  : evG TB (d + 1) 93 [.ref p] A = exG TB d 93 0 [some (.ref p), none] [] A := evG_eq TB d 93 _ A
theorem x_93_0  : exG TB d 93 0 (some v :: r9) st A = rg v (exG TB d 93 1 (some v :: r9) (v :: st) A) := x_rg (op := o_aload 0 1) rfl rfl
theorem x_93_1  : exG TB d 93 1 L (.ref p :: st) A = kv (gf A p 122) d 93 4 L st A := x_bd (op := o_get 122) rfl rfl (fun _ => rfl)
theorem x_93_4  : exG TB d 93 4 (a0 :: a1 :: r9) (v :: st) A = rg v (exG TB d 93 5 (a0 :: some v :: r9) st A) := x_rgt (op := o_astore 1 1) rfl rfl
theorem x_93_5  : exG TB d 93 5 (a0 :: some v :: r9) st A = rg v (exG TB d 93 6 (a0 :: some v :: r9) (v :: st) A) := x_rg (op := o_aload 1 1) rfl rfl
theorem x_93_6n  : exG TB d 93 6 L (.null :: st) A = exG TB d 93 9 L st A := x_nx (op := o_ifnonnull 17) rfl rfl
theorem x_93_6r  : exG TB d 93 6 L (.ref p :: st) A = exG TB d 93 17 L st A := x_nx (op := o_ifnonnull 17) rfl rfl
theorem x_93_12  : exG TB d 93 12 L (v :: st) A = ck (c1 v) (exG TB d 93 13 L (v :: v :: st) A) := x_gd (op := o_dup) rfl rfl
theorem x_93_17  : exG TB d 93 17 (some v :: r9) st A = rg v (exG TB d 93 18 (some v :: r9) (v :: st) A) := x_rg (op := o_aload 0 1) rfl rfl
theorem x_93_18  : exG TB d 93 18 L (.ref p :: st) A = kv (gf A p 125) d 93 21 L st A := x_bd (op := o_get 125) rfl rfl (fun _ => rfl)
theorem x_93_21  : exG TB d 93 21 L (.ref p :: st) A = kv (gf A p 105) d 93 24 L st A := x_bd (op := o_get 105) rfl rfl (fun _ => rfl)
theorem x_93_24  : exG TB d 93 24 (some v :: r9) st A = rg v (exG TB d 93 25 (some v :: r9) (v :: st) A) := x_rg (op := o_aload 0 1) rfl rfl
theorem x_93_25  : exG TB d 93 25 L (.ref p :: st) A = kv (gf A p 124) d 93 28 L st A := x_bd (op := o_get 124) rfl rfl (fun _ => rfl)
theorem x_93_28  : exG TB d 93 28 L (.int i2 :: .int i1 :: st) A = if i1 = i2 then exG TB d 93 39 L st A else exG TB d 93 31 L st A := x_if (op := o_icmp (fun x y => decide (x = y)) 39) rfl rfl rfl
theorem x_93_34  : exG TB d 93 34 L (v :: st) A = ck (c1 v) (exG TB d 93 35 L (v :: v :: st) A) := x_gd (op := o_dup) rfl rfl
theorem x_93_39  : exG TB d 93 39 (some v :: r9) st A = rg v (exG TB d 93 40 (some v :: r9) (v :: st) A) := x_rg (op := o_aload 0 1) rfl rfl
theorem x_93_40  : exG TB d 93 40 (a0 :: some v :: r9) st A = rg v (exG TB d 93 41 (a0 :: some v :: r9) (v :: st) A) := x_rg (op := o_aload 1 1) rfl rfl
theorem x_93_41  : exG TB d 93 41 L [b0, w0] A = kc (evG TB d 53 [b0] A) d 93 44 L [w0] := x_cv (op := o_cs 53 1 false none) rfl rfl x_noh rfl
theorem x_93_44  : exG TB d 93 44 L (v :: .ref p :: st) A = ck ((gf A p 122).isSome && okv 0 v) (exG TB d 93 47 L st (setf A p 122 v)) := x_gd (op := o_put 122 0) rfl rfl
theorem x_93_47  : exG TB d 93 47 (some v :: r9) st A = rg v (exG TB d 93 48 (some v :: r9) (v :: st) A) := x_rg (op := o_aload 0 1) rfl rfl
theorem x_93_48  : exG TB d 93 48 (a0 :: some v :: r9) st A = rg v (exG TB d 93 49 (a0 :: some v :: r9) (v :: st) A) := x_rg (op := o_aload 1 1) rfl rfl
theorem x_93_49  : exG TB d 93 49 L (v :: .ref p :: st) A = ck ((gf A p 123).isSome && okv 0 v) (exG TB d 93 52 L st (setf A p 123 v)) := x_gd (op := o_put 123 0) rfl rfl
theorem x_93_52  : exG TB d 93 52 (a0 :: some v :: r9) st A = rg v (exG TB d 93 53 (a0 :: some v :: r9) (v :: st) A) := x_rg (op := o_aload 1 1) rfl rfl
theorem x_93_53  : exG TB d 93 53 L [v] A = ck (okv 0 v) (some (.inl (some v), A)) := x_outg (op := o_ret 0) rfl rfl
theorem e_94  : evG TB (d + 1) 94 [.ref p, b1, b2] A = rg b1 (rg b2 (exG TB d 94 0 [some (.ref p), some (b1), some (b2)] [] A)) := by
  rw [evG_eq]
  show (bif (true && (isR b1 && (isR b2 && true))) then exG TB d 94 0 [some (.ref p), some (b1), some (b2)] [] A else none) = _
  unfold rg
  cases isR b1 <;> cases isR b2 <;> rfl
theorem x_94_0  : exG TB d 94 0 (some v :: r9) st A = rg v (exG TB d 94 1 (some v :: r9) (v :: st) A) := x_rg (op := o_aload 0 1) rfl rfl
theorem x_94_1  : exG TB d 94 1 (a0 :: some v :: r9) st A = rg v (exG TB d 94 2 (a0 :: some v :: r9) (v :: st) A) := x_rg (op := o_aload 1 1) rfl rfl
theorem x_94_2  : exG TB d 94 2 L (v :: .ref p :: st) A = ck ((gf A p 125).isSome && okv 0 v) (exG TB d 94 5 L st (setf A p 125 v)) := x_gd (op := o_put 125 0) rfl rfl
theorem x_94_5  : exG TB d 94 5 (some v :: r9) st A = rg v (exG TB d 94 6 (some v :: r9) (v :: st) A) := x_rg (op := o_aload 0 1) rfl rfl
theorem x_94_6  : exG TB d 94 6 L [.ref p] A = exG TB d 94 9 L [] A := x_nx (op := o_oi) rfl rfl
theorem x_94_9  : exG TB d 94 9 (some v :: r9) st A = rg v (exG TB d 94 10 (some v :: r9) (v :: st) A) := x_rg (op := o_aload 0 1) rfl rfl
theorem x_94_10  : exG TB d 94 10 (a0 :: some v :: r9) st A = rg v (exG TB d 94 11 (a0 :: some v :: r9) (v :: st) A) := x_rg (op := o_aload 1 1) rfl rfl
theorem x_94_11  : exG TB d 94 11 L (.ref p :: st) A = kv (gf A p 105) d 94 14 L st A := x_bd (op := o_get 105) rfl rfl (fun _ => rfl)
theorem x_94_14  : exG TB d 94 14 L (v :: .ref p :: st) A = ck ((gf A p 124).isSome && okv 1 v) (exG TB d 94 17 L st (setf A p 124 v)) := x_gd (op := o_put 124 1) rfl rfl
theorem x_94_17  : exG TB d 94 17 (some v :: r9) st A = rg v (exG TB d 94 18 (some v :: r9) (v :: st) A) := x_rg (op := o_aload 0 1) rfl rfl
theorem x_94_18  : exG TB d 94 18 L st A = exG TB d 94 19 L (.null :: st) A := x_nx (op := o_push 1 .null) rfl rfl
theorem x_94_19  : exG TB d 94 19 L (v :: .ref p :: st) A = ck ((gf A p 123).isSome && okv 0 v) (exG TB d 94 22 L st (setf A p 123 v)) := x_gd (op := o_put 123 0) rfl rfl
theorem x_94_22  : exG TB d 94 22 (some v :: r9) st A = rg v (exG TB d 94 23 (some v :: r9) (v :: st) A) := x_rg (op := o_aload 0 1) rfl rfl
theorem x_94_23  : exG TB d 94 23 (a0 :: a1 :: some v :: r9) st A = rg v (exG TB d 94 24 (a0 :: a1 :: some v :: r9) (v :: st) A) := x_rg (op := o_aload 2 1) rfl rfl
theorem x_94_24  : exG TB d 94 24 L (v :: .ref p :: st) A = ck ((gf A p 122).isSome && okv 0 v) (exG TB d 94 27 L st (setf A p 122 v)) := x_gd (op := o_put 122 0) rfl rfl
theorem x_94_27  : exG TB d 94 27 L [] A = some (.inl none, A) := x_out (op := o_vret) rfl rfl
theorem e_95  : evG TB (d + 1) 95 [.ref p] A = exG TB d 95 0 [some (.ref p)] [] A := evG_eq TB d 95 _ A
theorem x_95_0  : exG TB d 95 0 (some v :: r9) st A = rg v (exG TB d 95 1 (some v :: r9) (v :: st) A) := x_rg (op := o_aload 0 1) rfl rfl
theorem x_95_1  : exG TB d 95 1 L [.ref p] A = kw (sel (gc A p) [(25, 93)]) [.ref p] d 95 4 L [] A := x_cvb (op := o_cv [(25, 93)] 0 3 false none) rfl rfl x_noh rfl
theorem x_95_4  : exG TB d 95 4 L (.ref p :: st) A = kv (gf A p 111) d 95 7 L st A := x_bd (op := o_get 111) rfl rfl (fun _ => rfl)
theorem x_95_7  : exG TB d 95 7 L [v] A = ck (okv 0 v) (some (.inl (some v), A)) := x_outg (op := o_ret 0) rfl rfl
theorem e_96  : evG TB (d + 1) 96 [.ref p, b1, b2] A = rg b1 (rg b2 (exG TB d 96 0 [some (.ref p), some (b1), some (b2)] [] A)) := by
  rw [evG_eq]
  show (bif (true && (isR b1 && (isR b2 && true))) then exG TB d 96 0 [some (.ref p), some (b1), some (b2)] [] A else none) = _
  unfold rg
  cases isR b1 <;> cases isR b2 <;> rfl
theorem x_96_0  : exG TB d 96 0 (some v :: r9) st A = rg v (exG TB d 96 1 (some v :: r9) (v :: st) A) := x_rg (op := o_aload 0 1) rfl rfl
theorem x_96_1  : exG TB d 96 1 (a0 :: some v :: r9) st A = rg v (exG TB d 96 2 (a0 :: some v :: r9) (v :: st) A) := x_rg (op := o_aload 1 1) rfl rfl
theorem x_96_2  : exG TB d 96 2 (a0 :: a1 :: some v :: r9) st A = rg v (exG TB d 96 3 (a0 :: a1 :: some v :: r9) (v :: st) A) := x_rg (op := o_aload 2 1) rfl rfl
theorem x_96_3  : exG TB d 96 3 L [b1, b0, .ref p] A = kc0 (evG TB d 94 [.ref p, b0, b1] A) d 96 6 L [] := x_c0 (op := o_ci 94 2) rfl rfl x_noh rfl
theorem x_96_6  : exG TB d 96 6 L [] A = some (.inl none, A) := x_out (op := o_vret) rfl rfl
theorem e_97 {j1 : Int32} : evG TB (d + 1) 97 [.ref p, .int j1, b2, b3, b4] A = rg b2 (rg b3 (rg b4 (exG TB d 97 0 [some (.ref p), some (.int j1), some (b2), some (b3), some (b4)] [] A))) := by
  rw [evG_eq]
  show (bif (true && (true && (isR b2 && (isR b3 && (isR b4 && true))))) then exG TB d 97 0 [some (.ref p), some (.int j1), some (b2), some (b3), some (b4)] [] A else none) = _
  unfold rg
  cases isR b2 <;> cases isR b3 <;> cases isR b4 <;> rfl
theorem x_97_0  : exG TB d 97 0 (some v :: r9) st A = rg v (exG TB d 97 1 (some v :: r9) (v :: st) A) := x_rg (op := o_aload 0 1) rfl rfl
theorem x_97_1  : exG TB d 97 1 L [.ref p] A = exG TB d 97 4 L [] A := x_nx (op := o_oi) rfl rfl
theorem x_97_4  : exG TB d 97 4 (some v :: r9) st A = rg v (exG TB d 97 5 (some v :: r9) (v :: st) A) := x_rg (op := o_aload 0 1) rfl rfl
theorem x_97_5  : exG TB d 97 5 (a0 :: some (.int i1) :: r9) st A = exG TB d 97 6 (a0 :: some (.int i1) :: r9) (.int i1 :: st) A := x_nx (op := o_iload 1 1) rfl rfl
theorem x_97_6  : exG TB d 97 6 L (v :: .ref p :: st) A = ck ((gf A p 143).isSome && okv 1 v) (exG TB d 97 9 L st (setf A p 143 v)) := x_gd (op := o_put 143 1) rfl rfl
theorem x_97_9  : exG TB d 97 9 (some v :: r9) st A = rg v (exG TB d 97 10 (some v :: r9) (v :: st) A) := x_rg (op := o_aload 0 1) rfl rfl
theorem x_97_10  : exG TB d 97 10 (a0 :: a1 :: some v :: r9) st A = rg v (exG TB d 97 11 (a0 :: a1 :: some v :: r9) (v :: st) A) := x_rg (op := o_aload 2 1) rfl rfl
theorem x_97_11  : exG TB d 97 11 L (v :: .ref p :: st) A = ck ((gf A p 144).isSome && okv 0 v) (exG TB d 97 14 L st (setf A p 144 v)) := x_gd (op := o_put 144 0) rfl rfl
theorem x_97_14  : exG TB d 97 14 (some v :: r9) st A = rg v (exG TB d 97 15 (some v :: r9) (v :: st) A) := x_rg (op := o_aload 0 1) rfl rfl
theorem x_97_15  : exG TB d 97 15 (a0 :: a1 :: a2 :: some v :: r9) st A = rg v (exG TB d 97 16 (a0 :: a1 :: a2 :: some v :: r9) (v :: st) A) := x_rg (op := o_aload 3 1) rfl rfl
theorem x_97_16  : exG TB d 97 16 L (v :: .ref p :: st) A = ck ((gf A p 145).isSome && okv 0 v) (exG TB d 97 19 L st (setf A p 145 v)) := x_gd (op := o_put 145 0) rfl rfl
theorem x_97_19  : exG TB d 97 19 (some v :: r9) st A = rg v (exG TB d 97 20 (some v :: r9) (v :: st) A) := x_rg (op := o_aload 0 1) rfl rfl
theorem x_97_20  : exG TB d 97 20 (a0 :: a1 :: a2 :: a3 :: some v :: r9) st A = rg v (exG TB d 97 22 (a0 :: a1 :: a2 :: a3 :: some v :: r9) (v :: st) A) := x_rg (op := o_aload 4 2) rfl rfl
theorem x_97_22  : exG TB d 97 22 L (v :: .ref p :: st) A = ck ((gf A p 146).isSome && okv 0 v) (exG TB d 97 25 L st (setf A p 146 v)) := x_gd (op := o_put 146 0) rfl rfl
theorem x_97_25  : exG TB d 97 25 L [] A = some (.inl none, A) := x_out (op := o_vret) rfl rfl
theorem e_98  : evG TB (d + 1) 98 [.ref p] A = exG TB d 98 0 [some (.ref p)] [] A := evG_eq TB d 98 _ A
theorem x_98_0  : exG TB d 98 0 (some v :: r9) st A = rg v (exG TB d 98 1 (some v :: r9) (v :: st) A) := x_rg (op := o_aload 0 1) rfl rfl
theorem x_98_1  : exG TB d 98 1 L (.ref p :: st) A = kv (gf A p 144) d 98 4 L st A := x_bd (op := o_get 144) rfl rfl (fun _ => rfl)
theorem x_98_4  : exG TB d 98 4 L [v] A = ck (okv 0 v) (some (.inl (some v), A)) := x_outg (op := o_ret 0) rfl rfl
theorem e_99  : evG TB (d + 1) 99 [.ref p] A = exG TB d 99 0 [some (.ref p)] [] A := evG_eq TB d 99 _ A
theorem x_99_0  : exG TB d 99 0 (some v :: r9) st A = rg v (exG TB d 99 1 (some v :: r9) (v :: st) A) := x_rg (op := o_aload 0 1) rfl rfl
theorem x_99_1  : exG TB d 99 1 L (.ref p :: st) A = kv (gf A p 145) d 99 4 L st A := x_bd (op := o_get 145) rfl rfl (fun _ => rfl)
theorem x_99_4  : exG TB d 99 4 L [v] A = ck (okv 0 v) (some (.inl (some v), A)) := x_outg (op := o_ret 0) rfl rfl
theorem e_100 {j3 : Int32} {j4 : Int32} : evG TB (d + 1) 100 [.ref p, b1, b2, .int j3, .int j4] A = rg b1 (rg b2 (exG TB d 100 0 [some (.ref p), some (b1), some (b2), some (.int j3), some (.int j4)] [] A)) := by
  rw [evG_eq]
  show (bif (true && (isR b1 && (isR b2 && (true && (true && true))))) then exG TB d 100 0 [some (.ref p), some (b1), some (b2), some (.int j3), some (.int j4)] [] A else none) = _
  unfold rg
  cases isR b1 <;> cases isR b2 <;> rfl
theorem x_100_0  : exG TB d 100 0 (some v :: r9) st A = rg v (exG TB d 100 1 (some v :: r9) (v :: st) A) := x_rg (op := o_aload 0 1) rfl rfl
theorem x_100_1  : exG TB d 100 1 (a0 :: some v :: r9) st A = rg v (exG TB d 100 2 (a0 :: some v :: r9) (v :: st) A) := x_rg (op := o_aload 1 1) rfl rfl
theorem x_100_2  : exG TB d 100 2 (a0 :: a1 :: some v :: r9) st A = rg v (exG TB d 100 3 (a0 :: a1 :: some v :: r9) (v :: st) A) := x_rg (op := o_aload 2 1) rfl rfl
theorem x_100_3  : exG TB d 100 3 (a0 :: a1 :: a2 :: some (.int i1) :: r9) st A = exG TB d 100 4 (a0 :: a1 :: a2 :: some (.int i1) :: r9) (.int i1 :: st) A := x_nx (op := o_iload 3 1) rfl rfl
theorem x_100_4  : exG TB d 100 4 (a0 :: a1 :: a2 :: a3 :: some (.int i1) :: r9) st A = exG TB d 100 6 (a0 :: a1 :: a2 :: a3 :: some (.int i1) :: r9) (.int i1 :: st) A := x_nx (op := o_iload 4 2) rfl rfl
theorem x_100_6  : exG TB d 100 6 L [b3, b2, b1, b0, .ref p] A = kc0 (evG TB d 82 [.ref p, b0, b1, b2, b3] A) d 100 9 L [] := x_c0 (op := o_ci 82 4) rfl rfl x_noh rfl
theorem x_100_9  : exG TB d 100 9 L [] A = some (.inl none, A) := x_out (op := o_vret) rfl rfl
theorem e_101  : evG TB (d + 1) 101 [.ref p] A = exG TB d 101 0 [some (.ref p)] [] A := evG_eq TB d 101 _ A
theorem x_101_0  : exG TB d 101 0 (some v :: r9) st A = rg v (exG TB d 101 1 (some v :: r9) (v :: st) A) := x_rg (op := o_aload 0 1) rfl rfl
theorem x_101_1  : exG TB d 101 1 L [.ref p] A = kc0 (evG TB d 0 [.ref p] A) d 101 4 L [] := x_c0 (op := o_ci 0 0) rfl rfl x_noh rfl
theorem x_101_4  : exG TB d 101 4 L [] A = some (.inl none, A) := x_out (op := o_vret) rfl rfl
theorem e_102  : evG TB (d + 1) 102 [.ref p] A = exG TB d 102 0 [some (.ref p)] [] A := evG_eq TB d 102 _ A
theorem x_102_0  : exG TB d 102 0 L st A = exG TB d 102 3 L (.ref (nx A) :: st) (newo A 24 5 dv24) := x_nx (op := o_new 24 5 dv24) rfl rfl
theorem x_102_3  : exG TB d 102 3 L (v :: st) A = ck (c1 v) (exG TB d 102 4 L (v :: v :: st) A) := x_gd (op := o_dup) rfl rfl
theorem x_102_4  : exG TB d 102 4 (some v :: r9) st A = rg v (exG TB d 102 5 (some v :: r9) (v :: st) A) := x_rg (op := o_aload 0 1) rfl rfl
theorem x_102_5  : exG TB d 102 5 L (.ref p :: st) A = kv (gf A p 147) d 102 8 L st A := x_bd (op := o_get 147) rfl rfl (fun _ => rfl)
theorem x_102_8  : exG TB d 102 8 L [b0, .ref p, w0] A = kc0 (evG TB d 91 [.ref p, b0] A) d 102 11 L [w0] := x_c0 (op := o_ci 91 1) rfl rfl x_noh rfl
theorem x_102_11  : exG TB d 102 11 L [v] A = ck (okv 0 v) (some (.inl (some v), A)) := x_outg (op := o_ret 0) rfl rfl
theorem e_103  : evG TB (d + 1) 103 [.ref p, b1] A = rg b1 (exG TB d 103 0 [some (.ref p), some (b1)] [] A) := by
  rw [evG_eq]
  show (bif (true && (isR b1 && true)) then exG TB d 103 0 [some (.ref p), some (b1)] [] A else none) = _
  unfold rg
  cases isR b1 <;> rfl
theorem x_103_0  : exG TB d 103 0 (some v :: r9) st A = rg v (exG TB d 103 1 (some v :: r9) (v :: st) A) := x_rg (op := o_aload 0 1) rfl rfl
theorem x_103_1  : exG TB d 103 1 (a0 :: some v :: r9) st A = rg v (exG TB d 103 2 (a0 :: some v :: r9) (v :: st) A) := x_rg (op := o_aload 1 1) rfl rfl
theorem x_103_2  : exG TB d 103 2 L (v :: .ref p :: st) A = ck ((gf A p 147).isSome && okv 0 v) (exG TB d 103 5 L st (setf A p 147 v)) := x_gd (op := o_put 147 0) rfl rfl
theorem x_103_5  : exG TB d 103 5 (some v :: r9) st A = rg v (exG TB d 103 6 (some v :: r9) (v :: st) A) := x_rg (op := o_aload 0 1) rfl rfl
theorem x_103_6  : exG TB d 103 6 L [.ref p] A = kc0 (evG TB d 101 [.ref p] A) d 103 9 L [] := x_c0 (op := o_ci 101 0) rfl rfl x_noh rfl
theorem x_103_9  : exG TB d 103 9 L [] A = some (.inl none, A) := x_out (op := o_vret) rfl rfl
theorem e_104 {j1 : Int32} : evG TB (d + 1) 104 [.ref p, .int j1] A = exG TB d 104 0 [some (.ref p), some (.int j1)] [] A := evG_eq TB d 104 _ A
theorem x_104_0  : exG TB d 104 0 (some v :: r9) st A = rg v (exG TB d 104 1 (some v :: r9) (v :: st) A) := x_rg (op := o_aload 0 1) rfl rfl
theorem x_104_1  : exG TB d 104 1 L [.ref p] A = exG TB d 104 4 L [] A := x_nx (op := o_oi) rfl rfl
theorem x_104_4  : exG TB d 104 4 L st A = exG TB d 104 7 L (.int (nI 1) :: st) A := x_nx (op := o_push 3 (.int 1)) rfl rfl
theorem x_104_7  : exG TB d 104 7 L (.int i1 :: st) A = if i1 = nI 0 then exG TB d 104 25 L st A else exG TB d 104 10 L st A := x_if (op := o_if (fun x => decide (x = 0)) 25) rfl rfl rfl
theorem x_104_10  : exG TB d 104 10 (some v :: r9) st A = rg v (exG TB d 104 11 (some v :: r9) (v :: st) A) := x_rg (op := o_aload 0 1) rfl rfl
theorem x_104_11  : exG TB d 104 11 (a0 :: some (.int i1) :: r9) st A = exG TB d 104 12 (a0 :: some (.int i1) :: r9) (.int i1 :: st) A := x_nx (op := o_iload 1 1) rfl rfl
theorem x_104_12  : exG TB d 104 12 L (.int i1 :: st) A = ck (okn i1) (exG TB d 104 14 L (.ref (nx A) :: st) (newa A (zar 1 i1.toNatClampNeg))) := x_gd (op := o_newa 1 2) rfl rfl
theorem x_104_14  : exG TB d 104 14 L (v :: .ref p :: st) A = ck ((gf A p 21).isSome && okv 0 v) (exG TB d 104 17 L st (setf A p 21 v)) := x_gd (op := o_put 21 0) rfl rfl
theorem x_104_17  : exG TB d 104 17 (some v :: r9) st A = rg v (exG TB d 104 18 (some v :: r9) (v :: st) A) := x_rg (op := o_aload 0 1) rfl rfl
theorem x_104_18  : exG TB d 104 18 L st A = exG TB d 104 19 L (.int (nI 0) :: st) A := x_nx (op := o_push 1 (.int 0)) rfl rfl
theorem x_104_19  : exG TB d 104 19 L (v :: .ref p :: st) A = ck ((gf A p 22).isSome && okv 6 v) (exG TB d 104 22 L st (setf A p 22 v)) := x_gd (op := o_put 22 6) rfl rfl
theorem x_104_22  : exG TB d 104 22 L st A = exG TB d 104 38 L st A := x_nx (op := o_goto 38) rfl rfl
theorem x_104_25  : exG TB d 104 25 (some v :: r9) st A = rg v (exG TB d 104 26 (some v :: r9) (v :: st) A) := x_rg (op := o_aload 0 1) rfl rfl
theorem x_104_26  : exG TB d 104 26 (a0 :: some (.int i1) :: r9) st A = exG TB d 104 27 (a0 :: some (.int i1) :: r9) (.int i1 :: st) A := x_nx (op := o_iload 1 1) rfl rfl
theorem x_104_30  : exG TB d 104 30 L (v :: .ref p :: st) A = ck ((gf A p 21).isSome && okv 0 v) (exG TB d 104 33 L st (setf A p 21 v)) := x_gd (op := o_put 21 0) rfl rfl
theorem x_104_33  : exG TB d 104 33 (some v :: r9) st A = rg v (exG TB d 104 34 (some v :: r9) (v :: st) A) := x_rg (op := o_aload 0 1) rfl rfl
theorem x_104_34  : exG TB d 104 34 L st A = exG TB d 104 35 L (.int (nI 1) :: st) A := x_nx (op := o_push 1 (.int 1)) rfl rfl
theorem x_104_35  : exG TB d 104 35 L (v :: .ref p :: st) A = ck ((gf A p 22).isSome && okv 6 v) (exG TB d 104 38 L st (setf A p 22 v)) := x_gd (op := o_put 22 6) rfl rfl
theorem x_104_38  : exG TB d 104 38 L [] A = some (.inl none, A) := x_out (op := o_vret) rfl rfl
theorem e_105 {j1 : Int32} : evG TB (d + 1) 105 [.ref p, .int j1] A = exG TB d 105 0 [some (.ref p), some (.int j1), none] [] A := evG_eq TB d 105 _ A
theorem x_105_0  : exG TB d 105 0 (some v :: r9) st A = rg v (exG TB d 105 1 (some v :: r9) (v :: st) A) := x_rg (op := o_aload 0 1) rfl rfl
theorem x_105_1  : exG TB d 105 1 L (.ref p :: st) A = kv (gf A p 21) d 105 4 L st A := x_bd (op := o_get 21) rfl rfl (fun _ => rfl)
theorem x_105_4  : exG TB d 105 4 L (.ref p :: st) A = ki (aln (ga A p)) d 105 5 L st A := x_bd (op := o_alen) rfl rfl (fun _ => rfl)
theorem x_105_5  : exG TB d 105 5 (some v :: r9) st A = rg v (exG TB d 105 6 (some v :: r9) (v :: st) A) := x_rg (op := o_aload 0 1) rfl rfl
theorem x_105_6  : exG TB d 105 6 L (.ref p :: st) A = kv (gf A p 22) d 105 9 L st A := x_bd (op := o_get 22) rfl rfl (fun _ => rfl)
theorem x_105_9  : exG TB d 105 9 L (.int i2 :: .int i1 :: st) A = exG TB d 105 10 L (.int (i1 >>> (i2 &&& 31)) :: st) A := x_nx (op := o_iop (fun x y => x >>> (y &&& 31))) rfl rfl
theorem x_105_10  : exG TB d 105 10 (a0 :: a1 :: a2 :: r9) (.int i1 :: st) A = exG TB d 105 11 (a0 :: a1 :: some (.int i1) :: r9) st A := x_nx (op := o_istore 2 1) rfl rfl
theorem x_105_11  : exG TB d 105 11 (a0 :: some (.int i1) :: r9) st A = exG TB d 105 12 (a0 :: some (.int i1) :: r9) (.int i1 :: st) A := x_nx (op := o_iload 1 1) rfl rfl
theorem x_105_12  : exG TB d 105 12 (a0 :: a1 :: some (.int i1) :: r9) st A = exG TB d 105 13 (a0 :: a1 :: some (.int i1) :: r9) (.int i1 :: st) A := x_nx (op := o_iload 2 1) rfl rfl
theorem x_105_13  : exG TB d 105 13 L (.int i2 :: .int i1 :: st) A = exG TB d 105 14 L (.int (i1 - i2) :: st) A := x_nx (op := o_iop (fun x y => x - y)) rfl rfl
theorem x_105_14  : exG TB d 105 14 L (.int i1 :: st) A = if i1 ≤ nI 0 then exG TB d 105 38 L st A else exG TB d 105 17 L st A := x_if (op := o_if (fun x => decide (x ≤ 0)) 38) rfl rfl rfl
theorem x_105_17  : exG TB d 105 17 (some v :: r9) st A = rg v (exG TB d 105 18 (some v :: r9) (v :: st) A) := x_rg (op := o_aload 0 1) rfl rfl
theorem x_105_18  : exG TB d 105 18 (some v :: r9) st A = rg v (exG TB d 105 19 (some v :: r9) (v :: st) A) := x_rg (op := o_aload 0 1) rfl rfl
theorem x_105_19  : exG TB d 105 19 L (.ref p :: st) A = kv (gf A p 21) d 105 22 L st A := x_bd (op := o_get 21) rfl rfl (fun _ => rfl)
theorem x_105_22  : exG TB d 105 22 (some v :: r9) st A = rg v (exG TB d 105 23 (some v :: r9) (v :: st) A) := x_rg (op := o_aload 0 1) rfl rfl
theorem x_105_23  : exG TB d 105 23 (a0 :: some (.int i1) :: r9) st A = exG TB d 105 24 (a0 :: some (.int i1) :: r9) (.int i1 :: st) A := x_nx (op := o_iload 1 1) rfl rfl
theorem x_105_24  : exG TB d 105 24 L [b0, .ref p, w0, w1] A = kw (sel (gc A p) [(4, 106)]) [.ref p, b0] d 105 27 L [w0, w1] A := x_cvb (op := o_cv [(4, 106)] 1 3 false none) rfl rfl x_noh rfl
theorem x_105_27  : exG TB d 105 27 (some v :: r9) st A = rg v (exG TB d 105 28 (some v :: r9) (v :: st) A) := x_rg (op := o_aload 0 1) rfl rfl
theorem x_105_28  : exG TB d 105 28 L (.ref p :: st) A = kv (gf A p 22) d 105 31 L st A := x_bd (op := o_get 22) rfl rfl (fun _ => rfl)
theorem x_105_31  : exG TB d 105 31 L (.int i2 :: .int i1 :: st) A = exG TB d 105 32 L (.int (i1 <<< (i2 &&& 31)) :: st) A := x_nx (op := o_iop (fun x y => x <<< (y &&& 31))) rfl rfl
theorem x_105_32  : exG TB d 105 32 L [b1, b0, w0] A = kc (evG TB d 9 [b0, b1] A) d 105 35 L [w0] := x_cv (op := o_cs 9 2 false none) rfl rfl x_noh rfl
theorem x_105_35  : exG TB d 105 35 L (v :: .ref p :: st) A = ck ((gf A p 21).isSome && okv 0 v) (exG TB d 105 38 L st (setf A p 21 v)) := x_gd (op := o_put 21 0) rfl rfl
theorem x_105_38  : exG TB d 105 38 L [] A = some (.inl none, A) := x_out (op := o_vret) rfl rfl
theorem e_106 {j1 : Int32} : evG TB (d + 1) 106 [.ref p, .int j1] A = exG TB d 106 0 [some (.ref p), some (.int j1), none, none, none, none] [] A := evG_eq TB d 106 _ A
theorem x_106_0  : exG TB d 106 0 (some v :: r9) st A = rg v (exG TB d 106 1 (some v :: r9) (v :: st) A) := x_rg (op := o_aload 0 1) rfl rfl
theorem x_106_1  : exG TB d 106 1 L (.ref p :: st) A = kv (gf A p 21) d 106 4 L st A := x_bd (op := o_get 21) rfl rfl (fun _ => rfl)
theorem x_106_4  : exG TB d 106 4 L (.ref p :: st) A = ki (aln (ga A p)) d 106 5 L st A := x_bd (op := o_alen) rfl rfl (fun _ => rfl)
theorem x_106_5  : exG TB d 106 5 (a0 :: a1 :: a2 :: r9) (.int i1 :: st) A = exG TB d 106 6 (a0 :: a1 :: some (.int i1) :: r9) st A := x_nx (op := o_istore 2 1) rfl rfl
theorem x_106_6  : exG TB d 106 6 (a0 :: some (.int i1) :: r9) st A = exG TB d 106 7 (a0 :: some (.int i1) :: r9) (.int i1 :: st) A := x_nx (op := o_iload 1 1) rfl rfl
theorem x_106_7  : exG TB d 106 7 (some v :: r9) st A = rg v (exG TB d 106 8 (some v :: r9) (v :: st) A) := x_rg (op := o_aload 0 1) rfl rfl
theorem x_106_8  : exG TB d 106 8 L (.ref p :: st) A = kv (gf A p 22) d 106 11 L st A := x_bd (op := o_get 22) rfl rfl (fun _ => rfl)
theorem x_106_11  : exG TB d 106 11 L (.int i2 :: .int i1 :: st) A = exG TB d 106 12 L (.int (i1 <<< (i2 &&& 31)) :: st) A := x_nx (op := o_iop (fun x y => x <<< (y &&& 31))) rfl rfl
theorem x_106_12  : exG TB d 106 12 (a0 :: a1 :: a2 :: a3 :: r9) (.int i1 :: st) A = exG TB d 106 13 (a0 :: a1 :: a2 :: some (.int i1) :: r9) st A := x_nx (op := o_istore 3 1) rfl rfl
theorem x_106_13  : exG TB d 106 13 (a0 :: a1 :: a2 :: some (.int i1) :: r9) st A = exG TB d 106 14 (a0 :: a1 :: a2 :: some (.int i1) :: r9) (.int i1 :: st) A := x_nx (op := o_iload 3 1) rfl rfl
theorem x_106_14  : exG TB d 106 14 (a0 :: a1 :: some (.int i1) :: r9) st A = exG TB d 106 15 (a0 :: a1 :: some (.int i1) :: r9) (.int i1 :: st) A := x_nx (op := o_iload 2 1) rfl rfl
theorem x_106_15  : exG TB d 106 15 L (.int i2 :: .int i1 :: st) A = exG TB d 106 16 L (.int (i1 - i2) :: st) A := x_nx (op := o_iop (fun x y => x - y)) rfl rfl
theorem x_106_16  : exG TB d 106 16 (a0 :: a1 :: a2 :: a3 :: a4 :: r9) (.int i1 :: st) A = exG TB d 106 18 (a0 :: a1 :: a2 :: a3 :: some (.int i1) :: r9) st A := x_nx (op := o_istore 4 2) rfl rfl
theorem x_106_18  : exG TB d 106 18 (a0 :: a1 :: some (.int i1) :: r9) st A = exG TB d 106 19 (a0 :: a1 :: some (.int i1) :: r9) (.int i1 :: st) A := x_nx (op := o_iload 2 1) rfl rfl
theorem x_106_19  : exG TB d 106 19 (a0 :: a1 :: a2 :: a3 :: some (.int i1) :: r9) st A = exG TB d 106 21 (a0 :: a1 :: a2 :: a3 :: some (.int i1) :: r9) (.int i1 :: st) A := x_nx (op := o_iload 4 2) rfl rfl
theorem x_106_21  : exG TB d 106 21 (a0 :: a1 :: some (.int i1) :: r9) st A = exG TB d 106 22 (a0 :: a1 :: some (.int i1) :: r9) (.int i1 :: st) A := x_nx (op := o_iload 2 1) rfl rfl
theorem x_106_22  : exG TB d 106 22 L st A = exG TB d 106 23 L (.int (nI 2) :: st) A := x_nx (op := o_push 1 (.int 2)) rfl rfl
theorem x_106_23  : exG TB d 106 23 (some v :: r9) st A = rg v (exG TB d 106 24 (some v :: r9) (v :: st) A) := x_rg (op := o_aload 0 1) rfl rfl
theorem x_106_24  : exG TB d 106 24 L (.ref p :: st) A = kv (gf A p 22) d 106 27 L st A := x_bd (op := o_get 22) rfl rfl (fun _ => rfl)
theorem x_106_27  : exG TB d 106 27 L (.int i2 :: .int i1 :: st) A = exG TB d 106 28 L (.int (i1 <<< (i2 &&& 31)) :: st) A := x_nx (op := o_iop (fun x y => x <<< (y &&& 31))) rfl rfl
theorem x_106_28  : exG TB d 106 28 L (.int i2 :: .int i1 :: st) A = exG TB d 106 29 L (.int (i1 + i2) :: st) A := x_nx (op := o_iop (fun x y => x + y)) rfl rfl
theorem x_106_29  : exG TB d 106 29 L [b2, b1, b0] A = kc (evG TB d 2 [b0, b1, b2] A) d 106 32 L [] := x_cv (op := o_cs 2 3 false none) rfl rfl x_noh rfl
theorem x_106_32  : exG TB d 106 32 (a0 :: a1 :: a2 :: a3 :: a4 :: a5 :: r9) (.int i1 :: st) A = exG TB d 106 34 (a0 :: a1 :: a2 :: a3 :: a4 :: some (.int i1) :: r9) st A := x_nx (op := o_istore 5 2) rfl rfl
theorem x_106_34  : exG TB d 106 34 (a0 :: a1 :: a2 :: a3 :: a4 :: some (.int i1) :: r9) st A = exG TB d 106 36 (a0 :: a1 :: a2 :: a3 :: a4 :: some (.int i1) :: r9) (.int i1 :: st) A := x_nx (op := o_iload 5 2) rfl rfl
theorem x_106_36  : exG TB d 106 36 L st A = exG TB d 106 38 L (.int (nI 2147483647) :: st) A := x_nx (op := o_push 2 (.int 2147483647)) rfl rfl
theorem x_106_38  : exG TB d 106 38 L (.int i2 :: .int i1 :: st) A = if ¬ i1 = i2 then exG TB d 106 51 L st A else exG TB d 106 41 L st A := x_if (op := o_icmp (fun x y => decide (¬ x = y)) 51) rfl rfl rfl
theorem x_106_44  : exG TB d 106 44 L (v :: st) A = ck (c1 v) (exG TB d 106 45 L (v :: v :: st) A) := x_gd (op := o_dup) rfl rfl
theorem x_106_51  : exG TB d 106 51 (a0 :: a1 :: a2 :: a3 :: a4 :: some (.int i1) :: r9) st A = exG TB d 106 53 (a0 :: a1 :: a2 :: a3 :: a4 :: some (.int i1) :: r9) (.int i1 :: st) A := x_nx (op := o_iload 5 2) rfl rfl
theorem x_106_53  : exG TB d 106 53 (some v :: r9) st A = rg v (exG TB d 106 54 (some v :: r9) (v :: st) A) := x_rg (op := o_aload 0 1) rfl rfl
theorem x_106_54  : exG TB d 106 54 L (.ref p :: st) A = kv (gf A p 22) d 106 57 L st A := x_bd (op := o_get 22) rfl rfl (fun _ => rfl)
theorem x_106_57  : exG TB d 106 57 L (.int i2 :: .int i1 :: st) A = exG TB d 106 58 L (.int (i1 >>> (i2 &&& 31)) :: st) A := x_nx (op := o_iop (fun x y => x >>> (y &&& 31))) rfl rfl
theorem x_106_58  : exG TB d 106 58 L [v] A = ck (okv 1 v) (some (.inl (some v), A)) := x_outg (op := o_ret 1) rfl rfl
theorem e_107  : evG TB (d + 1) 107 [.ref p] A = exG TB d 107 0 [some (.ref p)] [] A := evG_eq TB d 107 _ A
theorem x_107_0  : exG TB d 107 0 L st A = exG TB d 107 3 L (.int (nI 1) :: st) A := x_nx (op := o_push 3 (.int 1)) rfl rfl
theorem x_107_3  : exG TB d 107 3 L (.int i1 :: st) A = if i1 = nI 0 then exG TB d 107 17 L st A else exG TB d 107 6 L st A := x_if (op := o_if (fun x => decide (x = 0)) 17) rfl rfl rfl
theorem x_107_6  : exG TB d 107 6 (some v :: r9) st A = rg v (exG TB d 107 7 (some v :: r9) (v :: st) A) := x_rg (op := o_aload 0 1) rfl rfl
theorem x_107_7  : exG TB d 107 7 L (.ref p :: st) A = kv (gf A p 22) d 107 10 L st A := x_bd (op := o_get 22) rfl rfl (fun _ => rfl)
theorem x_107_10  : exG TB d 107 10 L (.int i1 :: st) A = if ¬ i1 = nI 0 then exG TB d 107 17 L st A else exG TB d 107 13 L st A := x_if (op := o_if (fun x => decide (¬ x = 0)) 17) rfl rfl rfl
theorem x_107_13  : exG TB d 107 13 L st A = exG TB d 107 14 L (.int (nI 1) :: st) A := x_nx (op := o_push 1 (.int 1)) rfl rfl
theorem x_107_14  : exG TB d 107 14 L st A = exG TB d 107 18 L st A := x_nx (op := o_goto 18) rfl rfl
theorem x_107_17  : exG TB d 107 17 L st A = exG TB d 107 18 L (.int (nI 0) :: st) A := x_nx (op := o_push 1 (.int 0)) rfl rfl
theorem x_107_18  : exG TB d 107 18 L [v] A = ck (okv 5 v) (some (.inl (some v), A)) := x_outg (op := o_ret 5) rfl rfl
theorem e_108  : evG TB (d + 1) 108 [.ref p] A = exG TB d 108 0 [some (.ref p)] [] A := evG_eq TB d 108 _ A
theorem x_108_0  : exG TB d 108 0 (some v :: r9) st A = rg v (exG TB d 108 1 (some v :: r9) (v :: st) A) := x_rg (op := o_aload 0 1) rfl rfl
theorem x_108_1  : exG TB d 108 1 L (.ref p :: st) A = kv (gf A p 21) d 108 4 L st A := x_bd (op := o_get 21) rfl rfl (fun _ => rfl)
theorem x_108_4  : exG TB d 108 4 L [v] A = ck (okv 0 v) (some (.inl (some v), A)) := x_outg (op := o_ret 0) rfl rfl
theorem e_109  : evG TB (d + 1) 109 [.ref p] A = exG TB d 109 0 [some (.ref p)] [] A := evG_eq TB d 109 _ A
theorem x_109_0  : exG TB d 109 0 (some v :: r9) st A = rg v (exG TB d 109 1 (some v :: r9) (v :: st) A) := x_rg (op := o_aload 0 1) rfl rfl
theorem x_109_1  : exG TB d 109 1 L (.ref p :: st) A = kv (gf A p 24) d 109 4 L st A := x_bd (op := o_get 24) rfl rfl (fun _ => rfl)
theorem x_109_4  : exG TB d 109 4 L [v] A = ck (okv 1 v) (some (.inl (some v), A)) := x_outg (op := o_ret 1) rfl rfl
theorem e_110 {j1 : Int32} : evG TB (d + 1) 110 [.ref p, .int j1] A = exG TB d 110 0 [some (.ref p), some (.int j1)] [] A := evG_eq TB d 110 _ A
theorem x_110_0  : exG TB d 110 0 (some v :: r9) st A = rg v (exG TB d 110 1 (some v :: r9) (v :: st) A) := x_rg (op := o_aload 0 1) rfl rfl
theorem x_110_1  : exG TB d 110 1 (some v :: r9) st A = rg v (exG TB d 110 2 (some v :: r9) (v :: st) A) := x_rg (op := o_aload 0 1) rfl rfl
theorem x_110_2  : exG TB d 110 2 L (.ref p :: st) A = kv (gf A p 24) d 110 5 L st A := x_bd (op := o_get 24) rfl rfl (fun _ => rfl)
theorem x_110_5  : exG TB d 110 5 L st A = exG TB d 110 6 L (.int (nI 1) :: st) A := x_nx (op := o_push 1 (.int 1)) rfl rfl
theorem x_110_6  : exG TB d 110 6 L (.int i2 :: .int i1 :: st) A = exG TB d 110 7 L (.int (i1 + i2) :: st) A := x_nx (op := o_iop (fun x y => x + y)) rfl rfl
theorem x_110_7  : exG TB d 110 7 L [b0, .ref p] A = kw0 (sel (gc A p) [(4, 105)]) [.ref p, b0] d 110 10 L [] A := x_c0b (op := o_cv [(4, 105)] 1 3 true none) rfl rfl x_noh rfl
theorem x_110_10  : exG TB d 110 10 (some v :: r9) st A = rg v (exG TB d 110 11 (some v :: r9) (v :: st) A) := x_rg (op := o_aload 0 1) rfl rfl
theorem x_110_11  : exG TB d 110 11 L [.ref p] A = kw (sel (gc A p) [(4, 107)]) [.ref p] d 110 14 L [] A := x_cvb (op := o_cv [(4, 107)] 0 3 false none) rfl rfl x_noh rfl
theorem x_110_14  : exG TB d 110 14 L (.int i1 :: st) A = if i1 = nI 0 then exG TB d 110 45 L st A else exG TB d 110 17 L st A := x_if (op := o_if (fun x => decide (x = 0)) 45) rfl rfl rfl
theorem x_110_17  : exG TB d 110 17 (a0 :: some (.int i1) :: r9) st A = exG TB d 110 18 (a0 :: some (.int i1) :: r9) (.int i1 :: st) A := x_nx (op := o_iload 1 1) rfl rfl
theorem x_110_18  : exG TB d 110 18 L [b0] A = kc (evG TB d 18 [b0] A) d 110 21 L [] := x_cv (op := o_cs 18 1 false none) rfl rfl x_noh rfl
theorem x_110_21  : exG TB d 110 21 L (.int i1 :: st) A = if i1 = nI 0 then exG TB d 110 45 L st A else exG TB d 110 24 L st A := x_if (op := o_if (fun x => decide (x = 0)) 45) rfl rfl rfl
theorem x_110_24  : exG TB d 110 24 (some v :: r9) st A = rg v (exG TB d 110 25 (some v :: r9) (v :: st) A) := x_rg (op := o_aload 0 1) rfl rfl
theorem x_110_25  : exG TB d 110 25 L (.ref p :: st) A = kv (gf A p 21) d 110 28 L st A := x_bd (op := o_get 21) rfl rfl (fun _ => rfl)
theorem x_110_28  : exG TB d 110 28 (some v :: r9) st A = rg v (exG TB d 110 29 (some v :: r9) (v :: st) A) := x_rg (op := o_aload 0 1) rfl rfl
theorem x_110_29  : exG TB d 110 29 L (v :: st) A = ck (c1 v) (exG TB d 110 30 L (v :: v :: st) A) := x_gd (op := o_dup) rfl rfl
theorem x_110_30  : exG TB d 110 30 L (.ref p :: st) A = kv (gf A p 24) d 110 33 L st A := x_bd (op := o_get 24) rfl rfl (fun _ => rfl)
theorem x_110_33  : exG TB d 110 33 L (v :: v2 :: st) A = ck (c1 v && c1 v2) (exG TB d 110 34 L (v :: v2 :: v :: st) A) := x_gd (op := o_dupx1) rfl rfl
theorem x_110_34  : exG TB d 110 34 L st A = exG TB d 110 35 L (.int (nI 1) :: st) A := x_nx (op := o_push 1 (.int 1)) rfl rfl
theorem x_110_35  : exG TB d 110 35 L (.int i2 :: .int i1 :: st) A = exG TB d 110 36 L (.int (i1 + i2) :: st) A := x_nx (op := o_iop (fun x y => x + y)) rfl rfl
theorem x_110_36  : exG TB d 110 36 L (v :: .ref p :: st) A = ck ((gf A p 24).isSome && okv 1 v) (exG TB d 110 39 L st (setf A p 24 v)) := x_gd (op := o_put 24 1) rfl rfl
theorem x_110_39  : exG TB d 110 39 (a0 :: some (.int i1) :: r9) st A = exG TB d 110 40 (a0 :: some (.int i1) :: r9) (.int i1 :: st) A := x_nx (op := o_iload 1 1) rfl rfl
theorem x_110_40  : exG TB d 110 40 L (.int i1 :: st) A = exG TB d 110 41 L (.int (i1.toInt8.toInt32) :: st) A := x_nx (op := o_ii (fun x => x.toInt8.toInt32)) rfl rfl
theorem x_110_41  : exG TB d 110 41 L (.int i2 :: .int i1 :: .ref p :: st) A = ka (wrI 1 (ga A p) i1 i2) p d 110 42 L st A := x_bd (op := o_wrI 1) rfl rfl (fun _ => rfl)
theorem x_110_42  : exG TB d 110 42 L st A = exG TB d 110 75 L st A := x_nx (op := o_goto 75) rfl rfl
theorem x_110_45  : exG TB d 110 45 (some v :: r9) st A = rg v (exG TB d 110 46 (some v :: r9) (v :: st) A) := x_rg (op := o_aload 0 1) rfl rfl
theorem x_110_46  : exG TB d 110 46 L [.ref p] A = kw (sel (gc A p) [(4, 107)]) [.ref p] d 110 49 L [] A := x_cvb (op := o_cv [(4, 107)] 0 3 false none) rfl rfl x_noh rfl
theorem x_110_49  : exG TB d 110 49 L (.int i1 :: st) A = if i1 = nI 0 then exG TB d 110 56 L st A else exG TB d 110 52 L st A := x_if (op := o_if (fun x => decide (x = 0)) 56) rfl rfl rfl
theorem x_110_52  : exG TB d 110 52 (some v :: r9) st A = rg v (exG TB d 110 53 (some v :: r9) (v :: st) A) := x_rg (op := o_aload 0 1) rfl rfl
theorem x_110_56  : exG TB d 110 56 (some v :: r9) st A = rg v (exG TB d 110 57 (some v :: r9) (v :: st) A) := x_rg (op := o_aload 0 1) rfl rfl
theorem x_110_57  : exG TB d 110 57 L (.ref p :: st) A = kv (gf A p 21) d 110 60 L st A := x_bd (op := o_get 21) rfl rfl (fun _ => rfl)
theorem x_110_60  : exG TB d 110 60 (some v :: r9) st A = rg v (exG TB d 110 61 (some v :: r9) (v :: st) A) := x_rg (op := o_aload 0 1) rfl rfl
theorem x_110_61  : exG TB d 110 61 L (v :: st) A = ck (c1 v) (exG TB d 110 62 L (v :: v :: st) A) := x_gd (op := o_dup) rfl rfl
theorem x_110_62  : exG TB d 110 62 L (.ref p :: st) A = kv (gf A p 24) d 110 65 L st A := x_bd (op := o_get 24) rfl rfl (fun _ => rfl)
theorem x_110_65  : exG TB d 110 65 L (v :: v2 :: st) A = ck (c1 v && c1 v2) (exG TB d 110 66 L (v :: v2 :: v :: st) A) := x_gd (op := o_dupx1) rfl rfl
theorem x_110_66  : exG TB d 110 66 L st A = exG TB d 110 67 L (.int (nI 1) :: st) A := x_nx (op := o_push 1 (.int 1)) rfl rfl
theorem x_110_67  : exG TB d 110 67 L (.int i2 :: .int i1 :: st) A = exG TB d 110 68 L (.int (i1 + i2) :: st) A := x_nx (op := o_iop (fun x y => x + y)) rfl rfl
theorem x_110_68  : exG TB d 110 68 L (v :: .ref p :: st) A = ck ((gf A p 24).isSome && okv 1 v) (exG TB d 110 71 L st (setf A p 24 v)) := x_gd (op := o_put 24 1) rfl rfl
theorem x_110_71  : exG TB d 110 71 (a0 :: some (.int i1) :: r9) st A = exG TB d 110 72 (a0 :: some (.int i1) :: r9) (.int i1 :: st) A := x_nx (op := o_iload 1 1) rfl rfl
theorem x_110_75  : exG TB d 110 75 (some v :: r9) st A = rg v (exG TB d 110 76 (some v :: r9) (v :: st) A) := x_rg (op := o_aload 0 1) rfl rfl
theorem x_110_76  : exG TB d 110 76 L [v] A = ck (okv 0 v) (some (.inl (some v), A)) := x_outg (op := o_ret 0) rfl rfl
theorem e_111  : evG TB (d + 1) 111 [.ref p] A = exG TB d 111 0 [some (.ref p)] [] A := evG_eq TB d 111 _ A
theorem x_111_0  : exG TB d 111 0 (some v :: r9) st A = rg v (exG TB d 111 1 (some v :: r9) (v :: st) A) := x_rg (op := o_aload 0 1) rfl rfl
theorem x_111_1  : exG TB d 111 1 L st A = exG TB d 111 3 L (.int (nI 16) :: st) A := x_nx (op := o_push 2 (.int 16)) rfl rfl
theorem x_111_3  : exG TB d 111 3 L [b0, .ref p] A = kc0 (evG TB d 104 [.ref p, b0] A) d 111 6 L [] := x_c0 (op := o_ci 104 1) rfl rfl x_noh rfl
theorem x_111_6  : exG TB d 111 6 L [] A = some (.inl none, A) := x_out (op := o_vret) rfl rfl
theorem e_112  : evG TB (d + 1) 112 [.ref p] A = exG TB d 112 0 [some (.ref p)] [] A := evG_eq TB d 112 _ A
theorem x_112_0  : exG TB d 112 0 L st A = exG TB d 112 3 L (.ref (nx A) :: st) (newo A 5 4 dv5) := x_nx (op := o_new 5 4 dv5) rfl rfl
theorem x_112_3  : exG TB d 112 3 L (v :: st) A = ck (c1 v) (exG TB d 112 4 L (v :: v :: st) A) := x_gd (op := o_dup) rfl rfl
theorem x_112_4  : exG TB d 112 4 (some v :: r9) st A = rg v (exG TB d 112 5 (some v :: r9) (v :: st) A) := x_rg (op := o_aload 0 1) rfl rfl
theorem x_112_5  : exG TB d 112 5 L [b0, .ref p, w0] A = kc0 (evG TB d 117 [.ref p, b0] A) d 112 8 L [w0] := x_c0 (op := o_ci 117 1) rfl rfl x_noh rfl
theorem x_112_8  : exG TB d 112 8 L [v] A = ck (okv 0 v) (some (.inl (some v), A)) := x_outg (op := o_ret 0) rfl rfl
theorem e_113  : evG TB (d + 1) 113 [.ref p] A = exG TB d 113 0 [some (.ref p)] [] A := evG_eq TB d 113 _ A
theorem x_113_0  : exG TB d 113 0 (some v :: r9) st A = rg v (exG TB d 113 1 (some v :: r9) (v :: st) A) := x_rg (op := o_aload 0 1) rfl rfl
theorem x_113_1  : exG TB d 113 1 L [.ref p] A = kw (sel (gc A p) [(4, 109)]) [.ref p] d 113 4 L [] A := x_cvb (op := o_cv [(4, 109)] 0 3 false none) rfl rfl x_noh rfl
theorem x_113_4  : exG TB d 113 4 L [v] A = ck (okv 1 v) (some (.inl (some v), A)) := x_outg (op := o_ret 1) rfl rfl
theorem e_114 {j1 : Int32} : evG TB (d + 1) 114 [.ref p, .int j1] A = exG TB d 114 0 [some (.ref p), some (.int j1)] [] A := evG_eq TB d 114 _ A
theorem x_114_0  : exG TB d 114 0 (some v :: r9) st A = rg v (exG TB d 114 1 (some v :: r9) (v :: st) A) := x_rg (op := o_aload 0 1) rfl rfl
theorem x_114_1  : exG TB d 114 1 (a0 :: some (.int i1) :: r9) st A = exG TB d 114 2 (a0 :: some (.int i1) :: r9) (.int i1 :: st) A := x_nx (op := o_iload 1 1) rfl rfl
theorem x_114_2  : exG TB d 114 2 L [b0, .ref p] A = kw (sel (gc A p) [(4, 110)]) [.ref p, b0] d 114 5 L [] A := x_cvb (op := o_cv [(4, 110)] 1 3 false none) rfl rfl x_noh rfl
theorem x_114_5  : exG TB d 114 5 L (v :: st) A = ck (c1 v) (exG TB d 114 6 L st A) := x_gd (op := o_pop) rfl rfl
theorem x_114_6  : exG TB d 114 6 (some v :: r9) st A = rg v (exG TB d 114 7 (some v :: r9) (v :: st) A) := x_rg (op := o_aload 0 1) rfl rfl
theorem x_114_7  : exG TB d 114 7 L [v] A = ck (okv 0 v) (some (.inl (some v), A)) := x_outg (op := o_ret 0) rfl rfl
theorem e_115  : evG TB (d + 1) 115 [.ref p] A = exG TB d 115 0 [some (.ref p)] [] A := evG_eq TB d 115 _ A
theorem x_115_0  : exG TB d 115 0 (some v :: r9) st A = rg v (exG TB d 115 1 (some v :: r9) (v :: st) A) := x_rg (op := o_aload 0 1) rfl rfl
theorem x_115_1  : exG TB d 115 1 L (.ref p :: st) A = kv (gfs A p 25) d 115 4 L st A := x_bd (op := o_gets 25) rfl rfl (fun _ => rfl)
theorem x_115_4  : exG TB d 115 4 L (.ref p :: st) A = ki (aln (gas A p)) d 115 5 L st A := x_bd (op := o_alens) rfl rfl (fun _ => rfl)
theorem x_115_5  : exG TB d 115 5 (some v :: r9) st A = rg v (exG TB d 115 6 (some v :: r9) (v :: st) A) := x_rg (op := o_aload 0 1) rfl rfl
theorem x_115_6  : exG TB d 115 6 L [.ref p, w0] A = kw (sel (gcs A p) [(5, 116)]) [.ref p] d 115 9 L [w0] A := x_cvb (op := o_cvs [(5, 116)] 0 3 false) rfl rfl x_noh rfl
theorem x_115_9  : exG TB d 115 9 L (.int i2 :: .int i1 :: st) A = exG TB d 115 10 L (.int (i1 >>> (i2 &&& 31)) :: st) A := x_nx (op := o_iop (fun x y => x >>> (y &&& 31))) rfl rfl
theorem x_115_10  : exG TB d 115 10 L [v] A = ck (okv 1 v) (some (.inl (some v), A)) := x_outg (op := o_ret 1) rfl rfl
theorem e_116  : evG TB (d + 1) 116 [.ref p] A = exG TB d 116 0 [some (.ref p)] [] A := evG_eq TB d 116 _ A
theorem x_116_0  : exG TB d 116 0 L st A = exG TB d 116 3 L (.int (nI 1) :: st) A := x_nx (op := o_push 3 (.int 1)) rfl rfl
theorem x_116_3  : exG TB d 116 3 L (.int i1 :: st) A = if i1 = nI 0 then exG TB d 116 13 L st A else exG TB d 116 6 L st A := x_if (op := o_if (fun x => decide (x = 0)) 13) rfl rfl rfl
theorem x_116_6  : exG TB d 116 6 (some v :: r9) st A = rg v (exG TB d 116 7 (some v :: r9) (v :: st) A) := x_rg (op := o_aload 0 1) rfl rfl
theorem x_116_7  : exG TB d 116 7 L (.ref p :: st) A = kv (gfs A p 26) d 116 10 L st A := x_bd (op := o_gets 26) rfl rfl (fun _ => rfl)
theorem x_116_10  : exG TB d 116 10 L st A = exG TB d 116 14 L st A := x_nx (op := o_goto 14) rfl rfl
theorem x_116_13  : exG TB d 116 13 L st A = exG TB d 116 14 L (.int (nI 1) :: st) A := x_nx (op := o_push 1 (.int 1)) rfl rfl
theorem x_116_14  : exG TB d 116 14 L [v] A = ck (okv 6 v) (some (.inl (some v), A)) := x_outg (op := o_ret 6) rfl rfl
theorem e_117  : evG TB (d + 1) 117 [.ref p, b1] A = rg b1 (exG TB d 117 0 [some (.ref p), some (b1)] [] A) := by
  rw [evG_eq]
  show (bif (true && (isR b1 && true)) then exG TB d 117 0 [some (.ref p), some (b1)] [] A else none) = _
  unfold rg
  cases isR b1 <;> rfl
theorem x_117_0  : exG TB d 117 0 (some v :: r9) st A = rg v (exG TB d 117 1 (some v :: r9) (v :: st) A) := x_rg (op := o_aload 0 1) rfl rfl
theorem x_117_1  : exG TB d 117 1 (a0 :: some v :: r9) st A = rg v (exG TB d 117 2 (a0 :: some v :: r9) (v :: st) A) := x_rg (op := o_aload 1 1) rfl rfl
theorem x_117_2  : exG TB d 117 2 L st A = exG TB d 117 3 L (.null :: st) A := x_nx (op := o_push 1 .null) rfl rfl
theorem x_117_3  : exG TB d 117 3 L [b1, b0, .ref p] A = kc0 (evG TB d 118 [.ref p, b0, b1] A) d 117 6 L [] := x_c0 (op := o_ci 118 2) rfl rfl x_noh rfl
theorem x_117_6  : exG TB d 117 6 L [] A = some (.inl none, A) := x_out (op := o_vret) rfl rfl
theorem e_118  : evG TB (d + 1) 118 [.ref p, b1, b2] A = rg b1 (rg b2 (exG TB d 118 0 [some (.ref p), some (b1), some (b2), none, none] [] A)) := by
  rw [evG_eq]
  show (bif (true && (isR b1 && (isR b2 && true))) then exG TB d 118 0 [some (.ref p), some (b1), some (b2), none, none] [] A else none) = _
  unfold rg
  cases isR b1 <;> cases isR b2 <;> rfl
theorem x_118_0  : exG TB d 118 0 (some v :: r9) st A = rg v (exG TB d 118 1 (some v :: r9) (v :: st) A) := x_rg (op := o_aload 0 1) rfl rfl
theorem x_118_1  : exG TB d 118 1 L [.ref p] A = exG TB d 118 4 L [] A := x_nx (op := o_oi) rfl rfl
theorem x_118_4  : exG TB d 118 4 (a0 :: some v :: r9) st A = rg v (exG TB d 118 5 (a0 :: some v :: r9) (v :: st) A) := x_rg (op := o_aload 1 1) rfl rfl
theorem x_118_5  : exG TB d 118 5 L [.ref p] A = kw (sel (gc A p) [(4, 108)]) [.ref p] d 118 8 L [] A := x_cvb (op := o_cv [(4, 108)] 0 3 false none) rfl rfl x_noh rfl
theorem x_118_8  : exG TB d 118 8 (a0 :: a1 :: a2 :: a3 :: r9) (v :: st) A = rg v (exG TB d 118 9 (a0 :: a1 :: a2 :: some v :: r9) st A) := x_rgt (op := o_astore 3 1) rfl rfl
theorem x_118_9  : exG TB d 118 9 (a0 :: some v :: r9) st A = rg v (exG TB d 118 10 (a0 :: some v :: r9) (v :: st) A) := x_rg (op := o_aload 1 1) rfl rfl
theorem x_118_10  : exG TB d 118 10 L [.ref p] A = kw (sel (gc A p) [(4, 113)]) [.ref p] d 118 13 L [] A := x_cvb (op := o_cv [(4, 113)] 0 3 false none) rfl rfl x_noh rfl
theorem x_118_13  : exG TB d 118 13 (a0 :: a1 :: a2 :: a3 :: a4 :: r9) (.int i1 :: st) A = exG TB d 118 15 (a0 :: a1 :: a2 :: a3 :: some (.int i1) :: r9) st A := x_nx (op := o_istore 4 2) rfl rfl
theorem x_118_15  : exG TB d 118 15 (a0 :: some v :: r9) st A = rg v (exG TB d 118 16 (a0 :: some v :: r9) (v :: st) A) := x_rg (op := o_aload 1 1) rfl rfl
theorem x_118_16  : exG TB d 118 16 L [.ref p] A = kw (sel (gc A p) [(4, 107)]) [.ref p] d 118 19 L [] A := x_cvb (op := o_cv [(4, 107)] 0 3 false none) rfl rfl x_noh rfl
theorem x_118_19  : exG TB d 118 19 L (.int i1 :: st) A = if i1 = nI 0 then exG TB d 118 41 L st A else exG TB d 118 22 L st A := x_if (op := o_if (fun x => decide (x = 0)) 41) rfl rfl rfl
theorem x_118_22  : exG TB d 118 22 (some v :: r9) st A = rg v (exG TB d 118 23 (some v :: r9) (v :: st) A) := x_rg (op := o_aload 0 1) rfl rfl
theorem x_118_23  : exG TB d 118 23 L st A = exG TB d 118 24 L (.int (nI 0) :: st) A := x_nx (op := o_push 1 (.int 0)) rfl rfl
theorem x_118_24  : exG TB d 118 24 L (v :: .ref p :: st) A = ck ((gf A p 26).isSome && okv 6 v) (exG TB d 118 27 L st (setf A p 26 v)) := x_gd (op := o_put 26 6) rfl rfl
theorem x_118_27  : exG TB d 118 27 (some v :: r9) st A = rg v (exG TB d 118 28 (some v :: r9) (v :: st) A) := x_rg (op := o_aload 0 1) rfl rfl
theorem x_118_28  : exG TB d 118 28 (a0 :: a1 :: a2 :: some v :: r9) st A = rg v (exG TB d 118 29 (a0 :: a1 :: a2 :: some v :: r9) (v :: st) A) := x_rg (op := o_aload 3 1) rfl rfl
theorem x_118_29  : exG TB d 118 29 L st A = exG TB d 118 30 L (.int (nI 0) :: st) A := x_nx (op := o_push 1 (.int 0)) rfl rfl
theorem x_118_30  : exG TB d 118 30 (a0 :: a1 :: a2 :: a3 :: some (.int i1) :: r9) st A = exG TB d 118 32 (a0 :: a1 :: a2 :: a3 :: some (.int i1) :: r9) (.int i1 :: st) A := x_nx (op := o_iload 4 2) rfl rfl
theorem x_118_32  : exG TB d 118 32 L [b2, b1, b0, w0] A = kc (evG TB d 10 [b0, b1, b2] A) d 118 35 L [w0] := x_cv (op := o_cs 10 3 false none) rfl rfl x_noh rfl
theorem x_118_35  : exG TB d 118 35 L (v :: .ref p :: st) A = ck ((gf A p 25).isSome && okv 0 v) (exG TB d 118 38 L st (setf A p 25 v)) := x_gd (op := o_put 25 0) rfl rfl
theorem x_118_38  : exG TB d 118 38 L st A = exG TB d 118 97 L st A := x_nx (op := o_goto 97) rfl rfl
theorem x_118_41  : exG TB d 118 41 L st A = exG TB d 118 44 L (.int (nI 1) :: st) A := x_nx (op := o_push 3 (.int 1)) rfl rfl
theorem x_118_44  : exG TB d 118 44 L (.int i1 :: st) A = if i1 = nI 0 then exG TB d 118 79 L st A else exG TB d 118 47 L st A := x_if (op := o_if (fun x => decide (x = 0)) 79) rfl rfl rfl
theorem x_118_47  : exG TB d 118 47 (a0 :: some v :: r9) st A = rg v (exG TB d 118 48 (a0 :: some v :: r9) (v :: st) A) := x_rg (op := o_aload 1 1) rfl rfl
theorem x_118_48  : exG TB d 118 48 L (.ref p :: st) A = kv (gf A p 23) d 118 51 L st A := x_bd (op := o_get 23) rfl rfl (fun _ => rfl)
theorem x_118_51  : exG TB d 118 51 L (.int i1 :: st) A = if i1 = nI 0 then exG TB d 118 79 L st A else exG TB d 118 54 L st A := x_if (op := o_if (fun x => decide (x = 0)) 79) rfl rfl rfl
theorem x_118_54  : exG TB d 118 54 (some v :: r9) st A = rg v (exG TB d 118 55 (some v :: r9) (v :: st) A) := x_rg (op := o_aload 0 1) rfl rfl
theorem x_118_55  : exG TB d 118 55 (a0 :: a1 :: a2 :: some v :: r9) st A = rg v (exG TB d 118 56 (a0 :: a1 :: a2 :: some v :: r9) (v :: st) A) := x_rg (op := o_aload 3 1) rfl rfl
theorem x_118_56  : exG TB d 118 56 L st A = exG TB d 118 57 L (.int (nI 0) :: st) A := x_nx (op := o_push 1 (.int 0)) rfl rfl
theorem x_118_57  : exG TB d 118 57 (a0 :: a1 :: a2 :: a3 :: some (.int i1) :: r9) st A = exG TB d 118 59 (a0 :: a1 :: a2 :: a3 :: some (.int i1) :: r9) (.int i1 :: st) A := x_nx (op := o_iload 4 2) rfl rfl
theorem x_118_62  : exG TB d 118 62 L (v :: .ref p :: st) A = ck ((gf A p 25).isSome && okv 0 v) (exG TB d 118 65 L st (setf A p 25 v)) := x_gd (op := o_put 25 0) rfl rfl
theorem x_118_65  : exG TB d 118 65 (some v :: r9) st A = rg v (exG TB d 118 66 (some v :: r9) (v :: st) A) := x_rg (op := o_aload 0 1) rfl rfl
theorem x_118_66  : exG TB d 118 66 (some v :: r9) st A = rg v (exG TB d 118 67 (some v :: r9) (v :: st) A) := x_rg (op := o_aload 0 1) rfl rfl
theorem x_118_67  : exG TB d 118 67 L (.ref p :: st) A = kv (gfs A p 25) d 118 70 L st A := x_bd (op := o_gets 25) rfl rfl (fun _ => rfl)
theorem x_118_70  : exG TB d 118 70 (a0 :: a1 :: a2 :: a3 :: some (.int i1) :: r9) st A = exG TB d 118 72 (a0 :: a1 :: a2 :: a3 :: some (.int i1) :: r9) (.int i1 :: st) A := x_nx (op := o_iload 4 2) rfl rfl
theorem x_118_75  : exG TB d 118 75 L (v :: .ref p :: st) A = ck ((gf A p 26).isSome && okv 6 v) (exG TB d 118 78 L st (setf A p 26 v)) := x_gd (op := o_put 26 6) rfl rfl
theorem x_118_78  : exG TB d 118 78 L [] A = some (.inl none, A) := x_out (op := o_vret) rfl rfl
theorem x_118_79  : exG TB d 118 79 (some v :: r9) st A = rg v (exG TB d 118 80 (some v :: r9) (v :: st) A) := x_rg (op := o_aload 0 1) rfl rfl
theorem x_118_80  : exG TB d 118 80 L st A = exG TB d 118 81 L (.int (nI 1) :: st) A := x_nx (op := o_push 1 (.int 1)) rfl rfl
theorem x_118_81  : exG TB d 118 81 L (v :: .ref p :: st) A = ck ((gf A p 26).isSome && okv 6 v) (exG TB d 118 84 L st (setf A p 26 v)) := x_gd (op := o_put 26 6) rfl rfl
theorem x_118_84  : exG TB d 118 84 (some v :: r9) st A = rg v (exG TB d 118 85 (some v :: r9) (v :: st) A) := x_rg (op := o_aload 0 1) rfl rfl
theorem x_118_85  : exG TB d 118 85 (a0 :: a1 :: a2 :: some v :: r9) st A = rg v (exG TB d 118 86 (a0 :: a1 :: a2 :: some v :: r9) (v :: st) A) := x_rg (op := o_aload 3 1) rfl rfl
theorem x_118_86  : exG TB d 118 86 L st A = exG TB d 118 87 L (.int (nI 0) :: st) A := x_nx (op := o_push 1 (.int 0)) rfl rfl
theorem x_118_87  : exG TB d 118 87 (a0 :: a1 :: a2 :: a3 :: some (.int i1) :: r9) st A = exG TB d 118 89 (a0 :: a1 :: a2 :: a3 :: some (.int i1) :: r9) (.int i1 :: st) A := x_nx (op := o_iload 4 2) rfl rfl
theorem x_118_89  : exG TB d 118 89 L st A = exG TB d 118 90 L (.int (nI 1) :: st) A := x_nx (op := o_push 1 (.int 1)) rfl rfl
theorem x_118_90  : exG TB d 118 90 L (.int i2 :: .int i1 :: st) A = exG TB d 118 91 L (.int (i1 <<< (i2 &&& 31)) :: st) A := x_nx (op := o_iop (fun x y => x <<< (y &&& 31))) rfl rfl
theorem x_118_91  : exG TB d 118 91 L [b2, b1, b0, w0] A = kc (evG TB d 10 [b0, b1, b2] A) d 118 94 L [w0] := x_cv (op := o_cs 10 3 false none) rfl rfl x_noh rfl
theorem x_118_94  : exG TB d 118 94 L (v :: .ref p :: st) A = ck ((gf A p 25).isSome && okv 0 v) (exG TB d 118 97 L st (setf A p 25 v)) := x_gd (op := o_put 25 0) rfl rfl
theorem x_118_97  : exG TB d 118 97 L [] A = some (.inl none, A) := x_out (op := o_vret) rfl rfl
theorem e_119  : evG TB (d + 1) 119 [.ref p] A = exG TB d 119 0 [some (.ref p), none] [] A := evG_eq TB d 119 _ A
theorem x_119_0  : exG TB d 119 0 (some v :: r9) st A = rg v (exG TB d 119 1 (some v :: r9) (v :: st) A) := x_rg (op := o_aload 0 1) rfl rfl
theorem x_119_1  : exG TB d 119 1 L (.ref p :: st) A = kv (gf A p 27) d 119 4 L st A := x_bd (op := o_get 27) rfl rfl (fun _ => rfl)
theorem x_119_4  : exG TB d 119 4 (a0 :: a1 :: r9) (.int i1 :: st) A = exG TB d 119 5 (a0 :: some (.int i1) :: r9) st A := x_nx (op := o_istore 1 1) rfl rfl
theorem x_119_5  : exG TB d 119 5 (a0 :: some (.int i1) :: r9) st A = exG TB d 119 6 (a0 :: some (.int i1) :: r9) (.int i1 :: st) A := x_nx (op := o_iload 1 1) rfl rfl
theorem x_119_6  : exG TB d 119 6 L (.int i1 :: st) A = if ¬ i1 = nI 0 then exG TB d 119 58 L st A else exG TB d 119 9 L st A := x_if (op := o_if (fun x => decide (¬ x = 0)) 58) rfl rfl rfl
theorem x_119_9  : exG TB d 119 9 (some v :: r9) st A = rg v (exG TB d 119 10 (some v :: r9) (v :: st) A) := x_rg (op := o_aload 0 1) rfl rfl
theorem x_119_10  : exG TB d 119 10 L (.ref p :: st) A = kv (gf A p 28) d 119 13 L st A := x_bd (op := o_get 28) rfl rfl (fun _ => rfl)
theorem x_119_13  : exG TB d 119 13 L (.int i1 :: st) A = if ¬ i1 = nI 0 then exG TB d 119 58 L st A else exG TB d 119 16 L st A := x_if (op := o_if (fun x => decide (¬ x = 0)) 58) rfl rfl rfl
theorem x_119_16  : exG TB d 119 16 (some v :: r9) st A = rg v (exG TB d 119 17 (some v :: r9) (v :: st) A) := x_rg (op := o_aload 0 1) rfl rfl
theorem x_119_17  : exG TB d 119 17 L [.ref p] A = kw (sel (gcs A p) [(5, 120)]) [.ref p] d 119 20 L [] A := x_cvb (op := o_cvs [(5, 120)] 0 3 false) rfl rfl x_noh rfl
theorem x_119_20  : exG TB d 119 20 L (.int i1 :: st) A = if i1 = nI 0 then exG TB d 119 33 L st A else exG TB d 119 23 L st A := x_if (op := o_if (fun x => decide (x = 0)) 33) rfl rfl rfl
theorem x_119_23  : exG TB d 119 23 (some v :: r9) st A = rg v (exG TB d 119 24 (some v :: r9) (v :: st) A) := x_rg (op := o_aload 0 1) rfl rfl
theorem x_119_24  : exG TB d 119 24 L (.ref p :: st) A = kv (gfs A p 25) d 119 27 L st A := x_bd (op := o_gets 25) rfl rfl (fun _ => rfl)
theorem x_119_27  : exG TB d 119 27 L [b0] A = kc (evG TB d 16 [b0] A) d 119 30 L [] := x_cv (op := o_cs 16 1 false none) rfl rfl x_noh rfl
theorem x_119_30  : exG TB d 119 30 L st A = exG TB d 119 40 L st A := x_nx (op := o_goto 40) rfl rfl
theorem x_119_33  : exG TB d 119 33 (some v :: r9) st A = rg v (exG TB d 119 34 (some v :: r9) (v :: st) A) := x_rg (op := o_aload 0 1) rfl rfl
theorem x_119_34  : exG TB d 119 34 L (.ref p :: st) A = kv (gfs A p 25) d 119 37 L st A := x_bd (op := o_gets 25) rfl rfl (fun _ => rfl)
theorem x_119_40  : exG TB d 119 40 (a0 :: a1 :: r9) (.int i1 :: st) A = exG TB d 119 41 (a0 :: some (.int i1) :: r9) st A := x_nx (op := o_istore 1 1) rfl rfl
theorem x_119_41  : exG TB d 119 41 (a0 :: some (.int i1) :: r9) st A = exG TB d 119 42 (a0 :: some (.int i1) :: r9) (.int i1 :: st) A := x_nx (op := o_iload 1 1) rfl rfl
theorem x_119_42  : exG TB d 119 42 L (.int i1 :: st) A = if ¬ i1 = nI 0 then exG TB d 119 53 L st A else exG TB d 119 45 L st A := x_if (op := o_if (fun x => decide (¬ x = 0)) 53) rfl rfl rfl
theorem x_119_45  : exG TB d 119 45 (some v :: r9) st A = rg v (exG TB d 119 46 (some v :: r9) (v :: st) A) := x_rg (op := o_aload 0 1) rfl rfl
theorem x_119_46  : exG TB d 119 46 L st A = exG TB d 119 47 L (.int (nI 1) :: st) A := x_nx (op := o_push 1 (.int 1)) rfl rfl
theorem x_119_47  : exG TB d 119 47 L (v :: .ref p :: st) A = ck ((gf A p 28).isSome && okv 5 v) (exG TB d 119 50 L st (setf A p 28 v)) := x_gd (op := o_put 28 5) rfl rfl
theorem x_119_50  : exG TB d 119 50 L st A = exG TB d 119 58 L st A := x_nx (op := o_goto 58) rfl rfl
theorem x_119_53  : exG TB d 119 53 (some v :: r9) st A = rg v (exG TB d 119 54 (some v :: r9) (v :: st) A) := x_rg (op := o_aload 0 1) rfl rfl
theorem x_119_54  : exG TB d 119 54 (a0 :: some (.int i1) :: r9) st A = exG TB d 119 55 (a0 :: some (.int i1) :: r9) (.int i1 :: st) A := x_nx (op := o_iload 1 1) rfl rfl
theorem x_119_55  : exG TB d 119 55 L (v :: .ref p :: st) A = ck ((gf A p 27).isSome && okv 1 v) (exG TB d 119 58 L st (setf A p 27 v)) := x_gd (op := o_put 27 1) rfl rfl
theorem x_119_58  : exG TB d 119 58 (a0 :: some (.int i1) :: r9) st A = exG TB d 119 59 (a0 :: some (.int i1) :: r9) (.int i1 :: st) A := x_nx (op := o_iload 1 1) rfl rfl
theorem x_119_59  : exG TB d 119 59 L [v] A = ck (okv 1 v) (some (.inl (some v), A)) := x_outg (op := o_ret 1) rfl rfl
theorem e_120  : evG TB (d + 1) 120 [.ref p] A = exG TB d 120 0 [some (.ref p)] [] A := evG_eq TB d 120 _ A
theorem x_120_0  : exG TB d 120 0 L st A = exG TB d 120 3 L (.int (nI 1) :: st) A := x_nx (op := o_push 3 (.int 1)) rfl rfl
theorem x_120_3  : exG TB d 120 3 L (.int i1 :: st) A = if i1 = nI 0 then exG TB d 120 17 L st A else exG TB d 120 6 L st A := x_if (op := o_if (fun x => decide (x = 0)) 17) rfl rfl rfl
theorem x_120_6  : exG TB d 120 6 (some v :: r9) st A = rg v (exG TB d 120 7 (some v :: r9) (v :: st) A) := x_rg (op := o_aload 0 1) rfl rfl
theorem x_120_7  : exG TB d 120 7 L (.ref p :: st) A = kv (gfs A p 26) d 120 10 L st A := x_bd (op := o_gets 26) rfl rfl (fun _ => rfl)
theorem x_120_10  : exG TB d 120 10 L (.int i1 :: st) A = if ¬ i1 = nI 0 then exG TB d 120 17 L st A else exG TB d 120 13 L st A := x_if (op := o_if (fun x => decide (¬ x = 0)) 17) rfl rfl rfl
theorem x_120_13  : exG TB d 120 13 L st A = exG TB d 120 14 L (.int (nI 1) :: st) A := x_nx (op := o_push 1 (.int 1)) rfl rfl
theorem x_120_14  : exG TB d 120 14 L st A = exG TB d 120 18 L st A := x_nx (op := o_goto 18) rfl rfl
theorem x_120_17  : exG TB d 120 17 L st A = exG TB d 120 18 L (.int (nI 0) :: st) A := x_nx (op := o_push 1 (.int 0)) rfl rfl
theorem x_120_18  : exG TB d 120 18 L [v] A = ck (okv 5 v) (some (.inl (some v), A)) := x_outg (op := o_ret 5) rfl rfl
theorem e_121  : evG TB (d + 1) 121 [.ref p, b1] A = rg b1 (exG TB d 121 0 [some (.ref p), some (b1), none] [] A) := by
  rw [evG_eq]
  show (bif (true && (isR b1 && true)) then exG TB d 121 0 [some (.ref p), some (b1), none] [] A else none) = _
  unfold rg
  cases isR b1 <;> rfl
theorem x_121_0  : exG TB d 121 0 (some v :: r9) st A = rg v (exG TB d 121 1 (some v :: r9) (v :: st) A) := x_rg (op := o_aload 0 1) rfl rfl
theorem x_121_1  : exG TB d 121 1 (a0 :: some v :: r9) st A = rg v (exG TB d 121 2 (a0 :: some v :: r9) (v :: st) A) := x_rg (op := o_aload 1 1) rfl rfl
theorem x_121_2  : exG TB d 121 2 L (.ref q :: .ref p :: st) A = if ¬ p = q then exG TB d 121 7 L st A else exG TB d 121 5 L st A := x_if (op := o_acmp false 7) rfl (ac_f p q) rfl
theorem x_121_2rn  : exG TB d 121 2 L (.null :: .ref p :: st) A = exG TB d 121 7 L st A := x_nx (op := o_acmp false 7) rfl rfl
theorem x_121_2nr  : exG TB d 121 2 L (.ref p :: .null :: st) A = exG TB d 121 7 L st A := x_nx (op := o_acmp false 7) rfl rfl
theorem x_121_2nn  : exG TB d 121 2 L (.null :: .null :: st) A = exG TB d 121 5 L st A := x_nx (op := o_acmp false 7) rfl rfl
theorem x_121_5  : exG TB d 121 5 L st A = exG TB d 121 6 L (.int (nI 1) :: st) A := x_nx (op := o_push 1 (.int 1)) rfl rfl
theorem x_121_6  : exG TB d 121 6 L [v] A = ck (okv 5 v) (some (.inl (some v), A)) := x_outg (op := o_ret 5) rfl rfl
theorem x_121_7  : exG TB d 121 7 (a0 :: some v :: r9) st A = rg v (exG TB d 121 8 (a0 :: some v :: r9) (v :: st) A) := x_rg (op := o_aload 1 1) rfl rfl
theorem x_121_8n  : exG TB d 121 8 L (.null :: st) A = exG TB d 121 11 L (.int (nI 0) :: st) A := x_nx (op := o_inst [5] []) rfl rfl
theorem x_121_8y (h9 : cin (gcs A p) [5] = true) : exG TB d 121 8 L (.ref p :: st) A = exG TB d 121 11 L (.int (nI 1) :: st) A := x_inY (l := [5]) (l0 := []) rfl h9
theorem x_121_11  : exG TB d 121 11 L (.int i1 :: st) A = if i1 = nI 0 then exG TB d 121 54 L st A else exG TB d 121 14 L st A := x_if (op := o_if (fun x => decide (x = 0)) 54) rfl rfl rfl
theorem x_121_14  : exG TB d 121 14 (a0 :: some v :: r9) st A = rg v (exG TB d 121 15 (a0 :: some v :: r9) (v :: st) A) := x_rg (op := o_aload 1 1) rfl rfl
theorem x_121_15n  : exG TB d 121 15 L (.null :: st) A = exG TB d 121 18 L (.null :: st) A := x_nx (op := o_cast [5]) rfl rfl
theorem x_121_15r  : exG TB d 121 15 L (.ref p :: st) A = ck (cin (gcs A p) [5]) (exG TB d 121 18 L (.ref p :: st) A) := x_gd (op := o_cast [5]) rfl rfl
theorem x_121_18  : exG TB d 121 18 (a0 :: a1 :: a2 :: r9) (v :: st) A = rg v (exG TB d 121 19 (a0 :: a1 :: some v :: r9) st A) := x_rgt (op := o_astore 2 1) rfl rfl
theorem x_121_19  : exG TB d 121 19 L st A = exG TB d 121 22 L (.int (nI 1) :: st) A := x_nx (op := o_push 3 (.int 1)) rfl rfl
theorem x_121_22  : exG TB d 121 22 L (.int i1 :: st) A = if i1 = nI 0 then exG TB d 121 36 L st A else exG TB d 121 25 L st A := x_if (op := o_if (fun x => decide (x = 0)) 36) rfl rfl rfl
theorem x_121_25  : exG TB d 121 25 (some v :: r9) st A = rg v (exG TB d 121 26 (some v :: r9) (v :: st) A) := x_rg (op := o_aload 0 1) rfl rfl
theorem x_121_26  : exG TB d 121 26 L (.ref p :: st) A = kv (gfs A p 26) d 121 29 L st A := x_bd (op := o_gets 26) rfl rfl (fun _ => rfl)
theorem x_121_29  : exG TB d 121 29 (a0 :: a1 :: some v :: r9) st A = rg v (exG TB d 121 30 (a0 :: a1 :: some v :: r9) (v :: st) A) := x_rg (op := o_aload 2 1) rfl rfl
theorem x_121_30  : exG TB d 121 30 L (.ref p :: st) A = kv (gfs A p 26) d 121 33 L st A := x_bd (op := o_gets 26) rfl rfl (fun _ => rfl)
theorem x_121_33  : exG TB d 121 33 L (.int i2 :: .int i1 :: st) A = if ¬ i1 = i2 then exG TB d 121 54 L st A else exG TB d 121 36 L st A := x_if (op := o_icmp (fun x y => decide (¬ x = y)) 54) rfl rfl rfl
theorem x_121_36  : exG TB d 121 36 (some v :: r9) st A = rg v (exG TB d 121 37 (some v :: r9) (v :: st) A) := x_rg (op := o_aload 0 1) rfl rfl
theorem x_121_37  : exG TB d 121 37 L (.ref p :: st) A = kv (gfs A p 25) d 121 40 L st A := x_bd (op := o_gets 25) rfl rfl (fun _ => rfl)
theorem x_121_40  : exG TB d 121 40 (a0 :: a1 :: some v :: r9) st A = rg v (exG TB d 121 41 (a0 :: a1 :: some v :: r9) (v :: st) A) := x_rg (op := o_aload 2 1) rfl rfl
theorem x_121_41  : exG TB d 121 41 L (.ref p :: st) A = kv (gfs A p 25) d 121 44 L st A := x_bd (op := o_gets 25) rfl rfl (fun _ => rfl)
theorem x_121_44  : exG TB d 121 44 L [b1, b0] A = kc (evG TB d 17 [b0, b1] A) d 121 47 L [] := x_cv (op := o_cs 17 2 false none) rfl rfl x_noh rfl
theorem x_121_47  : exG TB d 121 47 L (.int i1 :: st) A = if i1 = nI 0 then exG TB d 121 54 L st A else exG TB d 121 50 L st A := x_if (op := o_if (fun x => decide (x = 0)) 54) rfl rfl rfl
theorem x_121_50  : exG TB d 121 50 L st A = exG TB d 121 51 L (.int (nI 1) :: st) A := x_nx (op := o_push 1 (.int 1)) rfl rfl
theorem x_121_51  : exG TB d 121 51 L st A = exG TB d 121 55 L st A := x_nx (op := o_goto 55) rfl rfl
theorem x_121_54  : exG TB d 121 54 L st A = exG TB d 121 55 L (.int (nI 0) :: st) A := x_nx (op := o_push 1 (.int 0)) rfl rfl
theorem x_121_55  : exG TB d 121 55 L [v] A = ck (okv 5 v) (some (.inl (some v), A)) := x_outg (op := o_ret 5) rfl rfl
theorem e_122 {j0 : Int32} {j1 : Int32} : evG TB (d + 1) 122 [.int j0, .int j1] A = exG TB d 122 0 [some (.int j0), some (.int j1)] [] A := evG_eq TB d 122 _ A
theorem x_122_0  : exG TB d 122 0 (some (.int i1) :: r9) st A = exG TB d 122 1 (some (.int i1) :: r9) (.int i1 :: st) A := x_nx (op := o_iload 0 1) rfl rfl
theorem x_122_1  : exG TB d 122 1 (a0 :: some (.int i1) :: r9) st A = exG TB d 122 2 (a0 :: some (.int i1) :: r9) (.int i1 :: st) A := x_nx (op := o_iload 1 1) rfl rfl
theorem x_122_2  : exG TB d 122 2 L st A = exG TB d 122 5 L (va_rf (sRf (sg A) 2) :: st) A := x_nx (op := o_pushR 3 2) rfl rfl
theorem x_122_5  : exG TB d 122 5 L [b2, b1, b0] A = kc (evG TB d 15 [b0, b1, b2] A) d 122 8 L [] := x_cv (op := o_cs 15 3 false none) rfl rfl x_noh rfl
theorem x_122_8  : exG TB d 122 8 L (v :: st) A = ck (c1 v) (exG TB d 122 9 L st A) := x_gd (op := o_pop) rfl rfl
theorem x_122_9  : exG TB d 122 9 L [] A = some (.inl none, A) := x_out (op := o_vret) rfl rfl
theorem e_123 {j1 : Int32} : evG TB (d + 1) 123 [.ref p, .int j1] A = exG TB d 123 0 [some (.ref p), some (.int j1)] [] A := evG_eq TB d 123 _ A
theorem x_123_0  : exG TB d 123 0 (some v :: r9) st A = rg v (exG TB d 123 1 (some v :: r9) (v :: st) A) := x_rg (op := o_aload 0 1) rfl rfl
theorem x_123_1  : exG TB d 123 1 L [.ref p] A = kw (sel (gcs A p) [(5, 120)]) [.ref p] d 123 4 L [] A := x_cvb (op := o_cvs [(5, 120)] 0 3 false) rfl rfl x_noh rfl
theorem x_123_4  : exG TB d 123 4 L (.int i1 :: st) A = if i1 = nI 0 then exG TB d 123 16 L st A else exG TB d 123 7 L st A := x_if (op := o_if (fun x => decide (x = 0)) 16) rfl rfl rfl
theorem x_123_7  : exG TB d 123 7 (some v :: r9) st A = rg v (exG TB d 123 8 (some v :: r9) (v :: st) A) := x_rg (op := o_aload 0 1) rfl rfl
theorem x_123_8  : exG TB d 123 8 L (.ref p :: st) A = kv (gfs A p 25) d 123 11 L st A := x_bd (op := o_gets 25) rfl rfl (fun _ => rfl)
theorem x_123_11  : exG TB d 123 11 (a0 :: some (.int i1) :: r9) st A = exG TB d 123 12 (a0 :: some (.int i1) :: r9) (.int i1 :: st) A := x_nx (op := o_iload 1 1) rfl rfl
theorem x_123_12  : exG TB d 123 12 L [b1, b0] A = kc (evG TB d 19 [b0, b1] A) d 123 15 L [] := x_cv (op := o_cs 19 2 false none) rfl rfl x_noh rfl
theorem x_123_15  : exG TB d 123 15 L [v] A = ck (okv 7 v) (some (.inl (some v), A)) := x_outg (op := o_ret 7) rfl rfl
theorem x_123_16  : exG TB d 123 16 (some v :: r9) st A = rg v (exG TB d 123 17 (some v :: r9) (v :: st) A) := x_rg (op := o_aload 0 1) rfl rfl
theorem x_123_17  : exG TB d 123 17 L (.ref p :: st) A = kv (gfs A p 25) d 123 20 L st A := x_bd (op := o_gets 25) rfl rfl (fun _ => rfl)
theorem x_123_20  : exG TB d 123 20 (a0 :: some (.int i1) :: r9) st A = exG TB d 123 21 (a0 :: some (.int i1) :: r9) (.int i1 :: st) A := x_nx (op := o_iload 1 1) rfl rfl
theorem x_123_24  : exG TB d 123 24 L [v] A = ck (okv 7 v) (some (.inl (some v), A)) := x_outg (op := o_ret 7) rfl rfl
theorem e_124  : evG TB (d + 1) 124 [b0] A = rg b0 (exG TB d 124 0 [some (b0), none, none, none, none, none, none, none, none, none] [] A) := by
  rw [evG_eq]
  show (bif (isR b0 && true) then exG TB d 124 0 [some (b0), none, none, none, none, none, none, none, none, none] [] A else none) = _
  unfold rg
  cases isR b0 <;> rfl
theorem x_124_0  : exG TB d 124 0 L st A = exG TB d 124 3 L (.ref (nx A) :: st) (newo A 0 6 dv0) := x_nx (op := o_new 0 6 dv0) rfl rfl
theorem x_124_3  : exG TB d 124 3 L (v :: st) A = ck (c1 v) (exG TB d 124 4 L (v :: v :: st) A) := x_gd (op := o_dup) rfl rfl
theorem x_124_4  : exG TB d 124 4 L [.ref p, w0] A = kc0 (evG TB d 160 [.ref p] A) d 124 7 L [w0] := x_c0 (op := o_ci 160 0) rfl rfl x_noh rfl
theorem x_124_7  : exG TB d 124 7 (a0 :: a1 :: r9) (v :: st) A = rg v (exG TB d 124 8 (a0 :: some v :: r9) st A) := x_rgt (op := o_astore 1 1) rfl rfl
theorem x_124_8  : exG TB d 124 8 L st A = exG TB d 124 11 L (.ref (nx A) :: st) (newo A 30 39 dv30) := x_nx (op := o_new 30 39 dv30) rfl rfl
theorem x_124_11  : exG TB d 124 11 L (v :: st) A = ck (c1 v) (exG TB d 124 12 L (v :: v :: st) A) := x_gd (op := o_dup) rfl rfl
theorem x_124_12  : exG TB d 124 12 L [.ref p, w0] A = kc0 (evG TB d 287 [.ref p] A) d 124 15 L [w0] := x_c0 (op := o_ci 287 0) rfl rfl x_noh rfl
theorem x_124_15  : exG TB d 124 15 (a0 :: a1 :: a2 :: r9) (v :: st) A = rg v (exG TB d 124 16 (a0 :: a1 :: some v :: r9) st A) := x_rgt (op := o_astore 2 1) rfl rfl
theorem x_124_16  : exG TB d 124 16 L st A = exG TB d 124 17 L (.int (nI 1) :: st) A := x_nx (op := o_push 1 (.int 1)) rfl rfl
theorem x_124_17  : exG TB d 124 17 L (.int i1 :: st) A = ck (okn i1) (exG TB d 124 19 L (.ref (nx A) :: st) (newa A (zar 3 i1.toNatClampNeg))) := x_gd (op := o_newa 3 2) rfl rfl
theorem x_124_19  : exG TB d 124 19 (a0 :: a1 :: a2 :: a3 :: r9) (v :: st) A = rg v (exG TB d 124 20 (a0 :: a1 :: a2 :: some v :: r9) st A) := x_rgt (op := o_astore 3 1) rfl rfl
theorem x_124_20  : exG TB d 124 20 L st A = exG TB d 124 21 L (.int (nI 1) :: st) A := x_nx (op := o_push 1 (.int 1)) rfl rfl
theorem x_124_21  : exG TB d 124 21 L (.int i1 :: st) A = ck (okn i1) (exG TB d 124 23 L (.ref (nx A) :: st) (newa A (zar 4 i1.toNatClampNeg))) := x_gd (op := o_newa 4 2) rfl rfl
theorem x_124_23  : exG TB d 124 23 (a0 :: a1 :: a2 :: a3 :: a4 :: r9) (v :: st) A = rg v (exG TB d 124 25 (a0 :: a1 :: a2 :: a3 :: some v :: r9) st A) := x_rgt (op := o_astore 4 2) rfl rfl
theorem x_124_25  : exG TB d 124 25 L st A = exG TB d 124 26 L (.int (nI 0) :: st) A := x_nx (op := o_push 1 (.int 0)) rfl rfl
theorem x_124_26  : exG TB d 124 26 (a0 :: a1 :: a2 :: a3 :: a4 :: a5 :: r9) (.int i1 :: st) A = exG TB d 124 28 (a0 :: a1 :: a2 :: a3 :: a4 :: some (.int i1) :: r9) st A := x_nx (op := o_istore 5 2) rfl rfl
theorem x_124_28  : exG TB d 124 28 (a0 :: a1 :: a2 :: a3 :: a4 :: some (.int i1) :: r9) st A = exG TB d 124 30 (a0 :: a1 :: a2 :: a3 :: a4 :: some (.int i1) :: r9) (.int i1 :: st) A := x_nx (op := o_iload 5 2) rfl rfl
theorem x_124_30  : exG TB d 124 30 (some v :: r9) st A = rg v (exG TB d 124 31 (some v :: r9) (v :: st) A) := x_rg (op := o_aload 0 1) rfl rfl
theorem x_124_31  : exG TB d 124 31 L (.ref p :: st) A = ki (aln (gas A p)) d 124 32 L st A := x_bd (op := o_alens) rfl rfl (fun _ => rfl)
theorem x_124_32  : exG TB d 124 32 L st A = exG TB d 124 33 L (.int (nI 5) :: st) A := x_nx (op := o_push 1 (.int 5)) rfl rfl
theorem x_124_33  : exG TB d 124 33 L (.int i2 :: .int i1 :: st) A = exG TB d 124 34 L (.int (i1 - i2) :: st) A := x_nx (op := o_iop (fun x y => x - y)) rfl rfl
theorem x_124_34  : exG TB d 124 34 L (.int i2 :: .int i1 :: st) A = if i2 < i1 then exG TB d 124 2699 L st A else exG TB d 124 37 L st A := x_if (op := o_icmp (fun x y => decide (y < x)) 2699) rfl rfl rfl
theorem x_124_37  : exG TB d 124 37 (some v :: r9) st A = rg v (exG TB d 124 38 (some v :: r9) (v :: st) A) := x_rg (op := o_aload 0 1) rfl rfl
theorem x_124_38  : exG TB d 124 38 (a0 :: a1 :: a2 :: a3 :: a4 :: some (.int i1) :: r9) st A = exG TB d 124 40 (a0 :: a1 :: a2 :: a3 :: a4 :: some (.int i1) :: r9) (.int i1 :: st) A := x_nx (op := o_iload 5 2) rfl rfl
theorem x_124_40  : exG TB d 124 40 L (.int i1 :: .ref p :: st) A = ki (rdI 0 (gas A p) i1) d 124 41 L st A := x_bd (op := o_rdIs 0) rfl rfl (fun _ => rfl)
theorem x_124_41  : exG TB d 124 41 L st A = exG TB d 124 43 L (.int (nI 63) :: st) A := x_nx (op := o_push 2 (.int 63)) rfl rfl
theorem x_124_43  : exG TB d 124 43 L (.int i2 :: .int i1 :: st) A = exG TB d 124 44 L (.int (i1 &&& i2) :: st) A := x_nx (op := o_iop (fun x y => x &&& y)) rfl rfl
theorem x_124_44  : exG TB d 124 44 L (.int i1 :: st) A = exG TB d 124 (swt 0 [224, 280, 336, 349, 362, 375, 431, 523, 603, 671, 739, 795, 863, 931, 999, 1067, 1159, 1251, 1319, 1399, 1491, 1559, 1615, 1671, 1739, 1795, 1875, 1955, 2023, 2079, 2147, 2215, 2283, 2351, 2407, 2421, 2489, 2567, 2580, 2621, 2657] 2693 i1) L st A := x_nx (op := o_sw (swt 0 [224, 280, 336, 349, 362, 375, 431, 523, 603, 671, 739, 795, 863, 931, 999, 1067, 1159, 1251, 1319, 1399, 1491, 1559, 1615, 1671, 1739, 1795, 1875, 1955, 2023, 2079, 2147, 2215, 2283, 2351, 2407, 2421, 2489, 2567, 2580, 2621, 2657] 2693)) rfl rfl
theorem x_124_224  : exG TB d 124 224 (a0 :: some v :: r9) st A = rg v (exG TB d 124 225 (a0 :: some v :: r9) (v :: st) A) := x_rg (op := o_aload 1 1) rfl rfl
theorem x_124_225  : exG TB d 124 225 (some v :: r9) st A = rg v (exG TB d 124 226 (some v :: r9) (v :: st) A) := x_rg (op := o_aload 0 1) rfl rfl
theorem x_124_226  : exG TB d 124 226 (a0 :: a1 :: a2 :: a3 :: a4 :: some (.int i1) :: r9) st A = exG TB d 124 228 (a0 :: a1 :: a2 :: a3 :: a4 :: some (.int i1) :: r9) (.int i1 :: st) A := x_nx (op := o_iload 5 2) rfl rfl
theorem x_124_228  : exG TB d 124 228 L st A = exG TB d 124 229 L (.int (nI 1) :: st) A := x_nx (op := o_push 1 (.int 1)) rfl rfl
theorem x_124_229  : exG TB d 124 229 L (.int i2 :: .int i1 :: st) A = exG TB d 124 230 L (.int (i1 + i2) :: st) A := x_nx (op := o_iop (fun x y => x + y)) rfl rfl
theorem x_124_230  : exG TB d 124 230 L (.int i1 :: .ref p :: st) A = ki (rdI 0 (gas A p) i1) d 124 231 L st A := x_bd (op := o_rdIs 0) rfl rfl (fun _ => rfl)
theorem x_124_231  : exG TB d 124 231 (a0 :: a1 :: a2 :: some v :: r9) st A = rg v (exG TB d 124 232 (a0 :: a1 :: a2 :: some v :: r9) (v :: st) A) := x_rg (op := o_aload 3 1) rfl rfl
theorem x_124_232  : exG TB d 124 232 L [b2, b1, b0] A = kc (evG TB d 125 [b0, b1, b2] A) d 124 235 L [] := x_cv (op := o_cs 125 3 false none) rfl rfl x_noh rfl
theorem x_124_235  : exG TB d 124 235 (a0 :: a1 :: a2 :: a3 :: a4 :: a5 :: a6 :: r9) (.int i1 :: st) A = exG TB d 124 237 (a0 :: a1 :: a2 :: a3 :: a4 :: a5 :: some (.int i1) :: r9) st A := x_nx (op := o_istore 6 2) rfl rfl
theorem x_124_237  : exG TB d 124 237 (a0 :: a1 :: some v :: r9) st A = rg v (exG TB d 124 238 (a0 :: a1 :: some v :: r9) (v :: st) A) := x_rg (op := o_aload 2 1) rfl rfl
theorem x_124_238  : exG TB d 124 238 (some v :: r9) st A = rg v (exG TB d 124 239 (some v :: r9) (v :: st) A) := x_rg (op := o_aload 0 1) rfl rfl
theorem x_124_239  : exG TB d 124 239 (a0 :: a1 :: a2 :: a3 :: a4 :: some (.int i1) :: r9) st A = exG TB d 124 241 (a0 :: a1 :: a2 :: a3 :: a4 :: some (.int i1) :: r9) (.int i1 :: st) A := x_nx (op := o_iload 5 2) rfl rfl
theorem x_124_241  : exG TB d 124 241 L st A = exG TB d 124 242 L (.int (nI 1) :: st) A := x_nx (op := o_push 1 (.int 1)) rfl rfl
theorem x_124_242  : exG TB d 124 242 L (.int i2 :: .int i1 :: st) A = exG TB d 124 243 L (.int (i1 + i2) :: st) A := x_nx (op := o_iop (fun x y => x + y)) rfl rfl
theorem x_124_243  : exG TB d 124 243 L (.int i1 :: .ref p :: st) A = ki (rdI 0 (gas A p) i1) d 124 244 L st A := x_bd (op := o_rdIs 0) rfl rfl (fun _ => rfl)
theorem x_124_244  : exG TB d 124 244 L [b0, .ref p] A = kw (sel (gc A p) [(30, 290)]) [.ref p, b0] d 124 247 L [] A := x_cvb (op := o_cv [(30, 290)] 1 3 false none) rfl rfl x_noh rfl
theorem x_124_247  : exG TB d 124 247 (a0 :: a1 :: a2 :: a3 :: a4 :: a5 :: a6 :: a7 :: r9) (.int i1 :: st) A = exG TB d 124 249 (a0 :: a1 :: a2 :: a3 :: a4 :: a5 :: a6 :: some (.int i1) :: r9) st A := x_nx (op := o_istore 7 2) rfl rfl
theorem x_124_249  : exG TB d 124 249 (a0 :: a1 :: some v :: r9) st A = rg v (exG TB d 124 250 (a0 :: a1 :: some v :: r9) (v :: st) A) := x_rg (op := o_aload 2 1) rfl rfl
theorem x_124_250  : exG TB d 124 250 L [.ref p] A = kw (sel (gc A p) [(30, 289)]) [.ref p] d 124 253 L [] A := x_cvb (op := o_cv [(30, 289)] 0 3 false none) rfl rfl x_noh rfl
theorem x_124_253  : exG TB d 124 253 (a0 :: a1 :: a2 :: a3 :: a4 :: a5 :: some (.int i1) :: r9) st A = exG TB d 124 255 (a0 :: a1 :: a2 :: a3 :: a4 :: a5 :: some (.int i1) :: r9) (.int i1 :: st) A := x_nx (op := o_iload 6 2) rfl rfl
theorem x_124_255  : exG TB d 124 255 L (.int i2 :: .int i1 :: st) A = if i1 = i2 then exG TB d 124 260 L st A else exG TB d 124 258 L st A := x_if (op := o_icmp (fun x y => decide (x = y)) 260) rfl rfl rfl
theorem x_124_258  : exG TB d 124 258 L st A = exG TB d 124 259 L (.int (nI 0) :: st) A := x_nx (op := o_push 1 (.int 0)) rfl rfl
theorem x_124_259  : exG TB d 124 259 L [v] A = ck (okv 5 v) (some (.inl (some v), A)) := x_outg (op := o_ret 5) rfl rfl
theorem x_124_260  : exG TB d 124 260 (a0 :: a1 :: a2 :: a3 :: a4 :: a5 :: some (.int i1) :: r9) st A = exG TB d 124 262 (a0 :: a1 :: a2 :: a3 :: a4 :: a5 :: some (.int i1) :: r9) (.int i1 :: st) A := x_nx (op := o_iload 6 2) rfl rfl
theorem x_124_262  : exG TB d 124 262 L (.int i1 :: st) A = if ¬ i1 = nI 0 then exG TB d 124 277 L st A else exG TB d 124 265 L st A := x_if (op := o_if (fun x => decide (¬ x = 0)) 277) rfl rfl rfl
theorem x_124_265  : exG TB d 124 265 (a0 :: a1 :: a2 :: some v :: r9) st A = rg v (exG TB d 124 266 (a0 :: a1 :: a2 :: some v :: r9) (v :: st) A) := x_rg (op := o_aload 3 1) rfl rfl
theorem x_124_266  : exG TB d 124 266 L st A = exG TB d 124 267 L (.int (nI 0) :: st) A := x_nx (op := o_push 1 (.int 0)) rfl rfl
theorem x_124_267  : exG TB d 124 267 L (.int i1 :: .ref p :: st) A = kj (rdJ (ga A p) i1) d 124 268 L st A := x_bd (op := o_rdJ) rfl rfl (fun _ => rfl)
theorem x_124_268  : exG TB d 124 268 (a0 :: a1 :: a2 :: a3 :: a4 :: a5 :: a6 :: some (.int i1) :: r9) st A = exG TB d 124 270 (a0 :: a1 :: a2 :: a3 :: a4 :: a5 :: a6 :: some (.int i1) :: r9) (.int i1 :: st) A := x_nx (op := o_iload 7 2) rfl rfl
theorem x_124_270  : exG TB d 124 270 L (.int i1 :: st) A = exG TB d 124 271 L (.long i1.toInt64 :: st) A := x_nx (op := o_i2l) rfl rfl
theorem x_124_271  : exG TB d 124 271 L (.long l2 :: .long l1 :: st) A = exG TB d 124 272 L (.int (lg_cmp l1 l2) :: st) A := x_nx (op := o_lcmp) rfl rfl
theorem x_124_272  : exG TB d 124 272 L (.int i1 :: st) A = if i1 = nI 0 then exG TB d 124 277 L st A else exG TB d 124 275 L st A := x_if (op := o_if (fun x => decide (x = 0)) 277) rfl rfl rfl
theorem x_124_275  : exG TB d 124 275 L st A = exG TB d 124 276 L (.int (nI 0) :: st) A := x_nx (op := o_push 1 (.int 0)) rfl rfl
theorem x_124_276  : exG TB d 124 276 L [v] A = ck (okv 5 v) (some (.inl (some v), A)) := x_outg (op := o_ret 5) rfl rfl
theorem x_124_277  : exG TB d 124 277 L st A = exG TB d 124 2693 L st A := x_nx (op := o_goto 2693) rfl rfl
theorem x_124_280  : exG TB d 124 280 (a0 :: some v :: r9) st A = rg v (exG TB d 124 281 (a0 :: some v :: r9) (v :: st) A) := x_rg (op := o_aload 1 1) rfl rfl
theorem x_124_281  : exG TB d 124 281 (some v :: r9) st A = rg v (exG TB d 124 282 (some v :: r9) (v :: st) A) := x_rg (op := o_aload 0 1) rfl rfl
theorem x_124_282  : exG TB d 124 282 (a0 :: a1 :: a2 :: a3 :: a4 :: some (.int i1) :: r9) st A = exG TB d 124 284 (a0 :: a1 :: a2 :: a3 :: a4 :: some (.int i1) :: r9) (.int i1 :: st) A := x_nx (op := o_iload 5 2) rfl rfl
theorem x_124_284  : exG TB d 124 284 L st A = exG TB d 124 285 L (.int (nI 1) :: st) A := x_nx (op := o_push 1 (.int 1)) rfl rfl
theorem x_124_285  : exG TB d 124 285 L (.int i2 :: .int i1 :: st) A = exG TB d 124 286 L (.int (i1 + i2) :: st) A := x_nx (op := o_iop (fun x y => x + y)) rfl rfl
theorem x_124_286  : exG TB d 124 286 L (.int i1 :: .ref p :: st) A = ki (rdI 0 (gas A p) i1) d 124 287 L st A := x_bd (op := o_rdIs 0) rfl rfl (fun _ => rfl)
theorem x_124_287  : exG TB d 124 287 (a0 :: a1 :: a2 :: some v :: r9) st A = rg v (exG TB d 124 288 (a0 :: a1 :: a2 :: some v :: r9) (v :: st) A) := x_rg (op := o_aload 3 1) rfl rfl
theorem x_124_288  : exG TB d 124 288 L [b2, b1, b0] A = kc (evG TB d 126 [b0, b1, b2] A) d 124 291 L [] := x_cv (op := o_cs 126 3 false none) rfl rfl x_noh rfl
theorem x_124_291  : exG TB d 124 291 (a0 :: a1 :: a2 :: a3 :: a4 :: a5 :: a6 :: r9) (.int i1 :: st) A = exG TB d 124 293 (a0 :: a1 :: a2 :: a3 :: a4 :: a5 :: some (.int i1) :: r9) st A := x_nx (op := o_istore 6 2) rfl rfl
theorem x_124_293  : exG TB d 124 293 (a0 :: a1 :: some v :: r9) st A = rg v (exG TB d 124 294 (a0 :: a1 :: some v :: r9) (v :: st) A) := x_rg (op := o_aload 2 1) rfl rfl
theorem x_124_294  : exG TB d 124 294 (some v :: r9) st A = rg v (exG TB d 124 295 (some v :: r9) (v :: st) A) := x_rg (op := o_aload 0 1) rfl rfl
theorem x_124_295  : exG TB d 124 295 (a0 :: a1 :: a2 :: a3 :: a4 :: some (.int i1) :: r9) st A = exG TB d 124 297 (a0 :: a1 :: a2 :: a3 :: a4 :: some (.int i1) :: r9) (.int i1 :: st) A := x_nx (op := o_iload 5 2) rfl rfl
theorem x_124_297  : exG TB d 124 297 L st A = exG TB d 124 298 L (.int (nI 1) :: st) A := x_nx (op := o_push 1 (.int 1)) rfl rfl
theorem x_124_298  : exG TB d 124 298 L (.int i2 :: .int i1 :: st) A = exG TB d 124 299 L (.int (i1 + i2) :: st) A := x_nx (op := o_iop (fun x y => x + y)) rfl rfl
theorem x_124_299  : exG TB d 124 299 L (.int i1 :: .ref p :: st) A = ki (rdI 0 (gas A p) i1) d 124 300 L st A := x_bd (op := o_rdIs 0) rfl rfl (fun _ => rfl)
theorem x_124_300  : exG TB d 124 300 L [b0, .ref p] A = kw (sel (gc A p) [(30, 292)]) [.ref p, b0] d 124 303 L [] A := x_cvb (op := o_cv [(30, 292)] 1 3 false none) rfl rfl x_noh rfl
theorem x_124_303  : exG TB d 124 303 (a0 :: a1 :: a2 :: a3 :: a4 :: a5 :: a6 :: a7 :: r9) (.int i1 :: st) A = exG TB d 124 305 (a0 :: a1 :: a2 :: a3 :: a4 :: a5 :: a6 :: some (.int i1) :: r9) st A := x_nx (op := o_istore 7 2) rfl rfl
theorem x_124_305  : exG TB d 124 305 (a0 :: a1 :: some v :: r9) st A = rg v (exG TB d 124 306 (a0 :: a1 :: some v :: r9) (v :: st) A) := x_rg (op := o_aload 2 1) rfl rfl
theorem x_124_306  : exG TB d 124 306 L [.ref p] A = kw (sel (gc A p) [(30, 289)]) [.ref p] d 124 309 L [] A := x_cvb (op := o_cv [(30, 289)] 0 3 false none) rfl rfl x_noh rfl
theorem x_124_309  : exG TB d 124 309 (a0 :: a1 :: a2 :: a3 :: a4 :: a5 :: some (.int i1) :: r9) st A = exG TB d 124 311 (a0 :: a1 :: a2 :: a3 :: a4 :: a5 :: some (.int i1) :: r9) (.int i1 :: st) A := x_nx (op := o_iload 6 2) rfl rfl
theorem x_124_311  : exG TB d 124 311 L (.int i2 :: .int i1 :: st) A = if i1 = i2 then exG TB d 124 316 L st A else exG TB d 124 314 L st A := x_if (op := o_icmp (fun x y => decide (x = y)) 316) rfl rfl rfl
theorem x_124_314  : exG TB d 124 314 L st A = exG TB d 124 315 L (.int (nI 0) :: st) A := x_nx (op := o_push 1 (.int 0)) rfl rfl
theorem x_124_315  : exG TB d 124 315 L [v] A = ck (okv 5 v) (some (.inl (some v), A)) := x_outg (op := o_ret 5) rfl rfl
theorem x_124_316  : exG TB d 124 316 (a0 :: a1 :: a2 :: a3 :: a4 :: a5 :: some (.int i1) :: r9) st A = exG TB d 124 318 (a0 :: a1 :: a2 :: a3 :: a4 :: a5 :: some (.int i1) :: r9) (.int i1 :: st) A := x_nx (op := o_iload 6 2) rfl rfl
theorem x_124_318  : exG TB d 124 318 L (.int i1 :: st) A = if ¬ i1 = nI 0 then exG TB d 124 333 L st A else exG TB d 124 321 L st A := x_if (op := o_if (fun x => decide (¬ x = 0)) 333) rfl rfl rfl
theorem x_124_321  : exG TB d 124 321 (a0 :: a1 :: a2 :: some v :: r9) st A = rg v (exG TB d 124 322 (a0 :: a1 :: a2 :: some v :: r9) (v :: st) A) := x_rg (op := o_aload 3 1) rfl rfl
theorem x_124_322  : exG TB d 124 322 L st A = exG TB d 124 323 L (.int (nI 0) :: st) A := x_nx (op := o_push 1 (.int 0)) rfl rfl
theorem x_124_323  : exG TB d 124 323 L (.int i1 :: .ref p :: st) A = kj (rdJ (ga A p) i1) d 124 324 L st A := x_bd (op := o_rdJ) rfl rfl (fun _ => rfl)
theorem x_124_324  : exG TB d 124 324 (a0 :: a1 :: a2 :: a3 :: a4 :: a5 :: a6 :: some (.int i1) :: r9) st A = exG TB d 124 326 (a0 :: a1 :: a2 :: a3 :: a4 :: a5 :: a6 :: some (.int i1) :: r9) (.int i1 :: st) A := x_nx (op := o_iload 7 2) rfl rfl
theorem x_124_326  : exG TB d 124 326 L (.int i1 :: st) A = exG TB d 124 327 L (.long i1.toInt64 :: st) A := x_nx (op := o_i2l) rfl rfl
theorem x_124_327  : exG TB d 124 327 L (.long l2 :: .long l1 :: st) A = exG TB d 124 328 L (.int (lg_cmp l1 l2) :: st) A := x_nx (op := o_lcmp) rfl rfl
theorem x_124_328  : exG TB d 124 328 L (.int i1 :: st) A = if i1 = nI 0 then exG TB d 124 333 L st A else exG TB d 124 331 L st A := x_if (op := o_if (fun x => decide (x = 0)) 333) rfl rfl rfl
theorem x_124_331  : exG TB d 124 331 L st A = exG TB d 124 332 L (.int (nI 0) :: st) A := x_nx (op := o_push 1 (.int 0)) rfl rfl
theorem x_124_332  : exG TB d 124 332 L [v] A = ck (okv 5 v) (some (.inl (some v), A)) := x_outg (op := o_ret 5) rfl rfl
theorem x_124_333  : exG TB d 124 333 L st A = exG TB d 124 2693 L st A := x_nx (op := o_goto 2693) rfl rfl
theorem x_124_336  : exG TB d 124 336 (a0 :: some v :: r9) st A = rg v (exG TB d 124 337 (a0 :: some v :: r9) (v :: st) A) := x_rg (op := o_aload 1 1) rfl rfl
theorem x_124_337  : exG TB d 124 337 L [.ref p] A = kw (sel (gc A p) [(0, 164)]) [.ref p] d 124 340 L [] A := x_cvb (op := o_cv [(0, 164)] 0 3 false none) rfl rfl x_noh rfl
theorem x_124_340  : exG TB d 124 340 (a0 :: a1 :: some v :: r9) st A = rg v (exG TB d 124 341 (a0 :: a1 :: some v :: r9) (v :: st) A) := x_rg (op := o_aload 2 1) rfl rfl
theorem x_124_341  : exG TB d 124 341 L [.ref p, w0] A = kw (sel (gc A p) [(30, 294)]) [.ref p] d 124 344 L [w0] A := x_cvb (op := o_cv [(30, 294)] 0 3 false none) rfl rfl x_noh rfl
theorem x_124_344  : exG TB d 124 344 L (.int i2 :: .int i1 :: st) A = if i1 = i2 then exG TB d 124 2693 L st A else exG TB d 124 347 L st A := x_if (op := o_icmp (fun x y => decide (x = y)) 2693) rfl rfl rfl
theorem x_124_347  : exG TB d 124 347 L st A = exG TB d 124 348 L (.int (nI 0) :: st) A := x_nx (op := o_push 1 (.int 0)) rfl rfl
theorem x_124_348  : exG TB d 124 348 L [v] A = ck (okv 5 v) (some (.inl (some v), A)) := x_outg (op := o_ret 5) rfl rfl
theorem x_124_349  : exG TB d 124 349 (a0 :: some v :: r9) st A = rg v (exG TB d 124 350 (a0 :: some v :: r9) (v :: st) A) := x_rg (op := o_aload 1 1) rfl rfl
theorem x_124_350  : exG TB d 124 350 L [.ref p] A = kw (sel (gc A p) [(0, 167)]) [.ref p] d 124 353 L [] A := x_cvb (op := o_cv [(0, 167)] 0 3 false none) rfl rfl x_noh rfl
theorem x_124_353  : exG TB d 124 353 (a0 :: a1 :: some v :: r9) st A = rg v (exG TB d 124 354 (a0 :: a1 :: some v :: r9) (v :: st) A) := x_rg (op := o_aload 2 1) rfl rfl
theorem x_124_354  : exG TB d 124 354 L [.ref p, w0] A = kw (sel (gc A p) [(30, 319)]) [.ref p] d 124 357 L [w0] A := x_cvb (op := o_cv [(30, 319)] 0 3 false none) rfl rfl x_noh rfl
theorem x_124_357  : exG TB d 124 357 L (.int i2 :: .int i1 :: st) A = if i1 = i2 then exG TB d 124 2693 L st A else exG TB d 124 360 L st A := x_if (op := o_icmp (fun x y => decide (x = y)) 2693) rfl rfl rfl
theorem x_124_360  : exG TB d 124 360 L st A = exG TB d 124 361 L (.int (nI 0) :: st) A := x_nx (op := o_push 1 (.int 0)) rfl rfl
theorem x_124_361  : exG TB d 124 361 L [v] A = ck (okv 5 v) (some (.inl (some v), A)) := x_outg (op := o_ret 5) rfl rfl
theorem x_124_362  : exG TB d 124 362 (a0 :: some v :: r9) st A = rg v (exG TB d 124 363 (a0 :: some v :: r9) (v :: st) A) := x_rg (op := o_aload 1 1) rfl rfl
theorem x_124_363  : exG TB d 124 363 L [.ref p] A = kw (sel (gc A p) [(0, 168)]) [.ref p] d 124 366 L [] A := x_cvb (op := o_cv [(0, 168)] 0 3 false none) rfl rfl x_noh rfl
theorem x_124_366  : exG TB d 124 366 (a0 :: a1 :: some v :: r9) st A = rg v (exG TB d 124 367 (a0 :: a1 :: some v :: r9) (v :: st) A) := x_rg (op := o_aload 2 1) rfl rfl
theorem x_124_367  : exG TB d 124 367 L [.ref p, w0] A = kw (sel (gc A p) [(30, 320)]) [.ref p] d 124 370 L [w0] A := x_cvb (op := o_cv [(30, 320)] 0 3 false none) rfl rfl x_noh rfl
theorem x_124_370  : exG TB d 124 370 L (.int i2 :: .int i1 :: st) A = if i1 = i2 then exG TB d 124 2693 L st A else exG TB d 124 373 L st A := x_if (op := o_icmp (fun x y => decide (x = y)) 2693) rfl rfl rfl
theorem x_124_373  : exG TB d 124 373 L st A = exG TB d 124 374 L (.int (nI 0) :: st) A := x_nx (op := o_push 1 (.int 0)) rfl rfl
theorem x_124_374  : exG TB d 124 374 L [v] A = ck (okv 5 v) (some (.inl (some v), A)) := x_outg (op := o_ret 5) rfl rfl
theorem x_124_375  : exG TB d 124 375 (a0 :: some v :: r9) st A = rg v (exG TB d 124 376 (a0 :: some v :: r9) (v :: st) A) := x_rg (op := o_aload 1 1) rfl rfl
theorem x_124_376  : exG TB d 124 376 (some v :: r9) st A = rg v (exG TB d 124 377 (some v :: r9) (v :: st) A) := x_rg (op := o_aload 0 1) rfl rfl
theorem x_124_377  : exG TB d 124 377 (a0 :: a1 :: a2 :: a3 :: a4 :: some (.int i1) :: r9) st A = exG TB d 124 379 (a0 :: a1 :: a2 :: a3 :: a4 :: some (.int i1) :: r9) (.int i1 :: st) A := x_nx (op := o_iload 5 2) rfl rfl
theorem x_124_379  : exG TB d 124 379 L st A = exG TB d 124 380 L (.int (nI 1) :: st) A := x_nx (op := o_push 1 (.int 1)) rfl rfl
theorem x_124_380  : exG TB d 124 380 L (.int i2 :: .int i1 :: st) A = exG TB d 124 381 L (.int (i1 + i2) :: st) A := x_nx (op := o_iop (fun x y => x + y)) rfl rfl
theorem x_124_381  : exG TB d 124 381 L (.int i1 :: .ref p :: st) A = ki (rdI 0 (gas A p) i1) d 124 382 L st A := x_bd (op := o_rdIs 0) rfl rfl (fun _ => rfl)
theorem x_124_382  : exG TB d 124 382 (a0 :: a1 :: a2 :: some v :: r9) st A = rg v (exG TB d 124 383 (a0 :: a1 :: a2 :: some v :: r9) (v :: st) A) := x_rg (op := o_aload 3 1) rfl rfl
theorem x_124_383  : exG TB d 124 383 L [b2, b1, b0] A = kc (evG TB d 127 [b0, b1, b2] A) d 124 386 L [] := x_cv (op := o_cs 127 3 false none) rfl rfl x_noh rfl
theorem x_124_386  : exG TB d 124 386 (a0 :: a1 :: a2 :: a3 :: a4 :: a5 :: a6 :: r9) (.int i1 :: st) A = exG TB d 124 388 (a0 :: a1 :: a2 :: a3 :: a4 :: a5 :: some (.int i1) :: r9) st A := x_nx (op := o_istore 6 2) rfl rfl
theorem x_124_388  : exG TB d 124 388 (a0 :: a1 :: some v :: r9) st A = rg v (exG TB d 124 389 (a0 :: a1 :: some v :: r9) (v :: st) A) := x_rg (op := o_aload 2 1) rfl rfl
theorem x_124_389  : exG TB d 124 389 (some v :: r9) st A = rg v (exG TB d 124 390 (some v :: r9) (v :: st) A) := x_rg (op := o_aload 0 1) rfl rfl
theorem x_124_390  : exG TB d 124 390 (a0 :: a1 :: a2 :: a3 :: a4 :: some (.int i1) :: r9) st A = exG TB d 124 392 (a0 :: a1 :: a2 :: a3 :: a4 :: some (.int i1) :: r9) (.int i1 :: st) A := x_nx (op := o_iload 5 2) rfl rfl
theorem x_124_392  : exG TB d 124 392 L st A = exG TB d 124 393 L (.int (nI 1) :: st) A := x_nx (op := o_push 1 (.int 1)) rfl rfl
theorem x_124_393  : exG TB d 124 393 L (.int i2 :: .int i1 :: st) A = exG TB d 124 394 L (.int (i1 + i2) :: st) A := x_nx (op := o_iop (fun x y => x + y)) rfl rfl
theorem x_124_394  : exG TB d 124 394 L (.int i1 :: .ref p :: st) A = ki (rdI 0 (gas A p) i1) d 124 395 L st A := x_bd (op := o_rdIs 0) rfl rfl (fun _ => rfl)
theorem x_124_395  : exG TB d 124 395 L [b0, .ref p] A = kw (sel (gc A p) [(30, 321)]) [.ref p, b0] d 124 398 L [] A := x_cvb (op := o_cv [(30, 321)] 1 3 false none) rfl rfl x_noh rfl
theorem x_124_398  : exG TB d 124 398 (a0 :: a1 :: a2 :: a3 :: a4 :: a5 :: a6 :: a7 :: r9) (.int i1 :: st) A = exG TB d 124 400 (a0 :: a1 :: a2 :: a3 :: a4 :: a5 :: a6 :: some (.int i1) :: r9) st A := x_nx (op := o_istore 7 2) rfl rfl
theorem x_124_400  : exG TB d 124 400 (a0 :: a1 :: some v :: r9) st A = rg v (exG TB d 124 401 (a0 :: a1 :: some v :: r9) (v :: st) A) := x_rg (op := o_aload 2 1) rfl rfl
theorem x_124_401  : exG TB d 124 401 L [.ref p] A = kw (sel (gc A p) [(30, 289)]) [.ref p] d 124 404 L [] A := x_cvb (op := o_cv [(30, 289)] 0 3 false none) rfl rfl x_noh rfl
theorem x_124_404  : exG TB d 124 404 (a0 :: a1 :: a2 :: a3 :: a4 :: a5 :: some (.int i1) :: r9) st A = exG TB d 124 406 (a0 :: a1 :: a2 :: a3 :: a4 :: a5 :: some (.int i1) :: r9) (.int i1 :: st) A := x_nx (op := o_iload 6 2) rfl rfl
theorem x_124_406  : exG TB d 124 406 L (.int i2 :: .int i1 :: st) A = if i1 = i2 then exG TB d 124 411 L st A else exG TB d 124 409 L st A := x_if (op := o_icmp (fun x y => decide (x = y)) 411) rfl rfl rfl
theorem x_124_409  : exG TB d 124 409 L st A = exG TB d 124 410 L (.int (nI 0) :: st) A := x_nx (op := o_push 1 (.int 0)) rfl rfl
theorem x_124_410  : exG TB d 124 410 L [v] A = ck (okv 5 v) (some (.inl (some v), A)) := x_outg (op := o_ret 5) rfl rfl
theorem x_124_411  : exG TB d 124 411 (a0 :: a1 :: a2 :: a3 :: a4 :: a5 :: some (.int i1) :: r9) st A = exG TB d 124 413 (a0 :: a1 :: a2 :: a3 :: a4 :: a5 :: some (.int i1) :: r9) (.int i1 :: st) A := x_nx (op := o_iload 6 2) rfl rfl
theorem x_124_413  : exG TB d 124 413 L (.int i1 :: st) A = if ¬ i1 = nI 0 then exG TB d 124 428 L st A else exG TB d 124 416 L st A := x_if (op := o_if (fun x => decide (¬ x = 0)) 428) rfl rfl rfl
theorem x_124_416  : exG TB d 124 416 (a0 :: a1 :: a2 :: some v :: r9) st A = rg v (exG TB d 124 417 (a0 :: a1 :: a2 :: some v :: r9) (v :: st) A) := x_rg (op := o_aload 3 1) rfl rfl
theorem x_124_417  : exG TB d 124 417 L st A = exG TB d 124 418 L (.int (nI 0) :: st) A := x_nx (op := o_push 1 (.int 0)) rfl rfl
theorem x_124_418  : exG TB d 124 418 L (.int i1 :: .ref p :: st) A = kj (rdJ (ga A p) i1) d 124 419 L st A := x_bd (op := o_rdJ) rfl rfl (fun _ => rfl)
theorem x_124_419  : exG TB d 124 419 (a0 :: a1 :: a2 :: a3 :: a4 :: a5 :: a6 :: some (.int i1) :: r9) st A = exG TB d 124 421 (a0 :: a1 :: a2 :: a3 :: a4 :: a5 :: a6 :: some (.int i1) :: r9) (.int i1 :: st) A := x_nx (op := o_iload 7 2) rfl rfl
theorem x_124_421  : exG TB d 124 421 L (.int i1 :: st) A = exG TB d 124 422 L (.long i1.toInt64 :: st) A := x_nx (op := o_i2l) rfl rfl
theorem x_124_422  : exG TB d 124 422 L (.long l2 :: .long l1 :: st) A = exG TB d 124 423 L (.int (lg_cmp l1 l2) :: st) A := x_nx (op := o_lcmp) rfl rfl
theorem x_124_423  : exG TB d 124 423 L (.int i1 :: st) A = if i1 = nI 0 then exG TB d 124 428 L st A else exG TB d 124 426 L st A := x_if (op := o_if (fun x => decide (x = 0)) 428) rfl rfl rfl
theorem x_124_426  : exG TB d 124 426 L st A = exG TB d 124 427 L (.int (nI 0) :: st) A := x_nx (op := o_push 1 (.int 0)) rfl rfl
theorem x_124_427  : exG TB d 124 427 L [v] A = ck (okv 5 v) (some (.inl (some v), A)) := x_outg (op := o_ret 5) rfl rfl
theorem x_124_428  : exG TB d 124 428 L st A = exG TB d 124 2693 L st A := x_nx (op := o_goto 2693) rfl rfl
theorem x_124_431  : exG TB d 124 431 (a0 :: some v :: r9) st A = rg v (exG TB d 124 432 (a0 :: some v :: r9) (v :: st) A) := x_rg (op := o_aload 1 1) rfl rfl
theorem x_124_432  : exG TB d 124 432 (some v :: r9) st A = rg v (exG TB d 124 433 (some v :: r9) (v :: st) A) := x_rg (op := o_aload 0 1) rfl rfl
theorem x_124_433  : exG TB d 124 433 (a0 :: a1 :: a2 :: a3 :: a4 :: some (.int i1) :: r9) st A = exG TB d 124 435 (a0 :: a1 :: a2 :: a3 :: a4 :: some (.int i1) :: r9) (.int i1 :: st) A := x_nx (op := o_iload 5 2) rfl rfl
theorem x_124_435  : exG TB d 124 435 L st A = exG TB d 124 436 L (.int (nI 1) :: st) A := x_nx (op := o_push 1 (.int 1)) rfl rfl
theorem x_124_436  : exG TB d 124 436 L (.int i2 :: .int i1 :: st) A = exG TB d 124 437 L (.int (i1 + i2) :: st) A := x_nx (op := o_iop (fun x y => x + y)) rfl rfl
theorem x_124_437  : exG TB d 124 437 L (.int i1 :: .ref p :: st) A = ki (rdI 0 (gas A p) i1) d 124 438 L st A := x_bd (op := o_rdIs 0) rfl rfl (fun _ => rfl)
theorem x_124_438  : exG TB d 124 438 (some v :: r9) st A = rg v (exG TB d 124 439 (some v :: r9) (v :: st) A) := x_rg (op := o_aload 0 1) rfl rfl
theorem x_124_439  : exG TB d 124 439 (a0 :: a1 :: a2 :: a3 :: a4 :: some (.int i1) :: r9) st A = exG TB d 124 441 (a0 :: a1 :: a2 :: a3 :: a4 :: some (.int i1) :: r9) (.int i1 :: st) A := x_nx (op := o_iload 5 2) rfl rfl
theorem x_124_441  : exG TB d 124 441 L st A = exG TB d 124 442 L (.int (nI 2) :: st) A := x_nx (op := o_push 1 (.int 2)) rfl rfl
theorem x_124_442  : exG TB d 124 442 L (.int i2 :: .int i1 :: st) A = exG TB d 124 443 L (.int (i1 + i2) :: st) A := x_nx (op := o_iop (fun x y => x + y)) rfl rfl
theorem x_124_443  : exG TB d 124 443 L (.int i1 :: .ref p :: st) A = ki (rdI 0 (gas A p) i1) d 124 444 L st A := x_bd (op := o_rdIs 0) rfl rfl (fun _ => rfl)
theorem x_124_444  : exG TB d 124 444 (some v :: r9) st A = rg v (exG TB d 124 445 (some v :: r9) (v :: st) A) := x_rg (op := o_aload 0 1) rfl rfl
theorem x_124_445  : exG TB d 124 445 (a0 :: a1 :: a2 :: a3 :: a4 :: some (.int i1) :: r9) st A = exG TB d 124 447 (a0 :: a1 :: a2 :: a3 :: a4 :: some (.int i1) :: r9) (.int i1 :: st) A := x_nx (op := o_iload 5 2) rfl rfl
theorem x_124_447  : exG TB d 124 447 L st A = exG TB d 124 448 L (.int (nI 3) :: st) A := x_nx (op := o_push 1 (.int 3)) rfl rfl
theorem x_124_448  : exG TB d 124 448 L (.int i2 :: .int i1 :: st) A = exG TB d 124 449 L (.int (i1 + i2) :: st) A := x_nx (op := o_iop (fun x y => x + y)) rfl rfl
theorem x_124_449  : exG TB d 124 449 L (.int i1 :: .ref p :: st) A = ki (rdI 0 (gas A p) i1) d 124 450 L st A := x_bd (op := o_rdIs 0) rfl rfl (fun _ => rfl)
theorem x_124_450  : exG TB d 124 450 (some v :: r9) st A = rg v (exG TB d 124 451 (some v :: r9) (v :: st) A) := x_rg (op := o_aload 0 1) rfl rfl
theorem x_124_451  : exG TB d 124 451 (a0 :: a1 :: a2 :: a3 :: a4 :: some (.int i1) :: r9) st A = exG TB d 124 453 (a0 :: a1 :: a2 :: a3 :: a4 :: some (.int i1) :: r9) (.int i1 :: st) A := x_nx (op := o_iload 5 2) rfl rfl
theorem x_124_453  : exG TB d 124 453 L st A = exG TB d 124 454 L (.int (nI 4) :: st) A := x_nx (op := o_push 1 (.int 4)) rfl rfl
theorem x_124_454  : exG TB d 124 454 L (.int i2 :: .int i1 :: st) A = exG TB d 124 455 L (.int (i1 + i2) :: st) A := x_nx (op := o_iop (fun x y => x + y)) rfl rfl
theorem x_124_455  : exG TB d 124 455 L (.int i1 :: .ref p :: st) A = ki (rdI 0 (gas A p) i1) d 124 456 L st A := x_bd (op := o_rdIs 0) rfl rfl (fun _ => rfl)
theorem x_124_456  : exG TB d 124 456 (a0 :: a1 :: a2 :: some v :: r9) st A = rg v (exG TB d 124 457 (a0 :: a1 :: a2 :: some v :: r9) (v :: st) A) := x_rg (op := o_aload 3 1) rfl rfl
theorem x_124_457  : exG TB d 124 457 L [b5, b4, b3, b2, b1, b0] A = kc (evG TB d 128 [b0, b1, b2, b3, b4, b5] A) d 124 460 L [] := x_cv (op := o_cs 128 6 false none) rfl rfl x_noh rfl
theorem x_124_460  : exG TB d 124 460 (a0 :: a1 :: a2 :: a3 :: a4 :: a5 :: a6 :: r9) (.int i1 :: st) A = exG TB d 124 462 (a0 :: a1 :: a2 :: a3 :: a4 :: a5 :: some (.int i1) :: r9) st A := x_nx (op := o_istore 6 2) rfl rfl
theorem x_124_462  : exG TB d 124 462 (a0 :: a1 :: some v :: r9) st A = rg v (exG TB d 124 463 (a0 :: a1 :: some v :: r9) (v :: st) A) := x_rg (op := o_aload 2 1) rfl rfl
theorem x_124_463  : exG TB d 124 463 (some v :: r9) st A = rg v (exG TB d 124 464 (some v :: r9) (v :: st) A) := x_rg (op := o_aload 0 1) rfl rfl
theorem x_124_464  : exG TB d 124 464 (a0 :: a1 :: a2 :: a3 :: a4 :: some (.int i1) :: r9) st A = exG TB d 124 466 (a0 :: a1 :: a2 :: a3 :: a4 :: some (.int i1) :: r9) (.int i1 :: st) A := x_nx (op := o_iload 5 2) rfl rfl
theorem x_124_466  : exG TB d 124 466 L st A = exG TB d 124 467 L (.int (nI 1) :: st) A := x_nx (op := o_push 1 (.int 1)) rfl rfl
theorem x_124_467  : exG TB d 124 467 L (.int i2 :: .int i1 :: st) A = exG TB d 124 468 L (.int (i1 + i2) :: st) A := x_nx (op := o_iop (fun x y => x + y)) rfl rfl
theorem x_124_468  : exG TB d 124 468 L (.int i1 :: .ref p :: st) A = ki (rdI 0 (gas A p) i1) d 124 469 L st A := x_bd (op := o_rdIs 0) rfl rfl (fun _ => rfl)
theorem x_124_469  : exG TB d 124 469 (some v :: r9) st A = rg v (exG TB d 124 470 (some v :: r9) (v :: st) A) := x_rg (op := o_aload 0 1) rfl rfl
theorem x_124_470  : exG TB d 124 470 (a0 :: a1 :: a2 :: a3 :: a4 :: some (.int i1) :: r9) st A = exG TB d 124 472 (a0 :: a1 :: a2 :: a3 :: a4 :: some (.int i1) :: r9) (.int i1 :: st) A := x_nx (op := o_iload 5 2) rfl rfl
theorem x_124_472  : exG TB d 124 472 L st A = exG TB d 124 473 L (.int (nI 2) :: st) A := x_nx (op := o_push 1 (.int 2)) rfl rfl
theorem x_124_473  : exG TB d 124 473 L (.int i2 :: .int i1 :: st) A = exG TB d 124 474 L (.int (i1 + i2) :: st) A := x_nx (op := o_iop (fun x y => x + y)) rfl rfl
theorem x_124_474  : exG TB d 124 474 L (.int i1 :: .ref p :: st) A = ki (rdI 0 (gas A p) i1) d 124 475 L st A := x_bd (op := o_rdIs 0) rfl rfl (fun _ => rfl)
theorem x_124_475  : exG TB d 124 475 (some v :: r9) st A = rg v (exG TB d 124 476 (some v :: r9) (v :: st) A) := x_rg (op := o_aload 0 1) rfl rfl
theorem x_124_476  : exG TB d 124 476 (a0 :: a1 :: a2 :: a3 :: a4 :: some (.int i1) :: r9) st A = exG TB d 124 478 (a0 :: a1 :: a2 :: a3 :: a4 :: some (.int i1) :: r9) (.int i1 :: st) A := x_nx (op := o_iload 5 2) rfl rfl
theorem x_124_478  : exG TB d 124 478 L st A = exG TB d 124 479 L (.int (nI 3) :: st) A := x_nx (op := o_push 1 (.int 3)) rfl rfl
theorem x_124_479  : exG TB d 124 479 L (.int i2 :: .int i1 :: st) A = exG TB d 124 480 L (.int (i1 + i2) :: st) A := x_nx (op := o_iop (fun x y => x + y)) rfl rfl
theorem x_124_480  : exG TB d 124 480 L (.int i1 :: .ref p :: st) A = ki (rdI 0 (gas A p) i1) d 124 481 L st A := x_bd (op := o_rdIs 0) rfl rfl (fun _ => rfl)
theorem x_124_481  : exG TB d 124 481 (some v :: r9) st A = rg v (exG TB d 124 482 (some v :: r9) (v :: st) A) := x_rg (op := o_aload 0 1) rfl rfl
theorem x_124_482  : exG TB d 124 482 (a0 :: a1 :: a2 :: a3 :: a4 :: some (.int i1) :: r9) st A = exG TB d 124 484 (a0 :: a1 :: a2 :: a3 :: a4 :: some (.int i1) :: r9) (.int i1 :: st) A := x_nx (op := o_iload 5 2) rfl rfl
theorem x_124_484  : exG TB d 124 484 L st A = exG TB d 124 485 L (.int (nI 4) :: st) A := x_nx (op := o_push 1 (.int 4)) rfl rfl
theorem x_124_485  : exG TB d 124 485 L (.int i2 :: .int i1 :: st) A = exG TB d 124 486 L (.int (i1 + i2) :: st) A := x_nx (op := o_iop (fun x y => x + y)) rfl rfl
theorem x_124_486  : exG TB d 124 486 L (.int i1 :: .ref p :: st) A = ki (rdI 0 (gas A p) i1) d 124 487 L st A := x_bd (op := o_rdIs 0) rfl rfl (fun _ => rfl)
theorem x_124_487  : exG TB d 124 487 L [b3, b2, b1, b0, .ref p] A = kw (sel (gc A p) [(30, 322)]) [.ref p, b0, b1, b2, b3] d 124 490 L [] A := x_cvb (op := o_cv [(30, 322)] 4 3 false none) rfl rfl x_noh rfl
theorem x_124_490  : exG TB d 124 490 (a0 :: a1 :: a2 :: a3 :: a4 :: a5 :: a6 :: a7 :: r9) (.int i1 :: st) A = exG TB d 124 492 (a0 :: a1 :: a2 :: a3 :: a4 :: a5 :: a6 :: some (.int i1) :: r9) st A := x_nx (op := o_istore 7 2) rfl rfl
theorem x_124_492  : exG TB d 124 492 (a0 :: a1 :: some v :: r9) st A = rg v (exG TB d 124 493 (a0 :: a1 :: some v :: r9) (v :: st) A) := x_rg (op := o_aload 2 1) rfl rfl
theorem x_124_493  : exG TB d 124 493 L [.ref p] A = kw (sel (gc A p) [(30, 289)]) [.ref p] d 124 496 L [] A := x_cvb (op := o_cv [(30, 289)] 0 3 false none) rfl rfl x_noh rfl
theorem x_124_496  : exG TB d 124 496 (a0 :: a1 :: a2 :: a3 :: a4 :: a5 :: some (.int i1) :: r9) st A = exG TB d 124 498 (a0 :: a1 :: a2 :: a3 :: a4 :: a5 :: some (.int i1) :: r9) (.int i1 :: st) A := x_nx (op := o_iload 6 2) rfl rfl
theorem x_124_498  : exG TB d 124 498 L (.int i2 :: .int i1 :: st) A = if i1 = i2 then exG TB d 124 503 L st A else exG TB d 124 501 L st A := x_if (op := o_icmp (fun x y => decide (x = y)) 503) rfl rfl rfl
theorem x_124_501  : exG TB d 124 501 L st A = exG TB d 124 502 L (.int (nI 0) :: st) A := x_nx (op := o_push 1 (.int 0)) rfl rfl
theorem x_124_502  : exG TB d 124 502 L [v] A = ck (okv 5 v) (some (.inl (some v), A)) := x_outg (op := o_ret 5) rfl rfl
theorem x_124_503  : exG TB d 124 503 (a0 :: a1 :: a2 :: a3 :: a4 :: a5 :: some (.int i1) :: r9) st A = exG TB d 124 505 (a0 :: a1 :: a2 :: a3 :: a4 :: a5 :: some (.int i1) :: r9) (.int i1 :: st) A := x_nx (op := o_iload 6 2) rfl rfl
theorem x_124_505  : exG TB d 124 505 L (.int i1 :: st) A = if ¬ i1 = nI 0 then exG TB d 124 520 L st A else exG TB d 124 508 L st A := x_if (op := o_if (fun x => decide (¬ x = 0)) 520) rfl rfl rfl
theorem x_124_508  : exG TB d 124 508 (a0 :: a1 :: a2 :: some v :: r9) st A = rg v (exG TB d 124 509 (a0 :: a1 :: a2 :: some v :: r9) (v :: st) A) := x_rg (op := o_aload 3 1) rfl rfl
theorem x_124_509  : exG TB d 124 509 L st A = exG TB d 124 510 L (.int (nI 0) :: st) A := x_nx (op := o_push 1 (.int 0)) rfl rfl
theorem x_124_510  : exG TB d 124 510 L (.int i1 :: .ref p :: st) A = kj (rdJ (ga A p) i1) d 124 511 L st A := x_bd (op := o_rdJ) rfl rfl (fun _ => rfl)
theorem x_124_511  : exG TB d 124 511 (a0 :: a1 :: a2 :: a3 :: a4 :: a5 :: a6 :: some (.int i1) :: r9) st A = exG TB d 124 513 (a0 :: a1 :: a2 :: a3 :: a4 :: a5 :: a6 :: some (.int i1) :: r9) (.int i1 :: st) A := x_nx (op := o_iload 7 2) rfl rfl
theorem x_124_513  : exG TB d 124 513 L (.int i1 :: st) A = exG TB d 124 514 L (.long i1.toInt64 :: st) A := x_nx (op := o_i2l) rfl rfl
theorem x_124_514  : exG TB d 124 514 L (.long l2 :: .long l1 :: st) A = exG TB d 124 515 L (.int (lg_cmp l1 l2) :: st) A := x_nx (op := o_lcmp) rfl rfl
theorem x_124_515  : exG TB d 124 515 L (.int i1 :: st) A = if i1 = nI 0 then exG TB d 124 520 L st A else exG TB d 124 518 L st A := x_if (op := o_if (fun x => decide (x = 0)) 520) rfl rfl rfl
theorem x_124_518  : exG TB d 124 518 L st A = exG TB d 124 519 L (.int (nI 0) :: st) A := x_nx (op := o_push 1 (.int 0)) rfl rfl
theorem x_124_519  : exG TB d 124 519 L [v] A = ck (okv 5 v) (some (.inl (some v), A)) := x_outg (op := o_ret 5) rfl rfl
theorem x_124_520  : exG TB d 124 520 L st A = exG TB d 124 2693 L st A := x_nx (op := o_goto 2693) rfl rfl
theorem x_124_523  : exG TB d 124 523 (a0 :: some v :: r9) st A = rg v (exG TB d 124 524 (a0 :: some v :: r9) (v :: st) A) := x_rg (op := o_aload 1 1) rfl rfl
theorem x_124_524  : exG TB d 124 524 (some v :: r9) st A = rg v (exG TB d 124 525 (some v :: r9) (v :: st) A) := x_rg (op := o_aload 0 1) rfl rfl
theorem x_124_525  : exG TB d 124 525 (a0 :: a1 :: a2 :: a3 :: a4 :: some (.int i1) :: r9) st A = exG TB d 124 527 (a0 :: a1 :: a2 :: a3 :: a4 :: some (.int i1) :: r9) (.int i1 :: st) A := x_nx (op := o_iload 5 2) rfl rfl
theorem x_124_527  : exG TB d 124 527 L st A = exG TB d 124 528 L (.int (nI 1) :: st) A := x_nx (op := o_push 1 (.int 1)) rfl rfl
theorem x_124_528  : exG TB d 124 528 L (.int i2 :: .int i1 :: st) A = exG TB d 124 529 L (.int (i1 + i2) :: st) A := x_nx (op := o_iop (fun x y => x + y)) rfl rfl
theorem x_124_529  : exG TB d 124 529 L (.int i1 :: .ref p :: st) A = ki (rdI 0 (gas A p) i1) d 124 530 L st A := x_bd (op := o_rdIs 0) rfl rfl (fun _ => rfl)
theorem x_124_530  : exG TB d 124 530 (some v :: r9) st A = rg v (exG TB d 124 531 (some v :: r9) (v :: st) A) := x_rg (op := o_aload 0 1) rfl rfl
theorem x_124_531  : exG TB d 124 531 (a0 :: a1 :: a2 :: a3 :: a4 :: some (.int i1) :: r9) st A = exG TB d 124 533 (a0 :: a1 :: a2 :: a3 :: a4 :: some (.int i1) :: r9) (.int i1 :: st) A := x_nx (op := o_iload 5 2) rfl rfl
theorem x_124_533  : exG TB d 124 533 L st A = exG TB d 124 534 L (.int (nI 2) :: st) A := x_nx (op := o_push 1 (.int 2)) rfl rfl
theorem x_124_534  : exG TB d 124 534 L (.int i2 :: .int i1 :: st) A = exG TB d 124 535 L (.int (i1 + i2) :: st) A := x_nx (op := o_iop (fun x y => x + y)) rfl rfl
theorem x_124_535  : exG TB d 124 535 L (.int i1 :: .ref p :: st) A = ki (rdI 0 (gas A p) i1) d 124 536 L st A := x_bd (op := o_rdIs 0) rfl rfl (fun _ => rfl)
theorem x_124_536  : exG TB d 124 536 (some v :: r9) st A = rg v (exG TB d 124 537 (some v :: r9) (v :: st) A) := x_rg (op := o_aload 0 1) rfl rfl
theorem x_124_537  : exG TB d 124 537 (a0 :: a1 :: a2 :: a3 :: a4 :: some (.int i1) :: r9) st A = exG TB d 124 539 (a0 :: a1 :: a2 :: a3 :: a4 :: some (.int i1) :: r9) (.int i1 :: st) A := x_nx (op := o_iload 5 2) rfl rfl
theorem x_124_539  : exG TB d 124 539 L st A = exG TB d 124 540 L (.int (nI 3) :: st) A := x_nx (op := o_push 1 (.int 3)) rfl rfl
theorem x_124_540  : exG TB d 124 540 L (.int i2 :: .int i1 :: st) A = exG TB d 124 541 L (.int (i1 + i2) :: st) A := x_nx (op := o_iop (fun x y => x + y)) rfl rfl
theorem x_124_541  : exG TB d 124 541 L (.int i1 :: .ref p :: st) A = ki (rdI 0 (gas A p) i1) d 124 542 L st A := x_bd (op := o_rdIs 0) rfl rfl (fun _ => rfl)
theorem x_124_542  : exG TB d 124 542 (a0 :: a1 :: a2 :: some v :: r9) st A = rg v (exG TB d 124 543 (a0 :: a1 :: a2 :: some v :: r9) (v :: st) A) := x_rg (op := o_aload 3 1) rfl rfl
theorem x_124_543  : exG TB d 124 543 L [b4, b3, b2, b1, b0] A = kc (evG TB d 129 [b0, b1, b2, b3, b4] A) d 124 546 L [] := x_cv (op := o_cs 129 5 false none) rfl rfl x_noh rfl
theorem x_124_546  : exG TB d 124 546 (a0 :: a1 :: a2 :: a3 :: a4 :: a5 :: a6 :: r9) (.int i1 :: st) A = exG TB d 124 548 (a0 :: a1 :: a2 :: a3 :: a4 :: a5 :: some (.int i1) :: r9) st A := x_nx (op := o_istore 6 2) rfl rfl
theorem x_124_548  : exG TB d 124 548 (a0 :: a1 :: some v :: r9) st A = rg v (exG TB d 124 549 (a0 :: a1 :: some v :: r9) (v :: st) A) := x_rg (op := o_aload 2 1) rfl rfl
theorem x_124_549  : exG TB d 124 549 (some v :: r9) st A = rg v (exG TB d 124 550 (some v :: r9) (v :: st) A) := x_rg (op := o_aload 0 1) rfl rfl
theorem x_124_550  : exG TB d 124 550 (a0 :: a1 :: a2 :: a3 :: a4 :: some (.int i1) :: r9) st A = exG TB d 124 552 (a0 :: a1 :: a2 :: a3 :: a4 :: some (.int i1) :: r9) (.int i1 :: st) A := x_nx (op := o_iload 5 2) rfl rfl
theorem x_124_552  : exG TB d 124 552 L st A = exG TB d 124 553 L (.int (nI 1) :: st) A := x_nx (op := o_push 1 (.int 1)) rfl rfl
theorem x_124_553  : exG TB d 124 553 L (.int i2 :: .int i1 :: st) A = exG TB d 124 554 L (.int (i1 + i2) :: st) A := x_nx (op := o_iop (fun x y => x + y)) rfl rfl
theorem x_124_554  : exG TB d 124 554 L (.int i1 :: .ref p :: st) A = ki (rdI 0 (gas A p) i1) d 124 555 L st A := x_bd (op := o_rdIs 0) rfl rfl (fun _ => rfl)
theorem x_124_555  : exG TB d 124 555 (some v :: r9) st A = rg v (exG TB d 124 556 (some v :: r9) (v :: st) A) := x_rg (op := o_aload 0 1) rfl rfl
theorem x_124_556  : exG TB d 124 556 (a0 :: a1 :: a2 :: a3 :: a4 :: some (.int i1) :: r9) st A = exG TB d 124 558 (a0 :: a1 :: a2 :: a3 :: a4 :: some (.int i1) :: r9) (.int i1 :: st) A := x_nx (op := o_iload 5 2) rfl rfl
theorem x_124_558  : exG TB d 124 558 L st A = exG TB d 124 559 L (.int (nI 2) :: st) A := x_nx (op := o_push 1 (.int 2)) rfl rfl
theorem x_124_559  : exG TB d 124 559 L (.int i2 :: .int i1 :: st) A = exG TB d 124 560 L (.int (i1 + i2) :: st) A := x_nx (op := o_iop (fun x y => x + y)) rfl rfl
theorem x_124_560  : exG TB d 124 560 L (.int i1 :: .ref p :: st) A = ki (rdI 0 (gas A p) i1) d 124 561 L st A := x_bd (op := o_rdIs 0) rfl rfl (fun _ => rfl)
theorem x_124_561  : exG TB d 124 561 (some v :: r9) st A = rg v (exG TB d 124 562 (some v :: r9) (v :: st) A) := x_rg (op := o_aload 0 1) rfl rfl
theorem x_124_562  : exG TB d 124 562 (a0 :: a1 :: a2 :: a3 :: a4 :: some (.int i1) :: r9) st A = exG TB d 124 564 (a0 :: a1 :: a2 :: a3 :: a4 :: some (.int i1) :: r9) (.int i1 :: st) A := x_nx (op := o_iload 5 2) rfl rfl
theorem x_124_564  : exG TB d 124 564 L st A = exG TB d 124 565 L (.int (nI 3) :: st) A := x_nx (op := o_push 1 (.int 3)) rfl rfl
theorem x_124_565  : exG TB d 124 565 L (.int i2 :: .int i1 :: st) A = exG TB d 124 566 L (.int (i1 + i2) :: st) A := x_nx (op := o_iop (fun x y => x + y)) rfl rfl
theorem x_124_566  : exG TB d 124 566 L (.int i1 :: .ref p :: st) A = ki (rdI 0 (gas A p) i1) d 124 567 L st A := x_bd (op := o_rdIs 0) rfl rfl (fun _ => rfl)
theorem x_124_567  : exG TB d 124 567 L [b2, b1, b0, .ref p] A = kw (sel (gc A p) [(30, 324)]) [.ref p, b0, b1, b2] d 124 570 L [] A := x_cvb (op := o_cv [(30, 324)] 3 3 false none) rfl rfl x_noh rfl
theorem x_124_570  : exG TB d 124 570 (a0 :: a1 :: a2 :: a3 :: a4 :: a5 :: a6 :: a7 :: r9) (.int i1 :: st) A = exG TB d 124 572 (a0 :: a1 :: a2 :: a3 :: a4 :: a5 :: a6 :: some (.int i1) :: r9) st A := x_nx (op := o_istore 7 2) rfl rfl
theorem x_124_572  : exG TB d 124 572 (a0 :: a1 :: some v :: r9) st A = rg v (exG TB d 124 573 (a0 :: a1 :: some v :: r9) (v :: st) A) := x_rg (op := o_aload 2 1) rfl rfl
theorem x_124_573  : exG TB d 124 573 L [.ref p] A = kw (sel (gc A p) [(30, 289)]) [.ref p] d 124 576 L [] A := x_cvb (op := o_cv [(30, 289)] 0 3 false none) rfl rfl x_noh rfl
theorem x_124_576  : exG TB d 124 576 (a0 :: a1 :: a2 :: a3 :: a4 :: a5 :: some (.int i1) :: r9) st A = exG TB d 124 578 (a0 :: a1 :: a2 :: a3 :: a4 :: a5 :: some (.int i1) :: r9) (.int i1 :: st) A := x_nx (op := o_iload 6 2) rfl rfl
theorem x_124_578  : exG TB d 124 578 L (.int i2 :: .int i1 :: st) A = if i1 = i2 then exG TB d 124 583 L st A else exG TB d 124 581 L st A := x_if (op := o_icmp (fun x y => decide (x = y)) 583) rfl rfl rfl
theorem x_124_581  : exG TB d 124 581 L st A = exG TB d 124 582 L (.int (nI 0) :: st) A := x_nx (op := o_push 1 (.int 0)) rfl rfl
theorem x_124_582  : exG TB d 124 582 L [v] A = ck (okv 5 v) (some (.inl (some v), A)) := x_outg (op := o_ret 5) rfl rfl
theorem x_124_583  : exG TB d 124 583 (a0 :: a1 :: a2 :: a3 :: a4 :: a5 :: some (.int i1) :: r9) st A = exG TB d 124 585 (a0 :: a1 :: a2 :: a3 :: a4 :: a5 :: some (.int i1) :: r9) (.int i1 :: st) A := x_nx (op := o_iload 6 2) rfl rfl
theorem x_124_585  : exG TB d 124 585 L (.int i1 :: st) A = if ¬ i1 = nI 0 then exG TB d 124 600 L st A else exG TB d 124 588 L st A := x_if (op := o_if (fun x => decide (¬ x = 0)) 600) rfl rfl rfl
theorem x_124_588  : exG TB d 124 588 (a0 :: a1 :: a2 :: some v :: r9) st A = rg v (exG TB d 124 589 (a0 :: a1 :: a2 :: some v :: r9) (v :: st) A) := x_rg (op := o_aload 3 1) rfl rfl
theorem x_124_589  : exG TB d 124 589 L st A = exG TB d 124 590 L (.int (nI 0) :: st) A := x_nx (op := o_push 1 (.int 0)) rfl rfl
theorem x_124_590  : exG TB d 124 590 L (.int i1 :: .ref p :: st) A = kj (rdJ (ga A p) i1) d 124 591 L st A := x_bd (op := o_rdJ) rfl rfl (fun _ => rfl)
theorem x_124_591  : exG TB d 124 591 (a0 :: a1 :: a2 :: a3 :: a4 :: a5 :: a6 :: some (.int i1) :: r9) st A = exG TB d 124 593 (a0 :: a1 :: a2 :: a3 :: a4 :: a5 :: a6 :: some (.int i1) :: r9) (.int i1 :: st) A := x_nx (op := o_iload 7 2) rfl rfl
theorem x_124_593  : exG TB d 124 593 L (.int i1 :: st) A = exG TB d 124 594 L (.long i1.toInt64 :: st) A := x_nx (op := o_i2l) rfl rfl
theorem x_124_594  : exG TB d 124 594 L (.long l2 :: .long l1 :: st) A = exG TB d 124 595 L (.int (lg_cmp l1 l2) :: st) A := x_nx (op := o_lcmp) rfl rfl
theorem x_124_595  : exG TB d 124 595 L (.int i1 :: st) A = if i1 = nI 0 then exG TB d 124 600 L st A else exG TB d 124 598 L st A := x_if (op := o_if (fun x => decide (x = 0)) 600) rfl rfl rfl
theorem x_124_598  : exG TB d 124 598 L st A = exG TB d 124 599 L (.int (nI 0) :: st) A := x_nx (op := o_push 1 (.int 0)) rfl rfl
theorem x_124_599  : exG TB d 124 599 L [v] A = ck (okv 5 v) (some (.inl (some v), A)) := x_outg (op := o_ret 5) rfl rfl
theorem x_124_600  : exG TB d 124 600 L st A = exG TB d 124 2693 L st A := x_nx (op := o_goto 2693) rfl rfl
theorem x_124_603  : exG TB d 124 603 (a0 :: some v :: r9) st A = rg v (exG TB d 124 604 (a0 :: some v :: r9) (v :: st) A) := x_rg (op := o_aload 1 1) rfl rfl
theorem x_124_604  : exG TB d 124 604 (some v :: r9) st A = rg v (exG TB d 124 605 (some v :: r9) (v :: st) A) := x_rg (op := o_aload 0 1) rfl rfl
theorem x_124_605  : exG TB d 124 605 (a0 :: a1 :: a2 :: a3 :: a4 :: some (.int i1) :: r9) st A = exG TB d 124 607 (a0 :: a1 :: a2 :: a3 :: a4 :: some (.int i1) :: r9) (.int i1 :: st) A := x_nx (op := o_iload 5 2) rfl rfl
theorem x_124_607  : exG TB d 124 607 L st A = exG TB d 124 608 L (.int (nI 1) :: st) A := x_nx (op := o_push 1 (.int 1)) rfl rfl
theorem x_124_608  : exG TB d 124 608 L (.int i2 :: .int i1 :: st) A = exG TB d 124 609 L (.int (i1 + i2) :: st) A := x_nx (op := o_iop (fun x y => x + y)) rfl rfl
theorem x_124_609  : exG TB d 124 609 L (.int i1 :: .ref p :: st) A = ki (rdI 0 (gas A p) i1) d 124 610 L st A := x_bd (op := o_rdIs 0) rfl rfl (fun _ => rfl)
theorem x_124_610  : exG TB d 124 610 (some v :: r9) st A = rg v (exG TB d 124 611 (some v :: r9) (v :: st) A) := x_rg (op := o_aload 0 1) rfl rfl
theorem x_124_611  : exG TB d 124 611 (a0 :: a1 :: a2 :: a3 :: a4 :: some (.int i1) :: r9) st A = exG TB d 124 613 (a0 :: a1 :: a2 :: a3 :: a4 :: some (.int i1) :: r9) (.int i1 :: st) A := x_nx (op := o_iload 5 2) rfl rfl
theorem x_124_613  : exG TB d 124 613 L st A = exG TB d 124 614 L (.int (nI 2) :: st) A := x_nx (op := o_push 1 (.int 2)) rfl rfl
theorem x_124_614  : exG TB d 124 614 L (.int i2 :: .int i1 :: st) A = exG TB d 124 615 L (.int (i1 + i2) :: st) A := x_nx (op := o_iop (fun x y => x + y)) rfl rfl
theorem x_124_615  : exG TB d 124 615 L (.int i1 :: .ref p :: st) A = ki (rdI 0 (gas A p) i1) d 124 616 L st A := x_bd (op := o_rdIs 0) rfl rfl (fun _ => rfl)
theorem x_124_616  : exG TB d 124 616 (a0 :: a1 :: a2 :: some v :: r9) st A = rg v (exG TB d 124 617 (a0 :: a1 :: a2 :: some v :: r9) (v :: st) A) := x_rg (op := o_aload 3 1) rfl rfl
theorem x_124_617  : exG TB d 124 617 L [b3, b2, b1, b0] A = kc (evG TB d 130 [b0, b1, b2, b3] A) d 124 620 L [] := x_cv (op := o_cs 130 4 false none) rfl rfl x_noh rfl
theorem x_124_620  : exG TB d 124 620 (a0 :: a1 :: a2 :: a3 :: a4 :: a5 :: a6 :: r9) (.int i1 :: st) A = exG TB d 124 622 (a0 :: a1 :: a2 :: a3 :: a4 :: a5 :: some (.int i1) :: r9) st A := x_nx (op := o_istore 6 2) rfl rfl
theorem x_124_622  : exG TB d 124 622 (a0 :: a1 :: some v :: r9) st A = rg v (exG TB d 124 623 (a0 :: a1 :: some v :: r9) (v :: st) A) := x_rg (op := o_aload 2 1) rfl rfl
theorem x_124_623  : exG TB d 124 623 (some v :: r9) st A = rg v (exG TB d 124 624 (some v :: r9) (v :: st) A) := x_rg (op := o_aload 0 1) rfl rfl
theorem x_124_624  : exG TB d 124 624 (a0 :: a1 :: a2 :: a3 :: a4 :: some (.int i1) :: r9) st A = exG TB d 124 626 (a0 :: a1 :: a2 :: a3 :: a4 :: some (.int i1) :: r9) (.int i1 :: st) A := x_nx (op := o_iload 5 2) rfl rfl
theorem x_124_626  : exG TB d 124 626 L st A = exG TB d 124 627 L (.int (nI 1) :: st) A := x_nx (op := o_push 1 (.int 1)) rfl rfl
theorem x_124_627  : exG TB d 124 627 L (.int i2 :: .int i1 :: st) A = exG TB d 124 628 L (.int (i1 + i2) :: st) A := x_nx (op := o_iop (fun x y => x + y)) rfl rfl
theorem x_124_628  : exG TB d 124 628 L (.int i1 :: .ref p :: st) A = ki (rdI 0 (gas A p) i1) d 124 629 L st A := x_bd (op := o_rdIs 0) rfl rfl (fun _ => rfl)
theorem x_124_629  : exG TB d 124 629 (some v :: r9) st A = rg v (exG TB d 124 630 (some v :: r9) (v :: st) A) := x_rg (op := o_aload 0 1) rfl rfl
theorem x_124_630  : exG TB d 124 630 (a0 :: a1 :: a2 :: a3 :: a4 :: some (.int i1) :: r9) st A = exG TB d 124 632 (a0 :: a1 :: a2 :: a3 :: a4 :: some (.int i1) :: r9) (.int i1 :: st) A := x_nx (op := o_iload 5 2) rfl rfl
theorem x_124_632  : exG TB d 124 632 L st A = exG TB d 124 633 L (.int (nI 2) :: st) A := x_nx (op := o_push 1 (.int 2)) rfl rfl
theorem x_124_633  : exG TB d 124 633 L (.int i2 :: .int i1 :: st) A = exG TB d 124 634 L (.int (i1 + i2) :: st) A := x_nx (op := o_iop (fun x y => x + y)) rfl rfl
theorem x_124_634  : exG TB d 124 634 L (.int i1 :: .ref p :: st) A = ki (rdI 0 (gas A p) i1) d 124 635 L st A := x_bd (op := o_rdIs 0) rfl rfl (fun _ => rfl)
theorem x_124_635  : exG TB d 124 635 L [b1, b0, .ref p] A = kw (sel (gc A p) [(30, 325)]) [.ref p, b0, b1] d 124 638 L [] A := x_cvb (op := o_cv [(30, 325)] 2 3 false none) rfl rfl x_noh rfl
theorem x_124_638  : exG TB d 124 638 (a0 :: a1 :: a2 :: a3 :: a4 :: a5 :: a6 :: a7 :: r9) (.int i1 :: st) A = exG TB d 124 640 (a0 :: a1 :: a2 :: a3 :: a4 :: a5 :: a6 :: some (.int i1) :: r9) st A := x_nx (op := o_istore 7 2) rfl rfl
theorem x_124_640  : exG TB d 124 640 (a0 :: a1 :: some v :: r9) st A = rg v (exG TB d 124 641 (a0 :: a1 :: some v :: r9) (v :: st) A) := x_rg (op := o_aload 2 1) rfl rfl
theorem x_124_641  : exG TB d 124 641 L [.ref p] A = kw (sel (gc A p) [(30, 289)]) [.ref p] d 124 644 L [] A := x_cvb (op := o_cv [(30, 289)] 0 3 false none) rfl rfl x_noh rfl
theorem x_124_644  : exG TB d 124 644 (a0 :: a1 :: a2 :: a3 :: a4 :: a5 :: some (.int i1) :: r9) st A = exG TB d 124 646 (a0 :: a1 :: a2 :: a3 :: a4 :: a5 :: some (.int i1) :: r9) (.int i1 :: st) A := x_nx (op := o_iload 6 2) rfl rfl
theorem x_124_646  : exG TB d 124 646 L (.int i2 :: .int i1 :: st) A = if i1 = i2 then exG TB d 124 651 L st A else exG TB d 124 649 L st A := x_if (op := o_icmp (fun x y => decide (x = y)) 651) rfl rfl rfl
theorem x_124_649  : exG TB d 124 649 L st A = exG TB d 124 650 L (.int (nI 0) :: st) A := x_nx (op := o_push 1 (.int 0)) rfl rfl
theorem x_124_650  : exG TB d 124 650 L [v] A = ck (okv 5 v) (some (.inl (some v), A)) := x_outg (op := o_ret 5) rfl rfl
theorem x_124_651  : exG TB d 124 651 (a0 :: a1 :: a2 :: a3 :: a4 :: a5 :: some (.int i1) :: r9) st A = exG TB d 124 653 (a0 :: a1 :: a2 :: a3 :: a4 :: a5 :: some (.int i1) :: r9) (.int i1 :: st) A := x_nx (op := o_iload 6 2) rfl rfl
theorem x_124_653  : exG TB d 124 653 L (.int i1 :: st) A = if ¬ i1 = nI 0 then exG TB d 124 668 L st A else exG TB d 124 656 L st A := x_if (op := o_if (fun x => decide (¬ x = 0)) 668) rfl rfl rfl
theorem x_124_656  : exG TB d 124 656 (a0 :: a1 :: a2 :: some v :: r9) st A = rg v (exG TB d 124 657 (a0 :: a1 :: a2 :: some v :: r9) (v :: st) A) := x_rg (op := o_aload 3 1) rfl rfl
theorem x_124_657  : exG TB d 124 657 L st A = exG TB d 124 658 L (.int (nI 0) :: st) A := x_nx (op := o_push 1 (.int 0)) rfl rfl
theorem x_124_658  : exG TB d 124 658 L (.int i1 :: .ref p :: st) A = kj (rdJ (ga A p) i1) d 124 659 L st A := x_bd (op := o_rdJ) rfl rfl (fun _ => rfl)
theorem x_124_659  : exG TB d 124 659 (a0 :: a1 :: a2 :: a3 :: a4 :: a5 :: a6 :: some (.int i1) :: r9) st A = exG TB d 124 661 (a0 :: a1 :: a2 :: a3 :: a4 :: a5 :: a6 :: some (.int i1) :: r9) (.int i1 :: st) A := x_nx (op := o_iload 7 2) rfl rfl
theorem x_124_661  : exG TB d 124 661 L (.int i1 :: st) A = exG TB d 124 662 L (.long i1.toInt64 :: st) A := x_nx (op := o_i2l) rfl rfl
theorem x_124_662  : exG TB d 124 662 L (.long l2 :: .long l1 :: st) A = exG TB d 124 663 L (.int (lg_cmp l1 l2) :: st) A := x_nx (op := o_lcmp) rfl rfl
theorem x_124_663  : exG TB d 124 663 L (.int i1 :: st) A = if i1 = nI 0 then exG TB d 124 668 L st A else exG TB d 124 666 L st A := x_if (op := o_if (fun x => decide (x = 0)) 668) rfl rfl rfl
theorem x_124_666  : exG TB d 124 666 L st A = exG TB d 124 667 L (.int (nI 0) :: st) A := x_nx (op := o_push 1 (.int 0)) rfl rfl
theorem x_124_667  : exG TB d 124 667 L [v] A = ck (okv 5 v) (some (.inl (some v), A)) := x_outg (op := o_ret 5) rfl rfl
theorem x_124_668  : exG TB d 124 668 L st A = exG TB d 124 2693 L st A := x_nx (op := o_goto 2693) rfl rfl
theorem x_124_671  : exG TB d 124 671 (a0 :: some v :: r9) st A = rg v (exG TB d 124 672 (a0 :: some v :: r9) (v :: st) A) := x_rg (op := o_aload 1 1) rfl rfl
theorem x_124_672  : exG TB d 124 672 (some v :: r9) st A = rg v (exG TB d 124 673 (some v :: r9) (v :: st) A) := x_rg (op := o_aload 0 1) rfl rfl
theorem x_124_673  : exG TB d 124 673 (a0 :: a1 :: a2 :: a3 :: a4 :: some (.int i1) :: r9) st A = exG TB d 124 675 (a0 :: a1 :: a2 :: a3 :: a4 :: some (.int i1) :: r9) (.int i1 :: st) A := x_nx (op := o_iload 5 2) rfl rfl
theorem x_124_675  : exG TB d 124 675 L st A = exG TB d 124 676 L (.int (nI 1) :: st) A := x_nx (op := o_push 1 (.int 1)) rfl rfl
theorem x_124_676  : exG TB d 124 676 L (.int i2 :: .int i1 :: st) A = exG TB d 124 677 L (.int (i1 + i2) :: st) A := x_nx (op := o_iop (fun x y => x + y)) rfl rfl
theorem x_124_677  : exG TB d 124 677 L (.int i1 :: .ref p :: st) A = ki (rdI 0 (gas A p) i1) d 124 678 L st A := x_bd (op := o_rdIs 0) rfl rfl (fun _ => rfl)
theorem x_124_678  : exG TB d 124 678 (some v :: r9) st A = rg v (exG TB d 124 679 (some v :: r9) (v :: st) A) := x_rg (op := o_aload 0 1) rfl rfl
theorem x_124_679  : exG TB d 124 679 (a0 :: a1 :: a2 :: a3 :: a4 :: some (.int i1) :: r9) st A = exG TB d 124 681 (a0 :: a1 :: a2 :: a3 :: a4 :: some (.int i1) :: r9) (.int i1 :: st) A := x_nx (op := o_iload 5 2) rfl rfl
theorem x_124_681  : exG TB d 124 681 L st A = exG TB d 124 682 L (.int (nI 2) :: st) A := x_nx (op := o_push 1 (.int 2)) rfl rfl
theorem x_124_682  : exG TB d 124 682 L (.int i2 :: .int i1 :: st) A = exG TB d 124 683 L (.int (i1 + i2) :: st) A := x_nx (op := o_iop (fun x y => x + y)) rfl rfl
theorem x_124_683  : exG TB d 124 683 L (.int i1 :: .ref p :: st) A = ki (rdI 0 (gas A p) i1) d 124 684 L st A := x_bd (op := o_rdIs 0) rfl rfl (fun _ => rfl)
theorem x_124_684  : exG TB d 124 684 (a0 :: a1 :: a2 :: some v :: r9) st A = rg v (exG TB d 124 685 (a0 :: a1 :: a2 :: some v :: r9) (v :: st) A) := x_rg (op := o_aload 3 1) rfl rfl
theorem x_124_685  : exG TB d 124 685 L [b3, b2, b1, b0] A = kc (evG TB d 131 [b0, b1, b2, b3] A) d 124 688 L [] := x_cv (op := o_cs 131 4 false none) rfl rfl x_noh rfl
theorem x_124_688  : exG TB d 124 688 (a0 :: a1 :: a2 :: a3 :: a4 :: a5 :: a6 :: r9) (.int i1 :: st) A = exG TB d 124 690 (a0 :: a1 :: a2 :: a3 :: a4 :: a5 :: some (.int i1) :: r9) st A := x_nx (op := o_istore 6 2) rfl rfl
theorem x_124_690  : exG TB d 124 690 (a0 :: a1 :: some v :: r9) st A = rg v (exG TB d 124 691 (a0 :: a1 :: some v :: r9) (v :: st) A) := x_rg (op := o_aload 2 1) rfl rfl
theorem x_124_691  : exG TB d 124 691 (some v :: r9) st A = rg v (exG TB d 124 692 (some v :: r9) (v :: st) A) := x_rg (op := o_aload 0 1) rfl rfl
theorem x_124_692  : exG TB d 124 692 (a0 :: a1 :: a2 :: a3 :: a4 :: some (.int i1) :: r9) st A = exG TB d 124 694 (a0 :: a1 :: a2 :: a3 :: a4 :: some (.int i1) :: r9) (.int i1 :: st) A := x_nx (op := o_iload 5 2) rfl rfl
theorem x_124_694  : exG TB d 124 694 L st A = exG TB d 124 695 L (.int (nI 1) :: st) A := x_nx (op := o_push 1 (.int 1)) rfl rfl
theorem x_124_695  : exG TB d 124 695 L (.int i2 :: .int i1 :: st) A = exG TB d 124 696 L (.int (i1 + i2) :: st) A := x_nx (op := o_iop (fun x y => x + y)) rfl rfl
theorem x_124_696  : exG TB d 124 696 L (.int i1 :: .ref p :: st) A = ki (rdI 0 (gas A p) i1) d 124 697 L st A := x_bd (op := o_rdIs 0) rfl rfl (fun _ => rfl)
theorem x_124_697  : exG TB d 124 697 (some v :: r9) st A = rg v (exG TB d 124 698 (some v :: r9) (v :: st) A) := x_rg (op := o_aload 0 1) rfl rfl
theorem x_124_698  : exG TB d 124 698 (a0 :: a1 :: a2 :: a3 :: a4 :: some (.int i1) :: r9) st A = exG TB d 124 700 (a0 :: a1 :: a2 :: a3 :: a4 :: some (.int i1) :: r9) (.int i1 :: st) A := x_nx (op := o_iload 5 2) rfl rfl
theorem x_124_700  : exG TB d 124 700 L st A = exG TB d 124 701 L (.int (nI 2) :: st) A := x_nx (op := o_push 1 (.int 2)) rfl rfl
theorem x_124_701  : exG TB d 124 701 L (.int i2 :: .int i1 :: st) A = exG TB d 124 702 L (.int (i1 + i2) :: st) A := x_nx (op := o_iop (fun x y => x + y)) rfl rfl
theorem x_124_702  : exG TB d 124 702 L (.int i1 :: .ref p :: st) A = ki (rdI 0 (gas A p) i1) d 124 703 L st A := x_bd (op := o_rdIs 0) rfl rfl (fun _ => rfl)
theorem x_124_703  : exG TB d 124 703 L [b1, b0, .ref p] A = kw (sel (gc A p) [(30, 327)]) [.ref p, b0, b1] d 124 706 L [] A := x_cvb (op := o_cv [(30, 327)] 2 3 false none) rfl rfl x_noh rfl
theorem x_124_706  : exG TB d 124 706 (a0 :: a1 :: a2 :: a3 :: a4 :: a5 :: a6 :: a7 :: r9) (.int i1 :: st) A = exG TB d 124 708 (a0 :: a1 :: a2 :: a3 :: a4 :: a5 :: a6 :: some (.int i1) :: r9) st A := x_nx (op := o_istore 7 2) rfl rfl
theorem x_124_708  : exG TB d 124 708 (a0 :: a1 :: some v :: r9) st A = rg v (exG TB d 124 709 (a0 :: a1 :: some v :: r9) (v :: st) A) := x_rg (op := o_aload 2 1) rfl rfl
theorem x_124_709  : exG TB d 124 709 L [.ref p] A = kw (sel (gc A p) [(30, 289)]) [.ref p] d 124 712 L [] A := x_cvb (op := o_cv [(30, 289)] 0 3 false none) rfl rfl x_noh rfl
theorem x_124_712  : exG TB d 124 712 (a0 :: a1 :: a2 :: a3 :: a4 :: a5 :: some (.int i1) :: r9) st A = exG TB d 124 714 (a0 :: a1 :: a2 :: a3 :: a4 :: a5 :: some (.int i1) :: r9) (.int i1 :: st) A := x_nx (op := o_iload 6 2) rfl rfl
theorem x_124_714  : exG TB d 124 714 L (.int i2 :: .int i1 :: st) A = if i1 = i2 then exG TB d 124 719 L st A else exG TB d 124 717 L st A := x_if (op := o_icmp (fun x y => decide (x = y)) 719) rfl rfl rfl
theorem x_124_717  : exG TB d 124 717 L st A = exG TB d 124 718 L (.int (nI 0) :: st) A := x_nx (op := o_push 1 (.int 0)) rfl rfl
theorem x_124_718  : exG TB d 124 718 L [v] A = ck (okv 5 v) (some (.inl (some v), A)) := x_outg (op := o_ret 5) rfl rfl
theorem x_124_719  : exG TB d 124 719 (a0 :: a1 :: a2 :: a3 :: a4 :: a5 :: some (.int i1) :: r9) st A = exG TB d 124 721 (a0 :: a1 :: a2 :: a3 :: a4 :: a5 :: some (.int i1) :: r9) (.int i1 :: st) A := x_nx (op := o_iload 6 2) rfl rfl
theorem x_124_721  : exG TB d 124 721 L (.int i1 :: st) A = if ¬ i1 = nI 0 then exG TB d 124 736 L st A else exG TB d 124 724 L st A := x_if (op := o_if (fun x => decide (¬ x = 0)) 736) rfl rfl rfl
theorem x_124_724  : exG TB d 124 724 (a0 :: a1 :: a2 :: some v :: r9) st A = rg v (exG TB d 124 725 (a0 :: a1 :: a2 :: some v :: r9) (v :: st) A) := x_rg (op := o_aload 3 1) rfl rfl
theorem x_124_725  : exG TB d 124 725 L st A = exG TB d 124 726 L (.int (nI 0) :: st) A := x_nx (op := o_push 1 (.int 0)) rfl rfl
theorem x_124_726  : exG TB d 124 726 L (.int i1 :: .ref p :: st) A = kj (rdJ (ga A p) i1) d 124 727 L st A := x_bd (op := o_rdJ) rfl rfl (fun _ => rfl)
theorem x_124_727  : exG TB d 124 727 (a0 :: a1 :: a2 :: a3 :: a4 :: a5 :: a6 :: some (.int i1) :: r9) st A = exG TB d 124 729 (a0 :: a1 :: a2 :: a3 :: a4 :: a5 :: a6 :: some (.int i1) :: r9) (.int i1 :: st) A := x_nx (op := o_iload 7 2) rfl rfl
theorem x_124_729  : exG TB d 124 729 L (.int i1 :: st) A = exG TB d 124 730 L (.long i1.toInt64 :: st) A := x_nx (op := o_i2l) rfl rfl
theorem x_124_730  : exG TB d 124 730 L (.long l2 :: .long l1 :: st) A = exG TB d 124 731 L (.int (lg_cmp l1 l2) :: st) A := x_nx (op := o_lcmp) rfl rfl
theorem x_124_731  : exG TB d 124 731 L (.int i1 :: st) A = if i1 = nI 0 then exG TB d 124 736 L st A else exG TB d 124 734 L st A := x_if (op := o_if (fun x => decide (x = 0)) 736) rfl rfl rfl
theorem x_124_734  : exG TB d 124 734 L st A = exG TB d 124 735 L (.int (nI 0) :: st) A := x_nx (op := o_push 1 (.int 0)) rfl rfl
theorem x_124_735  : exG TB d 124 735 L [v] A = ck (okv 5 v) (some (.inl (some v), A)) := x_outg (op := o_ret 5) rfl rfl
theorem x_124_736  : exG TB d 124 736 L st A = exG TB d 124 2693 L st A := x_nx (op := o_goto 2693) rfl rfl
theorem x_124_739  : exG TB d 124 739 (a0 :: some v :: r9) st A = rg v (exG TB d 124 740 (a0 :: some v :: r9) (v :: st) A) := x_rg (op := o_aload 1 1) rfl rfl
theorem x_124_740  : exG TB d 124 740 (some v :: r9) st A = rg v (exG TB d 124 741 (some v :: r9) (v :: st) A) := x_rg (op := o_aload 0 1) rfl rfl
theorem x_124_741  : exG TB d 124 741 (a0 :: a1 :: a2 :: a3 :: a4 :: some (.int i1) :: r9) st A = exG TB d 124 743 (a0 :: a1 :: a2 :: a3 :: a4 :: some (.int i1) :: r9) (.int i1 :: st) A := x_nx (op := o_iload 5 2) rfl rfl
theorem x_124_743  : exG TB d 124 743 L st A = exG TB d 124 744 L (.int (nI 1) :: st) A := x_nx (op := o_push 1 (.int 1)) rfl rfl
theorem x_124_744  : exG TB d 124 744 L (.int i2 :: .int i1 :: st) A = exG TB d 124 745 L (.int (i1 + i2) :: st) A := x_nx (op := o_iop (fun x y => x + y)) rfl rfl
theorem x_124_745  : exG TB d 124 745 L (.int i1 :: .ref p :: st) A = ki (rdI 0 (gas A p) i1) d 124 746 L st A := x_bd (op := o_rdIs 0) rfl rfl (fun _ => rfl)
theorem x_124_746  : exG TB d 124 746 (a0 :: a1 :: a2 :: some v :: r9) st A = rg v (exG TB d 124 747 (a0 :: a1 :: a2 :: some v :: r9) (v :: st) A) := x_rg (op := o_aload 3 1) rfl rfl
theorem x_124_747  : exG TB d 124 747 L [b2, b1, b0] A = kc (evG TB d 132 [b0, b1, b2] A) d 124 750 L [] := x_cv (op := o_cs 132 3 false none) rfl rfl x_noh rfl
theorem x_124_750  : exG TB d 124 750 (a0 :: a1 :: a2 :: a3 :: a4 :: a5 :: a6 :: r9) (.int i1 :: st) A = exG TB d 124 752 (a0 :: a1 :: a2 :: a3 :: a4 :: a5 :: some (.int i1) :: r9) st A := x_nx (op := o_istore 6 2) rfl rfl
theorem x_124_752  : exG TB d 124 752 (a0 :: a1 :: some v :: r9) st A = rg v (exG TB d 124 753 (a0 :: a1 :: some v :: r9) (v :: st) A) := x_rg (op := o_aload 2 1) rfl rfl
theorem x_124_753  : exG TB d 124 753 (some v :: r9) st A = rg v (exG TB d 124 754 (some v :: r9) (v :: st) A) := x_rg (op := o_aload 0 1) rfl rfl
theorem x_124_754  : exG TB d 124 754 (a0 :: a1 :: a2 :: a3 :: a4 :: some (.int i1) :: r9) st A = exG TB d 124 756 (a0 :: a1 :: a2 :: a3 :: a4 :: some (.int i1) :: r9) (.int i1 :: st) A := x_nx (op := o_iload 5 2) rfl rfl
theorem x_124_756  : exG TB d 124 756 L st A = exG TB d 124 757 L (.int (nI 1) :: st) A := x_nx (op := o_push 1 (.int 1)) rfl rfl
theorem x_124_757  : exG TB d 124 757 L (.int i2 :: .int i1 :: st) A = exG TB d 124 758 L (.int (i1 + i2) :: st) A := x_nx (op := o_iop (fun x y => x + y)) rfl rfl
theorem x_124_758  : exG TB d 124 758 L (.int i1 :: .ref p :: st) A = ki (rdI 0 (gas A p) i1) d 124 759 L st A := x_bd (op := o_rdIs 0) rfl rfl (fun _ => rfl)
theorem x_124_759  : exG TB d 124 759 L [b0, .ref p] A = kw (sel (gc A p) [(30, 329)]) [.ref p, b0] d 124 762 L [] A := x_cvb (op := o_cv [(30, 329)] 1 3 false none) rfl rfl x_noh rfl
theorem x_124_762  : exG TB d 124 762 (a0 :: a1 :: a2 :: a3 :: a4 :: a5 :: a6 :: a7 :: r9) (.int i1 :: st) A = exG TB d 124 764 (a0 :: a1 :: a2 :: a3 :: a4 :: a5 :: a6 :: some (.int i1) :: r9) st A := x_nx (op := o_istore 7 2) rfl rfl
theorem x_124_764  : exG TB d 124 764 (a0 :: a1 :: some v :: r9) st A = rg v (exG TB d 124 765 (a0 :: a1 :: some v :: r9) (v :: st) A) := x_rg (op := o_aload 2 1) rfl rfl
theorem x_124_765  : exG TB d 124 765 L [.ref p] A = kw (sel (gc A p) [(30, 289)]) [.ref p] d 124 768 L [] A := x_cvb (op := o_cv [(30, 289)] 0 3 false none) rfl rfl x_noh rfl
theorem x_124_768  : exG TB d 124 768 (a0 :: a1 :: a2 :: a3 :: a4 :: a5 :: some (.int i1) :: r9) st A = exG TB d 124 770 (a0 :: a1 :: a2 :: a3 :: a4 :: a5 :: some (.int i1) :: r9) (.int i1 :: st) A := x_nx (op := o_iload 6 2) rfl rfl
theorem x_124_770  : exG TB d 124 770 L (.int i2 :: .int i1 :: st) A = if i1 = i2 then exG TB d 124 775 L st A else exG TB d 124 773 L st A := x_if (op := o_icmp (fun x y => decide (x = y)) 775) rfl rfl rfl
theorem x_124_773  : exG TB d 124 773 L st A = exG TB d 124 774 L (.int (nI 0) :: st) A := x_nx (op := o_push 1 (.int 0)) rfl rfl
theorem x_124_774  : exG TB d 124 774 L [v] A = ck (okv 5 v) (some (.inl (some v), A)) := x_outg (op := o_ret 5) rfl rfl
theorem x_124_775  : exG TB d 124 775 (a0 :: a1 :: a2 :: a3 :: a4 :: a5 :: some (.int i1) :: r9) st A = exG TB d 124 777 (a0 :: a1 :: a2 :: a3 :: a4 :: a5 :: some (.int i1) :: r9) (.int i1 :: st) A := x_nx (op := o_iload 6 2) rfl rfl
theorem x_124_777  : exG TB d 124 777 L (.int i1 :: st) A = if ¬ i1 = nI 0 then exG TB d 124 792 L st A else exG TB d 124 780 L st A := x_if (op := o_if (fun x => decide (¬ x = 0)) 792) rfl rfl rfl
theorem x_124_780  : exG TB d 124 780 (a0 :: a1 :: a2 :: some v :: r9) st A = rg v (exG TB d 124 781 (a0 :: a1 :: a2 :: some v :: r9) (v :: st) A) := x_rg (op := o_aload 3 1) rfl rfl
theorem x_124_781  : exG TB d 124 781 L st A = exG TB d 124 782 L (.int (nI 0) :: st) A := x_nx (op := o_push 1 (.int 0)) rfl rfl
theorem x_124_782  : exG TB d 124 782 L (.int i1 :: .ref p :: st) A = kj (rdJ (ga A p) i1) d 124 783 L st A := x_bd (op := o_rdJ) rfl rfl (fun _ => rfl)
theorem x_124_783  : exG TB d 124 783 (a0 :: a1 :: a2 :: a3 :: a4 :: a5 :: a6 :: some (.int i1) :: r9) st A = exG TB d 124 785 (a0 :: a1 :: a2 :: a3 :: a4 :: a5 :: a6 :: some (.int i1) :: r9) (.int i1 :: st) A := x_nx (op := o_iload 7 2) rfl rfl
theorem x_124_785  : exG TB d 124 785 L (.int i1 :: st) A = exG TB d 124 786 L (.long i1.toInt64 :: st) A := x_nx (op := o_i2l) rfl rfl
theorem x_124_786  : exG TB d 124 786 L (.long l2 :: .long l1 :: st) A = exG TB d 124 787 L (.int (lg_cmp l1 l2) :: st) A := x_nx (op := o_lcmp) rfl rfl
theorem x_124_787  : exG TB d 124 787 L (.int i1 :: st) A = if i1 = nI 0 then exG TB d 124 792 L st A else exG TB d 124 790 L st A := x_if (op := o_if (fun x => decide (x = 0)) 792) rfl rfl rfl
theorem x_124_790  : exG TB d 124 790 L st A = exG TB d 124 791 L (.int (nI 0) :: st) A := x_nx (op := o_push 1 (.int 0)) rfl rfl
theorem x_124_791  : exG TB d 124 791 L [v] A = ck (okv 5 v) (some (.inl (some v), A)) := x_outg (op := o_ret 5) rfl rfl
theorem x_124_792  : exG TB d 124 792 L st A = exG TB d 124 2693 L st A := x_nx (op := o_goto 2693) rfl rfl
theorem x_124_795  : exG TB d 124 795 (a0 :: some v :: r9) st A = rg v (exG TB d 124 796 (a0 :: some v :: r9) (v :: st) A) := x_rg (op := o_aload 1 1) rfl rfl
theorem x_124_796  : exG TB d 124 796 (some v :: r9) st A = rg v (exG TB d 124 797 (some v :: r9) (v :: st) A) := x_rg (op := o_aload 0 1) rfl rfl
theorem x_124_797  : exG TB d 124 797 (a0 :: a1 :: a2 :: a3 :: a4 :: some (.int i1) :: r9) st A = exG TB d 124 799 (a0 :: a1 :: a2 :: a3 :: a4 :: some (.int i1) :: r9) (.int i1 :: st) A := x_nx (op := o_iload 5 2) rfl rfl
theorem x_124_799  : exG TB d 124 799 L st A = exG TB d 124 800 L (.int (nI 1) :: st) A := x_nx (op := o_push 1 (.int 1)) rfl rfl
theorem x_124_800  : exG TB d 124 800 L (.int i2 :: .int i1 :: st) A = exG TB d 124 801 L (.int (i1 + i2) :: st) A := x_nx (op := o_iop (fun x y => x + y)) rfl rfl
theorem x_124_801  : exG TB d 124 801 L (.int i1 :: .ref p :: st) A = ki (rdI 0 (gas A p) i1) d 124 802 L st A := x_bd (op := o_rdIs 0) rfl rfl (fun _ => rfl)
theorem x_124_802  : exG TB d 124 802 (some v :: r9) st A = rg v (exG TB d 124 803 (some v :: r9) (v :: st) A) := x_rg (op := o_aload 0 1) rfl rfl
theorem x_124_803  : exG TB d 124 803 (a0 :: a1 :: a2 :: a3 :: a4 :: some (.int i1) :: r9) st A = exG TB d 124 805 (a0 :: a1 :: a2 :: a3 :: a4 :: some (.int i1) :: r9) (.int i1 :: st) A := x_nx (op := o_iload 5 2) rfl rfl
theorem x_124_805  : exG TB d 124 805 L st A = exG TB d 124 806 L (.int (nI 2) :: st) A := x_nx (op := o_push 1 (.int 2)) rfl rfl
theorem x_124_806  : exG TB d 124 806 L (.int i2 :: .int i1 :: st) A = exG TB d 124 807 L (.int (i1 + i2) :: st) A := x_nx (op := o_iop (fun x y => x + y)) rfl rfl
theorem x_124_807  : exG TB d 124 807 L (.int i1 :: .ref p :: st) A = ki (rdI 0 (gas A p) i1) d 124 808 L st A := x_bd (op := o_rdIs 0) rfl rfl (fun _ => rfl)
theorem x_124_808  : exG TB d 124 808 (a0 :: a1 :: a2 :: some v :: r9) st A = rg v (exG TB d 124 809 (a0 :: a1 :: a2 :: some v :: r9) (v :: st) A) := x_rg (op := o_aload 3 1) rfl rfl
theorem x_124_809  : exG TB d 124 809 L [b3, b2, b1, b0] A = kc (evG TB d 133 [b0, b1, b2, b3] A) d 124 812 L [] := x_cv (op := o_cs 133 4 false none) rfl rfl x_noh rfl
theorem x_124_812  : exG TB d 124 812 (a0 :: a1 :: a2 :: a3 :: a4 :: a5 :: a6 :: r9) (.int i1 :: st) A = exG TB d 124 814 (a0 :: a1 :: a2 :: a3 :: a4 :: a5 :: some (.int i1) :: r9) st A := x_nx (op := o_istore 6 2) rfl rfl
theorem x_124_814  : exG TB d 124 814 (a0 :: a1 :: some v :: r9) st A = rg v (exG TB d 124 815 (a0 :: a1 :: some v :: r9) (v :: st) A) := x_rg (op := o_aload 2 1) rfl rfl
theorem x_124_815  : exG TB d 124 815 (some v :: r9) st A = rg v (exG TB d 124 816 (some v :: r9) (v :: st) A) := x_rg (op := o_aload 0 1) rfl rfl
theorem x_124_816  : exG TB d 124 816 (a0 :: a1 :: a2 :: a3 :: a4 :: some (.int i1) :: r9) st A = exG TB d 124 818 (a0 :: a1 :: a2 :: a3 :: a4 :: some (.int i1) :: r9) (.int i1 :: st) A := x_nx (op := o_iload 5 2) rfl rfl
theorem x_124_818  : exG TB d 124 818 L st A = exG TB d 124 819 L (.int (nI 1) :: st) A := x_nx (op := o_push 1 (.int 1)) rfl rfl
theorem x_124_819  : exG TB d 124 819 L (.int i2 :: .int i1 :: st) A = exG TB d 124 820 L (.int (i1 + i2) :: st) A := x_nx (op := o_iop (fun x y => x + y)) rfl rfl
theorem x_124_820  : exG TB d 124 820 L (.int i1 :: .ref p :: st) A = ki (rdI 0 (gas A p) i1) d 124 821 L st A := x_bd (op := o_rdIs 0) rfl rfl (fun _ => rfl)
theorem x_124_821  : exG TB d 124 821 (some v :: r9) st A = rg v (exG TB d 124 822 (some v :: r9) (v :: st) A) := x_rg (op := o_aload 0 1) rfl rfl
theorem x_124_822  : exG TB d 124 822 (a0 :: a1 :: a2 :: a3 :: a4 :: some (.int i1) :: r9) st A = exG TB d 124 824 (a0 :: a1 :: a2 :: a3 :: a4 :: some (.int i1) :: r9) (.int i1 :: st) A := x_nx (op := o_iload 5 2) rfl rfl
theorem x_124_824  : exG TB d 124 824 L st A = exG TB d 124 825 L (.int (nI 2) :: st) A := x_nx (op := o_push 1 (.int 2)) rfl rfl
theorem x_124_825  : exG TB d 124 825 L (.int i2 :: .int i1 :: st) A = exG TB d 124 826 L (.int (i1 + i2) :: st) A := x_nx (op := o_iop (fun x y => x + y)) rfl rfl
theorem x_124_826  : exG TB d 124 826 L (.int i1 :: .ref p :: st) A = ki (rdI 0 (gas A p) i1) d 124 827 L st A := x_bd (op := o_rdIs 0) rfl rfl (fun _ => rfl)
theorem x_124_827  : exG TB d 124 827 L [b1, b0, .ref p] A = kw (sel (gc A p) [(30, 334)]) [.ref p, b0, b1] d 124 830 L [] A := x_cvb (op := o_cv [(30, 334)] 2 3 false none) rfl rfl x_noh rfl
theorem x_124_830  : exG TB d 124 830 (a0 :: a1 :: a2 :: a3 :: a4 :: a5 :: a6 :: a7 :: r9) (.int i1 :: st) A = exG TB d 124 832 (a0 :: a1 :: a2 :: a3 :: a4 :: a5 :: a6 :: some (.int i1) :: r9) st A := x_nx (op := o_istore 7 2) rfl rfl
theorem x_124_832  : exG TB d 124 832 (a0 :: a1 :: some v :: r9) st A = rg v (exG TB d 124 833 (a0 :: a1 :: some v :: r9) (v :: st) A) := x_rg (op := o_aload 2 1) rfl rfl
theorem x_124_833  : exG TB d 124 833 L [.ref p] A = kw (sel (gc A p) [(30, 289)]) [.ref p] d 124 836 L [] A := x_cvb (op := o_cv [(30, 289)] 0 3 false none) rfl rfl x_noh rfl
theorem x_124_836  : exG TB d 124 836 (a0 :: a1 :: a2 :: a3 :: a4 :: a5 :: some (.int i1) :: r9) st A = exG TB d 124 838 (a0 :: a1 :: a2 :: a3 :: a4 :: a5 :: some (.int i1) :: r9) (.int i1 :: st) A := x_nx (op := o_iload 6 2) rfl rfl
theorem x_124_838  : exG TB d 124 838 L (.int i2 :: .int i1 :: st) A = if i1 = i2 then exG TB d 124 843 L st A else exG TB d 124 841 L st A := x_if (op := o_icmp (fun x y => decide (x = y)) 843) rfl rfl rfl
theorem x_124_841  : exG TB d 124 841 L st A = exG TB d 124 842 L (.int (nI 0) :: st) A := x_nx (op := o_push 1 (.int 0)) rfl rfl
theorem x_124_842  : exG TB d 124 842 L [v] A = ck (okv 5 v) (some (.inl (some v), A)) := x_outg (op := o_ret 5) rfl rfl
theorem x_124_843  : exG TB d 124 843 (a0 :: a1 :: a2 :: a3 :: a4 :: a5 :: some (.int i1) :: r9) st A = exG TB d 124 845 (a0 :: a1 :: a2 :: a3 :: a4 :: a5 :: some (.int i1) :: r9) (.int i1 :: st) A := x_nx (op := o_iload 6 2) rfl rfl
theorem x_124_845  : exG TB d 124 845 L (.int i1 :: st) A = if ¬ i1 = nI 0 then exG TB d 124 860 L st A else exG TB d 124 848 L st A := x_if (op := o_if (fun x => decide (¬ x = 0)) 860) rfl rfl rfl
theorem x_124_848  : exG TB d 124 848 (a0 :: a1 :: a2 :: some v :: r9) st A = rg v (exG TB d 124 849 (a0 :: a1 :: a2 :: some v :: r9) (v :: st) A) := x_rg (op := o_aload 3 1) rfl rfl
theorem x_124_849  : exG TB d 124 849 L st A = exG TB d 124 850 L (.int (nI 0) :: st) A := x_nx (op := o_push 1 (.int 0)) rfl rfl
theorem x_124_850  : exG TB d 124 850 L (.int i1 :: .ref p :: st) A = kj (rdJ (ga A p) i1) d 124 851 L st A := x_bd (op := o_rdJ) rfl rfl (fun _ => rfl)
theorem x_124_851  : exG TB d 124 851 (a0 :: a1 :: a2 :: a3 :: a4 :: a5 :: a6 :: some (.int i1) :: r9) st A = exG TB d 124 853 (a0 :: a1 :: a2 :: a3 :: a4 :: a5 :: a6 :: some (.int i1) :: r9) (.int i1 :: st) A := x_nx (op := o_iload 7 2) rfl rfl
theorem x_124_853  : exG TB d 124 853 L (.int i1 :: st) A = exG TB d 124 854 L (.long i1.toInt64 :: st) A := x_nx (op := o_i2l) rfl rfl
theorem x_124_854  : exG TB d 124 854 L (.long l2 :: .long l1 :: st) A = exG TB d 124 855 L (.int (lg_cmp l1 l2) :: st) A := x_nx (op := o_lcmp) rfl rfl
theorem x_124_855  : exG TB d 124 855 L (.int i1 :: st) A = if i1 = nI 0 then exG TB d 124 860 L st A else exG TB d 124 858 L st A := x_if (op := o_if (fun x => decide (x = 0)) 860) rfl rfl rfl
theorem x_124_858  : exG TB d 124 858 L st A = exG TB d 124 859 L (.int (nI 0) :: st) A := x_nx (op := o_push 1 (.int 0)) rfl rfl
theorem x_124_859  : exG TB d 124 859 L [v] A = ck (okv 5 v) (some (.inl (some v), A)) := x_outg (op := o_ret 5) rfl rfl
theorem x_124_860  : exG TB d 124 860 L st A = exG TB d 124 2693 L st A := x_nx (op := o_goto 2693) rfl rfl
theorem x_124_863  : exG TB d 124 863 (a0 :: some v :: r9) st A = rg v (exG TB d 124 864 (a0 :: some v :: r9) (v :: st) A) := x_rg (op := o_aload 1 1) rfl rfl
theorem x_124_864  : exG TB d 124 864 (some v :: r9) st A = rg v (exG TB d 124 865 (some v :: r9) (v :: st) A) := x_rg (op := o_aload 0 1) rfl rfl
theorem x_124_865  : exG TB d 124 865 (a0 :: a1 :: a2 :: a3 :: a4 :: some (.int i1) :: r9) st A = exG TB d 124 867 (a0 :: a1 :: a2 :: a3 :: a4 :: some (.int i1) :: r9) (.int i1 :: st) A := x_nx (op := o_iload 5 2) rfl rfl
theorem x_124_867  : exG TB d 124 867 L st A = exG TB d 124 868 L (.int (nI 1) :: st) A := x_nx (op := o_push 1 (.int 1)) rfl rfl
theorem x_124_868  : exG TB d 124 868 L (.int i2 :: .int i1 :: st) A = exG TB d 124 869 L (.int (i1 + i2) :: st) A := x_nx (op := o_iop (fun x y => x + y)) rfl rfl
theorem x_124_869  : exG TB d 124 869 L (.int i1 :: .ref p :: st) A = ki (rdI 0 (gas A p) i1) d 124 870 L st A := x_bd (op := o_rdIs 0) rfl rfl (fun _ => rfl)
theorem x_124_870  : exG TB d 124 870 (some v :: r9) st A = rg v (exG TB d 124 871 (some v :: r9) (v :: st) A) := x_rg (op := o_aload 0 1) rfl rfl
theorem x_124_871  : exG TB d 124 871 (a0 :: a1 :: a2 :: a3 :: a4 :: some (.int i1) :: r9) st A = exG TB d 124 873 (a0 :: a1 :: a2 :: a3 :: a4 :: some (.int i1) :: r9) (.int i1 :: st) A := x_nx (op := o_iload 5 2) rfl rfl
theorem x_124_873  : exG TB d 124 873 L st A = exG TB d 124 874 L (.int (nI 2) :: st) A := x_nx (op := o_push 1 (.int 2)) rfl rfl
theorem x_124_874  : exG TB d 124 874 L (.int i2 :: .int i1 :: st) A = exG TB d 124 875 L (.int (i1 + i2) :: st) A := x_nx (op := o_iop (fun x y => x + y)) rfl rfl
theorem x_124_875  : exG TB d 124 875 L (.int i1 :: .ref p :: st) A = ki (rdI 0 (gas A p) i1) d 124 876 L st A := x_bd (op := o_rdIs 0) rfl rfl (fun _ => rfl)
theorem x_124_876  : exG TB d 124 876 (a0 :: a1 :: a2 :: some v :: r9) st A = rg v (exG TB d 124 877 (a0 :: a1 :: a2 :: some v :: r9) (v :: st) A) := x_rg (op := o_aload 3 1) rfl rfl
theorem x_124_877  : exG TB d 124 877 L [b3, b2, b1, b0] A = kc (evG TB d 134 [b0, b1, b2, b3] A) d 124 880 L [] := x_cv (op := o_cs 134 4 false none) rfl rfl x_noh rfl
theorem x_124_880  : exG TB d 124 880 (a0 :: a1 :: a2 :: a3 :: a4 :: a5 :: a6 :: r9) (.int i1 :: st) A = exG TB d 124 882 (a0 :: a1 :: a2 :: a3 :: a4 :: a5 :: some (.int i1) :: r9) st A := x_nx (op := o_istore 6 2) rfl rfl
theorem x_124_882  : exG TB d 124 882 (a0 :: a1 :: some v :: r9) st A = rg v (exG TB d 124 883 (a0 :: a1 :: some v :: r9) (v :: st) A) := x_rg (op := o_aload 2 1) rfl rfl
theorem x_124_883  : exG TB d 124 883 (some v :: r9) st A = rg v (exG TB d 124 884 (some v :: r9) (v :: st) A) := x_rg (op := o_aload 0 1) rfl rfl
theorem x_124_884  : exG TB d 124 884 (a0 :: a1 :: a2 :: a3 :: a4 :: some (.int i1) :: r9) st A = exG TB d 124 886 (a0 :: a1 :: a2 :: a3 :: a4 :: some (.int i1) :: r9) (.int i1 :: st) A := x_nx (op := o_iload 5 2) rfl rfl
theorem x_124_886  : exG TB d 124 886 L st A = exG TB d 124 887 L (.int (nI 1) :: st) A := x_nx (op := o_push 1 (.int 1)) rfl rfl
theorem x_124_887  : exG TB d 124 887 L (.int i2 :: .int i1 :: st) A = exG TB d 124 888 L (.int (i1 + i2) :: st) A := x_nx (op := o_iop (fun x y => x + y)) rfl rfl
theorem x_124_888  : exG TB d 124 888 L (.int i1 :: .ref p :: st) A = ki (rdI 0 (gas A p) i1) d 124 889 L st A := x_bd (op := o_rdIs 0) rfl rfl (fun _ => rfl)
theorem x_124_889  : exG TB d 124 889 (some v :: r9) st A = rg v (exG TB d 124 890 (some v :: r9) (v :: st) A) := x_rg (op := o_aload 0 1) rfl rfl
theorem x_124_890  : exG TB d 124 890 (a0 :: a1 :: a2 :: a3 :: a4 :: some (.int i1) :: r9) st A = exG TB d 124 892 (a0 :: a1 :: a2 :: a3 :: a4 :: some (.int i1) :: r9) (.int i1 :: st) A := x_nx (op := o_iload 5 2) rfl rfl
theorem x_124_892  : exG TB d 124 892 L st A = exG TB d 124 893 L (.int (nI 2) :: st) A := x_nx (op := o_push 1 (.int 2)) rfl rfl
theorem x_124_893  : exG TB d 124 893 L (.int i2 :: .int i1 :: st) A = exG TB d 124 894 L (.int (i1 + i2) :: st) A := x_nx (op := o_iop (fun x y => x + y)) rfl rfl
theorem x_124_894  : exG TB d 124 894 L (.int i1 :: .ref p :: st) A = ki (rdI 0 (gas A p) i1) d 124 895 L st A := x_bd (op := o_rdIs 0) rfl rfl (fun _ => rfl)
theorem x_124_895  : exG TB d 124 895 L [b1, b0, .ref p] A = kw (sel (gc A p) [(30, 336)]) [.ref p, b0, b1] d 124 898 L [] A := x_cvb (op := o_cv [(30, 336)] 2 3 false none) rfl rfl x_noh rfl
theorem x_124_898  : exG TB d 124 898 (a0 :: a1 :: a2 :: a3 :: a4 :: a5 :: a6 :: a7 :: r9) (.int i1 :: st) A = exG TB d 124 900 (a0 :: a1 :: a2 :: a3 :: a4 :: a5 :: a6 :: some (.int i1) :: r9) st A := x_nx (op := o_istore 7 2) rfl rfl
theorem x_124_900  : exG TB d 124 900 (a0 :: a1 :: some v :: r9) st A = rg v (exG TB d 124 901 (a0 :: a1 :: some v :: r9) (v :: st) A) := x_rg (op := o_aload 2 1) rfl rfl
theorem x_124_901  : exG TB d 124 901 L [.ref p] A = kw (sel (gc A p) [(30, 289)]) [.ref p] d 124 904 L [] A := x_cvb (op := o_cv [(30, 289)] 0 3 false none) rfl rfl x_noh rfl
theorem x_124_904  : exG TB d 124 904 (a0 :: a1 :: a2 :: a3 :: a4 :: a5 :: some (.int i1) :: r9) st A = exG TB d 124 906 (a0 :: a1 :: a2 :: a3 :: a4 :: a5 :: some (.int i1) :: r9) (.int i1 :: st) A := x_nx (op := o_iload 6 2) rfl rfl
theorem x_124_906  : exG TB d 124 906 L (.int i2 :: .int i1 :: st) A = if i1 = i2 then exG TB d 124 911 L st A else exG TB d 124 909 L st A := x_if (op := o_icmp (fun x y => decide (x = y)) 911) rfl rfl rfl
theorem x_124_909  : exG TB d 124 909 L st A = exG TB d 124 910 L (.int (nI 0) :: st) A := x_nx (op := o_push 1 (.int 0)) rfl rfl
theorem x_124_910  : exG TB d 124 910 L [v] A = ck (okv 5 v) (some (.inl (some v), A)) := x_outg (op := o_ret 5) rfl rfl
theorem x_124_911  : exG TB d 124 911 (a0 :: a1 :: a2 :: a3 :: a4 :: a5 :: some (.int i1) :: r9) st A = exG TB d 124 913 (a0 :: a1 :: a2 :: a3 :: a4 :: a5 :: some (.int i1) :: r9) (.int i1 :: st) A := x_nx (op := o_iload 6 2) rfl rfl
theorem x_124_913  : exG TB d 124 913 L (.int i1 :: st) A = if ¬ i1 = nI 0 then exG TB d 124 928 L st A else exG TB d 124 916 L st A := x_if (op := o_if (fun x => decide (¬ x = 0)) 928) rfl rfl rfl
theorem x_124_916  : exG TB d 124 916 (a0 :: a1 :: a2 :: some v :: r9) st A = rg v (exG TB d 124 917 (a0 :: a1 :: a2 :: some v :: r9) (v :: st) A) := x_rg (op := o_aload 3 1) rfl rfl
theorem x_124_917  : exG TB d 124 917 L st A = exG TB d 124 918 L (.int (nI 0) :: st) A := x_nx (op := o_push 1 (.int 0)) rfl rfl
theorem x_124_918  : exG TB d 124 918 L (.int i1 :: .ref p :: st) A = kj (rdJ (ga A p) i1) d 124 919 L st A := x_bd (op := o_rdJ) rfl rfl (fun _ => rfl)
theorem x_124_919  : exG TB d 124 919 (a0 :: a1 :: a2 :: a3 :: a4 :: a5 :: a6 :: some (.int i1) :: r9) st A = exG TB d 124 921 (a0 :: a1 :: a2 :: a3 :: a4 :: a5 :: a6 :: some (.int i1) :: r9) (.int i1 :: st) A := x_nx (op := o_iload 7 2) rfl rfl
theorem x_124_921  : exG TB d 124 921 L (.int i1 :: st) A = exG TB d 124 922 L (.long i1.toInt64 :: st) A := x_nx (op := o_i2l) rfl rfl
theorem x_124_922  : exG TB d 124 922 L (.long l2 :: .long l1 :: st) A = exG TB d 124 923 L (.int (lg_cmp l1 l2) :: st) A := x_nx (op := o_lcmp) rfl rfl
theorem x_124_923  : exG TB d 124 923 L (.int i1 :: st) A = if i1 = nI 0 then exG TB d 124 928 L st A else exG TB d 124 926 L st A := x_if (op := o_if (fun x => decide (x = 0)) 928) rfl rfl rfl
theorem x_124_926  : exG TB d 124 926 L st A = exG TB d 124 927 L (.int (nI 0) :: st) A := x_nx (op := o_push 1 (.int 0)) rfl rfl
theorem x_124_927  : exG TB d 124 927 L [v] A = ck (okv 5 v) (some (.inl (some v), A)) := x_outg (op := o_ret 5) rfl rfl
theorem x_124_928  : exG TB d 124 928 L st A = exG TB d 124 2693 L st A := x_nx (op := o_goto 2693) rfl rfl
theorem x_124_931  : exG TB d 124 931 (a0 :: some v :: r9) st A = rg v (exG TB d 124 932 (a0 :: some v :: r9) (v :: st) A) := x_rg (op := o_aload 1 1) rfl rfl
theorem x_124_932  : exG TB d 124 932 (some v :: r9) st A = rg v (exG TB d 124 933 (some v :: r9) (v :: st) A) := x_rg (op := o_aload 0 1) rfl rfl
theorem x_124_933  : exG TB d 124 933 (a0 :: a1 :: a2 :: a3 :: a4 :: some (.int i1) :: r9) st A = exG TB d 124 935 (a0 :: a1 :: a2 :: a3 :: a4 :: some (.int i1) :: r9) (.int i1 :: st) A := x_nx (op := o_iload 5 2) rfl rfl
theorem x_124_935  : exG TB d 124 935 L st A = exG TB d 124 936 L (.int (nI 1) :: st) A := x_nx (op := o_push 1 (.int 1)) rfl rfl
theorem x_124_936  : exG TB d 124 936 L (.int i2 :: .int i1 :: st) A = exG TB d 124 937 L (.int (i1 + i2) :: st) A := x_nx (op := o_iop (fun x y => x + y)) rfl rfl
theorem x_124_937  : exG TB d 124 937 L (.int i1 :: .ref p :: st) A = ki (rdI 0 (gas A p) i1) d 124 938 L st A := x_bd (op := o_rdIs 0) rfl rfl (fun _ => rfl)
theorem x_124_938  : exG TB d 124 938 (some v :: r9) st A = rg v (exG TB d 124 939 (some v :: r9) (v :: st) A) := x_rg (op := o_aload 0 1) rfl rfl
theorem x_124_939  : exG TB d 124 939 (a0 :: a1 :: a2 :: a3 :: a4 :: some (.int i1) :: r9) st A = exG TB d 124 941 (a0 :: a1 :: a2 :: a3 :: a4 :: some (.int i1) :: r9) (.int i1 :: st) A := x_nx (op := o_iload 5 2) rfl rfl
theorem x_124_941  : exG TB d 124 941 L st A = exG TB d 124 942 L (.int (nI 2) :: st) A := x_nx (op := o_push 1 (.int 2)) rfl rfl
theorem x_124_942  : exG TB d 124 942 L (.int i2 :: .int i1 :: st) A = exG TB d 124 943 L (.int (i1 + i2) :: st) A := x_nx (op := o_iop (fun x y => x + y)) rfl rfl
theorem x_124_943  : exG TB d 124 943 L (.int i1 :: .ref p :: st) A = ki (rdI 0 (gas A p) i1) d 124 944 L st A := x_bd (op := o_rdIs 0) rfl rfl (fun _ => rfl)
theorem x_124_944  : exG TB d 124 944 (a0 :: a1 :: a2 :: some v :: r9) st A = rg v (exG TB d 124 945 (a0 :: a1 :: a2 :: some v :: r9) (v :: st) A) := x_rg (op := o_aload 3 1) rfl rfl
theorem x_124_945  : exG TB d 124 945 L [b3, b2, b1, b0] A = kc (evG TB d 135 [b0, b1, b2, b3] A) d 124 948 L [] := x_cv (op := o_cs 135 4 false none) rfl rfl x_noh rfl
theorem x_124_948  : exG TB d 124 948 (a0 :: a1 :: a2 :: a3 :: a4 :: a5 :: a6 :: r9) (.int i1 :: st) A = exG TB d 124 950 (a0 :: a1 :: a2 :: a3 :: a4 :: a5 :: some (.int i1) :: r9) st A := x_nx (op := o_istore 6 2) rfl rfl
theorem x_124_950  : exG TB d 124 950 (a0 :: a1 :: some v :: r9) st A = rg v (exG TB d 124 951 (a0 :: a1 :: some v :: r9) (v :: st) A) := x_rg (op := o_aload 2 1) rfl rfl
theorem x_124_951  : exG TB d 124 951 (some v :: r9) st A = rg v (exG TB d 124 952 (some v :: r9) (v :: st) A) := x_rg (op := o_aload 0 1) rfl rfl
theorem x_124_952  : exG TB d 124 952 (a0 :: a1 :: a2 :: a3 :: a4 :: some (.int i1) :: r9) st A = exG TB d 124 954 (a0 :: a1 :: a2 :: a3 :: a4 :: some (.int i1) :: r9) (.int i1 :: st) A := x_nx (op := o_iload 5 2) rfl rfl
theorem x_124_954  : exG TB d 124 954 L st A = exG TB d 124 955 L (.int (nI 1) :: st) A := x_nx (op := o_push 1 (.int 1)) rfl rfl
theorem x_124_955  : exG TB d 124 955 L (.int i2 :: .int i1 :: st) A = exG TB d 124 956 L (.int (i1 + i2) :: st) A := x_nx (op := o_iop (fun x y => x + y)) rfl rfl
theorem x_124_956  : exG TB d 124 956 L (.int i1 :: .ref p :: st) A = ki (rdI 0 (gas A p) i1) d 124 957 L st A := x_bd (op := o_rdIs 0) rfl rfl (fun _ => rfl)
theorem x_124_957  : exG TB d 124 957 (some v :: r9) st A = rg v (exG TB d 124 958 (some v :: r9) (v :: st) A) := x_rg (op := o_aload 0 1) rfl rfl
theorem x_124_958  : exG TB d 124 958 (a0 :: a1 :: a2 :: a3 :: a4 :: some (.int i1) :: r9) st A = exG TB d 124 960 (a0 :: a1 :: a2 :: a3 :: a4 :: some (.int i1) :: r9) (.int i1 :: st) A := x_nx (op := o_iload 5 2) rfl rfl
theorem x_124_960  : exG TB d 124 960 L st A = exG TB d 124 961 L (.int (nI 2) :: st) A := x_nx (op := o_push 1 (.int 2)) rfl rfl
theorem x_124_961  : exG TB d 124 961 L (.int i2 :: .int i1 :: st) A = exG TB d 124 962 L (.int (i1 + i2) :: st) A := x_nx (op := o_iop (fun x y => x + y)) rfl rfl
theorem x_124_962  : exG TB d 124 962 L (.int i1 :: .ref p :: st) A = ki (rdI 0 (gas A p) i1) d 124 963 L st A := x_bd (op := o_rdIs 0) rfl rfl (fun _ => rfl)
theorem x_124_963  : exG TB d 124 963 L [b1, b0, .ref p] A = kw (sel (gc A p) [(30, 337)]) [.ref p, b0, b1] d 124 966 L [] A := x_cvb (op := o_cv [(30, 337)] 2 3 false none) rfl rfl x_noh rfl
theorem x_124_966  : exG TB d 124 966 (a0 :: a1 :: a2 :: a3 :: a4 :: a5 :: a6 :: a7 :: r9) (.int i1 :: st) A = exG TB d 124 968 (a0 :: a1 :: a2 :: a3 :: a4 :: a5 :: a6 :: some (.int i1) :: r9) st A := x_nx (op := o_istore 7 2) rfl rfl
theorem x_124_968  : exG TB d 124 968 (a0 :: a1 :: some v :: r9) st A = rg v (exG TB d 124 969 (a0 :: a1 :: some v :: r9) (v :: st) A) := x_rg (op := o_aload 2 1) rfl rfl
theorem x_124_969  : exG TB d 124 969 L [.ref p] A = kw (sel (gc A p) [(30, 289)]) [.ref p] d 124 972 L [] A := x_cvb (op := o_cv [(30, 289)] 0 3 false none) rfl rfl x_noh rfl
theorem x_124_972  : exG TB d 124 972 (a0 :: a1 :: a2 :: a3 :: a4 :: a5 :: some (.int i1) :: r9) st A = exG TB d 124 974 (a0 :: a1 :: a2 :: a3 :: a4 :: a5 :: some (.int i1) :: r9) (.int i1 :: st) A := x_nx (op := o_iload 6 2) rfl rfl
theorem x_124_974  : exG TB d 124 974 L (.int i2 :: .int i1 :: st) A = if i1 = i2 then exG TB d 124 979 L st A else exG TB d 124 977 L st A := x_if (op := o_icmp (fun x y => decide (x = y)) 979) rfl rfl rfl
theorem x_124_977  : exG TB d 124 977 L st A = exG TB d 124 978 L (.int (nI 0) :: st) A := x_nx (op := o_push 1 (.int 0)) rfl rfl
theorem x_124_978  : exG TB d 124 978 L [v] A = ck (okv 5 v) (some (.inl (some v), A)) := x_outg (op := o_ret 5) rfl rfl
theorem x_124_979  : exG TB d 124 979 (a0 :: a1 :: a2 :: a3 :: a4 :: a5 :: some (.int i1) :: r9) st A = exG TB d 124 981 (a0 :: a1 :: a2 :: a3 :: a4 :: a5 :: some (.int i1) :: r9) (.int i1 :: st) A := x_nx (op := o_iload 6 2) rfl rfl
theorem x_124_981  : exG TB d 124 981 L (.int i1 :: st) A = if ¬ i1 = nI 0 then exG TB d 124 996 L st A else exG TB d 124 984 L st A := x_if (op := o_if (fun x => decide (¬ x = 0)) 996) rfl rfl rfl
theorem x_124_984  : exG TB d 124 984 (a0 :: a1 :: a2 :: some v :: r9) st A = rg v (exG TB d 124 985 (a0 :: a1 :: a2 :: some v :: r9) (v :: st) A) := x_rg (op := o_aload 3 1) rfl rfl
theorem x_124_985  : exG TB d 124 985 L st A = exG TB d 124 986 L (.int (nI 0) :: st) A := x_nx (op := o_push 1 (.int 0)) rfl rfl
theorem x_124_986  : exG TB d 124 986 L (.int i1 :: .ref p :: st) A = kj (rdJ (ga A p) i1) d 124 987 L st A := x_bd (op := o_rdJ) rfl rfl (fun _ => rfl)
theorem x_124_987  : exG TB d 124 987 (a0 :: a1 :: a2 :: a3 :: a4 :: a5 :: a6 :: some (.int i1) :: r9) st A = exG TB d 124 989 (a0 :: a1 :: a2 :: a3 :: a4 :: a5 :: a6 :: some (.int i1) :: r9) (.int i1 :: st) A := x_nx (op := o_iload 7 2) rfl rfl
theorem x_124_989  : exG TB d 124 989 L (.int i1 :: st) A = exG TB d 124 990 L (.long i1.toInt64 :: st) A := x_nx (op := o_i2l) rfl rfl
theorem x_124_990  : exG TB d 124 990 L (.long l2 :: .long l1 :: st) A = exG TB d 124 991 L (.int (lg_cmp l1 l2) :: st) A := x_nx (op := o_lcmp) rfl rfl
theorem x_124_991  : exG TB d 124 991 L (.int i1 :: st) A = if i1 = nI 0 then exG TB d 124 996 L st A else exG TB d 124 994 L st A := x_if (op := o_if (fun x => decide (x = 0)) 996) rfl rfl rfl
theorem x_124_994  : exG TB d 124 994 L st A = exG TB d 124 995 L (.int (nI 0) :: st) A := x_nx (op := o_push 1 (.int 0)) rfl rfl
theorem x_124_995  : exG TB d 124 995 L [v] A = ck (okv 5 v) (some (.inl (some v), A)) := x_outg (op := o_ret 5) rfl rfl
theorem x_124_996  : exG TB d 124 996 L st A = exG TB d 124 2693 L st A := x_nx (op := o_goto 2693) rfl rfl
theorem x_124_999  : exG TB d 124 999 (a0 :: some v :: r9) st A = rg v (exG TB d 124 1000 (a0 :: some v :: r9) (v :: st) A) := x_rg (op := o_aload 1 1) rfl rfl
theorem x_124_1000  : exG TB d 124 1000 (some v :: r9) st A = rg v (exG TB d 124 1001 (some v :: r9) (v :: st) A) := x_rg (op := o_aload 0 1) rfl rfl
theorem x_124_1001  : exG TB d 124 1001 (a0 :: a1 :: a2 :: a3 :: a4 :: some (.int i1) :: r9) st A = exG TB d 124 1003 (a0 :: a1 :: a2 :: a3 :: a4 :: some (.int i1) :: r9) (.int i1 :: st) A := x_nx (op := o_iload 5 2) rfl rfl
theorem x_124_1003  : exG TB d 124 1003 L st A = exG TB d 124 1004 L (.int (nI 1) :: st) A := x_nx (op := o_push 1 (.int 1)) rfl rfl
theorem x_124_1004  : exG TB d 124 1004 L (.int i2 :: .int i1 :: st) A = exG TB d 124 1005 L (.int (i1 + i2) :: st) A := x_nx (op := o_iop (fun x y => x + y)) rfl rfl
theorem x_124_1005  : exG TB d 124 1005 L (.int i1 :: .ref p :: st) A = ki (rdI 0 (gas A p) i1) d 124 1006 L st A := x_bd (op := o_rdIs 0) rfl rfl (fun _ => rfl)
theorem x_124_1006  : exG TB d 124 1006 (some v :: r9) st A = rg v (exG TB d 124 1007 (some v :: r9) (v :: st) A) := x_rg (op := o_aload 0 1) rfl rfl
theorem x_124_1007  : exG TB d 124 1007 (a0 :: a1 :: a2 :: a3 :: a4 :: some (.int i1) :: r9) st A = exG TB d 124 1009 (a0 :: a1 :: a2 :: a3 :: a4 :: some (.int i1) :: r9) (.int i1 :: st) A := x_nx (op := o_iload 5 2) rfl rfl
theorem x_124_1009  : exG TB d 124 1009 L st A = exG TB d 124 1010 L (.int (nI 2) :: st) A := x_nx (op := o_push 1 (.int 2)) rfl rfl
theorem x_124_1010  : exG TB d 124 1010 L (.int i2 :: .int i1 :: st) A = exG TB d 124 1011 L (.int (i1 + i2) :: st) A := x_nx (op := o_iop (fun x y => x + y)) rfl rfl
theorem x_124_1011  : exG TB d 124 1011 L (.int i1 :: .ref p :: st) A = ki (rdI 0 (gas A p) i1) d 124 1012 L st A := x_bd (op := o_rdIs 0) rfl rfl (fun _ => rfl)
theorem x_124_1012  : exG TB d 124 1012 (a0 :: a1 :: a2 :: some v :: r9) st A = rg v (exG TB d 124 1013 (a0 :: a1 :: a2 :: some v :: r9) (v :: st) A) := x_rg (op := o_aload 3 1) rfl rfl
theorem x_124_1013  : exG TB d 124 1013 L [b3, b2, b1, b0] A = kc (evG TB d 136 [b0, b1, b2, b3] A) d 124 1016 L [] := x_cv (op := o_cs 136 4 false none) rfl rfl x_noh rfl
theorem x_124_1016  : exG TB d 124 1016 (a0 :: a1 :: a2 :: a3 :: a4 :: a5 :: a6 :: r9) (.int i1 :: st) A = exG TB d 124 1018 (a0 :: a1 :: a2 :: a3 :: a4 :: a5 :: some (.int i1) :: r9) st A := x_nx (op := o_istore 6 2) rfl rfl
theorem x_124_1018  : exG TB d 124 1018 (a0 :: a1 :: some v :: r9) st A = rg v (exG TB d 124 1019 (a0 :: a1 :: some v :: r9) (v :: st) A) := x_rg (op := o_aload 2 1) rfl rfl
theorem x_124_1019  : exG TB d 124 1019 (some v :: r9) st A = rg v (exG TB d 124 1020 (some v :: r9) (v :: st) A) := x_rg (op := o_aload 0 1) rfl rfl
theorem x_124_1020  : exG TB d 124 1020 (a0 :: a1 :: a2 :: a3 :: a4 :: some (.int i1) :: r9) st A = exG TB d 124 1022 (a0 :: a1 :: a2 :: a3 :: a4 :: some (.int i1) :: r9) (.int i1 :: st) A := x_nx (op := o_iload 5 2) rfl rfl
theorem x_124_1022  : exG TB d 124 1022 L st A = exG TB d 124 1023 L (.int (nI 1) :: st) A := x_nx (op := o_push 1 (.int 1)) rfl rfl
theorem x_124_1023  : exG TB d 124 1023 L (.int i2 :: .int i1 :: st) A = exG TB d 124 1024 L (.int (i1 + i2) :: st) A := x_nx (op := o_iop (fun x y => x + y)) rfl rfl
theorem x_124_1024  : exG TB d 124 1024 L (.int i1 :: .ref p :: st) A = ki (rdI 0 (gas A p) i1) d 124 1025 L st A := x_bd (op := o_rdIs 0) rfl rfl (fun _ => rfl)
theorem x_124_1025  : exG TB d 124 1025 (some v :: r9) st A = rg v (exG TB d 124 1026 (some v :: r9) (v :: st) A) := x_rg (op := o_aload 0 1) rfl rfl
theorem x_124_1026  : exG TB d 124 1026 (a0 :: a1 :: a2 :: a3 :: a4 :: some (.int i1) :: r9) st A = exG TB d 124 1028 (a0 :: a1 :: a2 :: a3 :: a4 :: some (.int i1) :: r9) (.int i1 :: st) A := x_nx (op := o_iload 5 2) rfl rfl
theorem x_124_1028  : exG TB d 124 1028 L st A = exG TB d 124 1029 L (.int (nI 2) :: st) A := x_nx (op := o_push 1 (.int 2)) rfl rfl
theorem x_124_1029  : exG TB d 124 1029 L (.int i2 :: .int i1 :: st) A = exG TB d 124 1030 L (.int (i1 + i2) :: st) A := x_nx (op := o_iop (fun x y => x + y)) rfl rfl
theorem x_124_1030  : exG TB d 124 1030 L (.int i1 :: .ref p :: st) A = ki (rdI 0 (gas A p) i1) d 124 1031 L st A := x_bd (op := o_rdIs 0) rfl rfl (fun _ => rfl)
theorem x_124_1031  : exG TB d 124 1031 L [b1, b0, .ref p] A = kw (sel (gc A p) [(30, 343)]) [.ref p, b0, b1] d 124 1034 L [] A := x_cvb (op := o_cv [(30, 343)] 2 3 false none) rfl rfl x_noh rfl
theorem x_124_1034  : exG TB d 124 1034 (a0 :: a1 :: a2 :: a3 :: a4 :: a5 :: a6 :: a7 :: r9) (.int i1 :: st) A = exG TB d 124 1036 (a0 :: a1 :: a2 :: a3 :: a4 :: a5 :: a6 :: some (.int i1) :: r9) st A := x_nx (op := o_istore 7 2) rfl rfl
theorem x_124_1036  : exG TB d 124 1036 (a0 :: a1 :: some v :: r9) st A = rg v (exG TB d 124 1037 (a0 :: a1 :: some v :: r9) (v :: st) A) := x_rg (op := o_aload 2 1) rfl rfl
theorem x_124_1037  : exG TB d 124 1037 L [.ref p] A = kw (sel (gc A p) [(30, 289)]) [.ref p] d 124 1040 L [] A := x_cvb (op := o_cv [(30, 289)] 0 3 false none) rfl rfl x_noh rfl
theorem x_124_1040  : exG TB d 124 1040 (a0 :: a1 :: a2 :: a3 :: a4 :: a5 :: some (.int i1) :: r9) st A = exG TB d 124 1042 (a0 :: a1 :: a2 :: a3 :: a4 :: a5 :: some (.int i1) :: r9) (.int i1 :: st) A := x_nx (op := o_iload 6 2) rfl rfl
theorem x_124_1042  : exG TB d 124 1042 L (.int i2 :: .int i1 :: st) A = if i1 = i2 then exG TB d 124 1047 L st A else exG TB d 124 1045 L st A := x_if (op := o_icmp (fun x y => decide (x = y)) 1047) rfl rfl rfl
theorem x_124_1045  : exG TB d 124 1045 L st A = exG TB d 124 1046 L (.int (nI 0) :: st) A := x_nx (op := o_push 1 (.int 0)) rfl rfl
theorem x_124_1046  : exG TB d 124 1046 L [v] A = ck (okv 5 v) (some (.inl (some v), A)) := x_outg (op := o_ret 5) rfl rfl
theorem x_124_1047  : exG TB d 124 1047 (a0 :: a1 :: a2 :: a3 :: a4 :: a5 :: some (.int i1) :: r9) st A = exG TB d 124 1049 (a0 :: a1 :: a2 :: a3 :: a4 :: a5 :: some (.int i1) :: r9) (.int i1 :: st) A := x_nx (op := o_iload 6 2) rfl rfl
theorem x_124_1049  : exG TB d 124 1049 L (.int i1 :: st) A = if ¬ i1 = nI 0 then exG TB d 124 1064 L st A else exG TB d 124 1052 L st A := x_if (op := o_if (fun x => decide (¬ x = 0)) 1064) rfl rfl rfl
theorem x_124_1052  : exG TB d 124 1052 (a0 :: a1 :: a2 :: some v :: r9) st A = rg v (exG TB d 124 1053 (a0 :: a1 :: a2 :: some v :: r9) (v :: st) A) := x_rg (op := o_aload 3 1) rfl rfl
theorem x_124_1053  : exG TB d 124 1053 L st A = exG TB d 124 1054 L (.int (nI 0) :: st) A := x_nx (op := o_push 1 (.int 0)) rfl rfl
theorem x_124_1054  : exG TB d 124 1054 L (.int i1 :: .ref p :: st) A = kj (rdJ (ga A p) i1) d 124 1055 L st A := x_bd (op := o_rdJ) rfl rfl (fun _ => rfl)
theorem x_124_1055  : exG TB d 124 1055 (a0 :: a1 :: a2 :: a3 :: a4 :: a5 :: a6 :: some (.int i1) :: r9) st A = exG TB d 124 1057 (a0 :: a1 :: a2 :: a3 :: a4 :: a5 :: a6 :: some (.int i1) :: r9) (.int i1 :: st) A := x_nx (op := o_iload 7 2) rfl rfl
theorem x_124_1057  : exG TB d 124 1057 L (.int i1 :: st) A = exG TB d 124 1058 L (.long i1.toInt64 :: st) A := x_nx (op := o_i2l) rfl rfl
theorem x_124_1058  : exG TB d 124 1058 L (.long l2 :: .long l1 :: st) A = exG TB d 124 1059 L (.int (lg_cmp l1 l2) :: st) A := x_nx (op := o_lcmp) rfl rfl
theorem x_124_1059  : exG TB d 124 1059 L (.int i1 :: st) A = if i1 = nI 0 then exG TB d 124 1064 L st A else exG TB d 124 1062 L st A := x_if (op := o_if (fun x => decide (x = 0)) 1064) rfl rfl rfl
theorem x_124_1062  : exG TB d 124 1062 L st A = exG TB d 124 1063 L (.int (nI 0) :: st) A := x_nx (op := o_push 1 (.int 0)) rfl rfl
theorem x_124_1063  : exG TB d 124 1063 L [v] A = ck (okv 5 v) (some (.inl (some v), A)) := x_outg (op := o_ret 5) rfl rfl
theorem x_124_1064  : exG TB d 124 1064 L st A = exG TB d 124 2693 L st A := x_nx (op := o_goto 2693) rfl rfl
theorem x_124_1067  : exG TB d 124 1067 (a0 :: some v :: r9) st A = rg v (exG TB d 124 1068 (a0 :: some v :: r9) (v :: st) A) := x_rg (op := o_aload 1 1) rfl rfl
theorem x_124_1068  : exG TB d 124 1068 (some v :: r9) st A = rg v (exG TB d 124 1069 (some v :: r9) (v :: st) A) := x_rg (op := o_aload 0 1) rfl rfl
theorem x_124_1069  : exG TB d 124 1069 (a0 :: a1 :: a2 :: a3 :: a4 :: some (.int i1) :: r9) st A = exG TB d 124 1071 (a0 :: a1 :: a2 :: a3 :: a4 :: some (.int i1) :: r9) (.int i1 :: st) A := x_nx (op := o_iload 5 2) rfl rfl
theorem x_124_1071  : exG TB d 124 1071 L st A = exG TB d 124 1072 L (.int (nI 1) :: st) A := x_nx (op := o_push 1 (.int 1)) rfl rfl
theorem x_124_1072  : exG TB d 124 1072 L (.int i2 :: .int i1 :: st) A = exG TB d 124 1073 L (.int (i1 + i2) :: st) A := x_nx (op := o_iop (fun x y => x + y)) rfl rfl
theorem x_124_1073  : exG TB d 124 1073 L (.int i1 :: .ref p :: st) A = ki (rdI 0 (gas A p) i1) d 124 1074 L st A := x_bd (op := o_rdIs 0) rfl rfl (fun _ => rfl)
theorem x_124_1074  : exG TB d 124 1074 (some v :: r9) st A = rg v (exG TB d 124 1075 (some v :: r9) (v :: st) A) := x_rg (op := o_aload 0 1) rfl rfl
theorem x_124_1075  : exG TB d 124 1075 (a0 :: a1 :: a2 :: a3 :: a4 :: some (.int i1) :: r9) st A = exG TB d 124 1077 (a0 :: a1 :: a2 :: a3 :: a4 :: some (.int i1) :: r9) (.int i1 :: st) A := x_nx (op := o_iload 5 2) rfl rfl
theorem x_124_1077  : exG TB d 124 1077 L st A = exG TB d 124 1078 L (.int (nI 2) :: st) A := x_nx (op := o_push 1 (.int 2)) rfl rfl
theorem x_124_1078  : exG TB d 124 1078 L (.int i2 :: .int i1 :: st) A = exG TB d 124 1079 L (.int (i1 + i2) :: st) A := x_nx (op := o_iop (fun x y => x + y)) rfl rfl
theorem x_124_1079  : exG TB d 124 1079 L (.int i1 :: .ref p :: st) A = ki (rdI 0 (gas A p) i1) d 124 1080 L st A := x_bd (op := o_rdIs 0) rfl rfl (fun _ => rfl)
theorem x_124_1080  : exG TB d 124 1080 (some v :: r9) st A = rg v (exG TB d 124 1081 (some v :: r9) (v :: st) A) := x_rg (op := o_aload 0 1) rfl rfl
theorem x_124_1081  : exG TB d 124 1081 (a0 :: a1 :: a2 :: a3 :: a4 :: some (.int i1) :: r9) st A = exG TB d 124 1083 (a0 :: a1 :: a2 :: a3 :: a4 :: some (.int i1) :: r9) (.int i1 :: st) A := x_nx (op := o_iload 5 2) rfl rfl
theorem x_124_1083  : exG TB d 124 1083 L st A = exG TB d 124 1084 L (.int (nI 3) :: st) A := x_nx (op := o_push 1 (.int 3)) rfl rfl
theorem x_124_1084  : exG TB d 124 1084 L (.int i2 :: .int i1 :: st) A = exG TB d 124 1085 L (.int (i1 + i2) :: st) A := x_nx (op := o_iop (fun x y => x + y)) rfl rfl
theorem x_124_1085  : exG TB d 124 1085 L (.int i1 :: .ref p :: st) A = ki (rdI 0 (gas A p) i1) d 124 1086 L st A := x_bd (op := o_rdIs 0) rfl rfl (fun _ => rfl)
theorem x_124_1086  : exG TB d 124 1086 (some v :: r9) st A = rg v (exG TB d 124 1087 (some v :: r9) (v :: st) A) := x_rg (op := o_aload 0 1) rfl rfl
theorem x_124_1087  : exG TB d 124 1087 (a0 :: a1 :: a2 :: a3 :: a4 :: some (.int i1) :: r9) st A = exG TB d 124 1089 (a0 :: a1 :: a2 :: a3 :: a4 :: some (.int i1) :: r9) (.int i1 :: st) A := x_nx (op := o_iload 5 2) rfl rfl
theorem x_124_1089  : exG TB d 124 1089 L st A = exG TB d 124 1090 L (.int (nI 4) :: st) A := x_nx (op := o_push 1 (.int 4)) rfl rfl
theorem x_124_1090  : exG TB d 124 1090 L (.int i2 :: .int i1 :: st) A = exG TB d 124 1091 L (.int (i1 + i2) :: st) A := x_nx (op := o_iop (fun x y => x + y)) rfl rfl
theorem x_124_1091  : exG TB d 124 1091 L (.int i1 :: .ref p :: st) A = ki (rdI 0 (gas A p) i1) d 124 1092 L st A := x_bd (op := o_rdIs 0) rfl rfl (fun _ => rfl)
theorem x_124_1092  : exG TB d 124 1092 (a0 :: a1 :: a2 :: some v :: r9) st A = rg v (exG TB d 124 1093 (a0 :: a1 :: a2 :: some v :: r9) (v :: st) A) := x_rg (op := o_aload 3 1) rfl rfl
theorem x_124_1093  : exG TB d 124 1093 L [b5, b4, b3, b2, b1, b0] A = kc (evG TB d 137 [b0, b1, b2, b3, b4, b5] A) d 124 1096 L [] := x_cv (op := o_cs 137 6 false none) rfl rfl x_noh rfl
theorem x_124_1096  : exG TB d 124 1096 (a0 :: a1 :: a2 :: a3 :: a4 :: a5 :: a6 :: r9) (.int i1 :: st) A = exG TB d 124 1098 (a0 :: a1 :: a2 :: a3 :: a4 :: a5 :: some (.int i1) :: r9) st A := x_nx (op := o_istore 6 2) rfl rfl
theorem x_124_1098  : exG TB d 124 1098 (a0 :: a1 :: some v :: r9) st A = rg v (exG TB d 124 1099 (a0 :: a1 :: some v :: r9) (v :: st) A) := x_rg (op := o_aload 2 1) rfl rfl
theorem x_124_1099  : exG TB d 124 1099 (some v :: r9) st A = rg v (exG TB d 124 1100 (some v :: r9) (v :: st) A) := x_rg (op := o_aload 0 1) rfl rfl
theorem x_124_1100  : exG TB d 124 1100 (a0 :: a1 :: a2 :: a3 :: a4 :: some (.int i1) :: r9) st A = exG TB d 124 1102 (a0 :: a1 :: a2 :: a3 :: a4 :: some (.int i1) :: r9) (.int i1 :: st) A := x_nx (op := o_iload 5 2) rfl rfl
theorem x_124_1102  : exG TB d 124 1102 L st A = exG TB d 124 1103 L (.int (nI 1) :: st) A := x_nx (op := o_push 1 (.int 1)) rfl rfl
theorem x_124_1103  : exG TB d 124 1103 L (.int i2 :: .int i1 :: st) A = exG TB d 124 1104 L (.int (i1 + i2) :: st) A := x_nx (op := o_iop (fun x y => x + y)) rfl rfl
theorem x_124_1104  : exG TB d 124 1104 L (.int i1 :: .ref p :: st) A = ki (rdI 0 (gas A p) i1) d 124 1105 L st A := x_bd (op := o_rdIs 0) rfl rfl (fun _ => rfl)
theorem x_124_1105  : exG TB d 124 1105 (some v :: r9) st A = rg v (exG TB d 124 1106 (some v :: r9) (v :: st) A) := x_rg (op := o_aload 0 1) rfl rfl
theorem x_124_1106  : exG TB d 124 1106 (a0 :: a1 :: a2 :: a3 :: a4 :: some (.int i1) :: r9) st A = exG TB d 124 1108 (a0 :: a1 :: a2 :: a3 :: a4 :: some (.int i1) :: r9) (.int i1 :: st) A := x_nx (op := o_iload 5 2) rfl rfl
theorem x_124_1108  : exG TB d 124 1108 L st A = exG TB d 124 1109 L (.int (nI 2) :: st) A := x_nx (op := o_push 1 (.int 2)) rfl rfl
theorem x_124_1109  : exG TB d 124 1109 L (.int i2 :: .int i1 :: st) A = exG TB d 124 1110 L (.int (i1 + i2) :: st) A := x_nx (op := o_iop (fun x y => x + y)) rfl rfl
theorem x_124_1110  : exG TB d 124 1110 L (.int i1 :: .ref p :: st) A = ki (rdI 0 (gas A p) i1) d 124 1111 L st A := x_bd (op := o_rdIs 0) rfl rfl (fun _ => rfl)
theorem x_124_1111  : exG TB d 124 1111 (some v :: r9) st A = rg v (exG TB d 124 1112 (some v :: r9) (v :: st) A) := x_rg (op := o_aload 0 1) rfl rfl
theorem x_124_1112  : exG TB d 124 1112 (a0 :: a1 :: a2 :: a3 :: a4 :: some (.int i1) :: r9) st A = exG TB d 124 1114 (a0 :: a1 :: a2 :: a3 :: a4 :: some (.int i1) :: r9) (.int i1 :: st) A := x_nx (op := o_iload 5 2) rfl rfl
theorem x_124_1114  : exG TB d 124 1114 L st A = exG TB d 124 1115 L (.int (nI 3) :: st) A := x_nx (op := o_push 1 (.int 3)) rfl rfl
theorem x_124_1115  : exG TB d 124 1115 L (.int i2 :: .int i1 :: st) A = exG TB d 124 1116 L (.int (i1 + i2) :: st) A := x_nx (op := o_iop (fun x y => x + y)) rfl rfl
theorem x_124_1116  : exG TB d 124 1116 L (.int i1 :: .ref p :: st) A = ki (rdI 0 (gas A p) i1) d 124 1117 L st A := x_bd (op := o_rdIs 0) rfl rfl (fun _ => rfl)
theorem x_124_1117  : exG TB d 124 1117 (some v :: r9) st A = rg v (exG TB d 124 1118 (some v :: r9) (v :: st) A) := x_rg (op := o_aload 0 1) rfl rfl
theorem x_124_1118  : exG TB d 124 1118 (a0 :: a1 :: a2 :: a3 :: a4 :: some (.int i1) :: r9) st A = exG TB d 124 1120 (a0 :: a1 :: a2 :: a3 :: a4 :: some (.int i1) :: r9) (.int i1 :: st) A := x_nx (op := o_iload 5 2) rfl rfl
theorem x_124_1120  : exG TB d 124 1120 L st A = exG TB d 124 1121 L (.int (nI 4) :: st) A := x_nx (op := o_push 1 (.int 4)) rfl rfl
theorem x_124_1121  : exG TB d 124 1121 L (.int i2 :: .int i1 :: st) A = exG TB d 124 1122 L (.int (i1 + i2) :: st) A := x_nx (op := o_iop (fun x y => x + y)) rfl rfl
theorem x_124_1122  : exG TB d 124 1122 L (.int i1 :: .ref p :: st) A = ki (rdI 0 (gas A p) i1) d 124 1123 L st A := x_bd (op := o_rdIs 0) rfl rfl (fun _ => rfl)
theorem x_124_1123  : exG TB d 124 1123 L [b3, b2, b1, b0, .ref p] A = kw (sel (gc A p) [(30, 344)]) [.ref p, b0, b1, b2, b3] d 124 1126 L [] A := x_cvb (op := o_cv [(30, 344)] 4 3 false none) rfl rfl x_noh rfl
theorem x_124_1126  : exG TB d 124 1126 (a0 :: a1 :: a2 :: a3 :: a4 :: a5 :: a6 :: a7 :: r9) (.int i1 :: st) A = exG TB d 124 1128 (a0 :: a1 :: a2 :: a3 :: a4 :: a5 :: a6 :: some (.int i1) :: r9) st A := x_nx (op := o_istore 7 2) rfl rfl
theorem x_124_1128  : exG TB d 124 1128 (a0 :: a1 :: some v :: r9) st A = rg v (exG TB d 124 1129 (a0 :: a1 :: some v :: r9) (v :: st) A) := x_rg (op := o_aload 2 1) rfl rfl
theorem x_124_1129  : exG TB d 124 1129 L [.ref p] A = kw (sel (gc A p) [(30, 289)]) [.ref p] d 124 1132 L [] A := x_cvb (op := o_cv [(30, 289)] 0 3 false none) rfl rfl x_noh rfl
theorem x_124_1132  : exG TB d 124 1132 (a0 :: a1 :: a2 :: a3 :: a4 :: a5 :: some (.int i1) :: r9) st A = exG TB d 124 1134 (a0 :: a1 :: a2 :: a3 :: a4 :: a5 :: some (.int i1) :: r9) (.int i1 :: st) A := x_nx (op := o_iload 6 2) rfl rfl
theorem x_124_1134  : exG TB d 124 1134 L (.int i2 :: .int i1 :: st) A = if i1 = i2 then exG TB d 124 1139 L st A else exG TB d 124 1137 L st A := x_if (op := o_icmp (fun x y => decide (x = y)) 1139) rfl rfl rfl
theorem x_124_1137  : exG TB d 124 1137 L st A = exG TB d 124 1138 L (.int (nI 0) :: st) A := x_nx (op := o_push 1 (.int 0)) rfl rfl
theorem x_124_1138  : exG TB d 124 1138 L [v] A = ck (okv 5 v) (some (.inl (some v), A)) := x_outg (op := o_ret 5) rfl rfl
theorem x_124_1139  : exG TB d 124 1139 (a0 :: a1 :: a2 :: a3 :: a4 :: a5 :: some (.int i1) :: r9) st A = exG TB d 124 1141 (a0 :: a1 :: a2 :: a3 :: a4 :: a5 :: some (.int i1) :: r9) (.int i1 :: st) A := x_nx (op := o_iload 6 2) rfl rfl
theorem x_124_1141  : exG TB d 124 1141 L (.int i1 :: st) A = if ¬ i1 = nI 0 then exG TB d 124 1156 L st A else exG TB d 124 1144 L st A := x_if (op := o_if (fun x => decide (¬ x = 0)) 1156) rfl rfl rfl
theorem x_124_1144  : exG TB d 124 1144 (a0 :: a1 :: a2 :: some v :: r9) st A = rg v (exG TB d 124 1145 (a0 :: a1 :: a2 :: some v :: r9) (v :: st) A) := x_rg (op := o_aload 3 1) rfl rfl
theorem x_124_1145  : exG TB d 124 1145 L st A = exG TB d 124 1146 L (.int (nI 0) :: st) A := x_nx (op := o_push 1 (.int 0)) rfl rfl
theorem x_124_1146  : exG TB d 124 1146 L (.int i1 :: .ref p :: st) A = kj (rdJ (ga A p) i1) d 124 1147 L st A := x_bd (op := o_rdJ) rfl rfl (fun _ => rfl)
theorem x_124_1147  : exG TB d 124 1147 (a0 :: a1 :: a2 :: a3 :: a4 :: a5 :: a6 :: some (.int i1) :: r9) st A = exG TB d 124 1149 (a0 :: a1 :: a2 :: a3 :: a4 :: a5 :: a6 :: some (.int i1) :: r9) (.int i1 :: st) A := x_nx (op := o_iload 7 2) rfl rfl
theorem x_124_1149  : exG TB d 124 1149 L (.int i1 :: st) A = exG TB d 124 1150 L (.long i1.toInt64 :: st) A := x_nx (op := o_i2l) rfl rfl
theorem x_124_1150  : exG TB d 124 1150 L (.long l2 :: .long l1 :: st) A = exG TB d 124 1151 L (.int (lg_cmp l1 l2) :: st) A := x_nx (op := o_lcmp) rfl rfl
theorem x_124_1151  : exG TB d 124 1151 L (.int i1 :: st) A = if i1 = nI 0 then exG TB d 124 1156 L st A else exG TB d 124 1154 L st A := x_if (op := o_if (fun x => decide (x = 0)) 1156) rfl rfl rfl
theorem x_124_1154  : exG TB d 124 1154 L st A = exG TB d 124 1155 L (.int (nI 0) :: st) A := x_nx (op := o_push 1 (.int 0)) rfl rfl
theorem x_124_1155  : exG TB d 124 1155 L [v] A = ck (okv 5 v) (some (.inl (some v), A)) := x_outg (op := o_ret 5) rfl rfl
theorem x_124_1156  : exG TB d 124 1156 L st A = exG TB d 124 2693 L st A := x_nx (op := o_goto 2693) rfl rfl
theorem x_124_1159  : exG TB d 124 1159 (a0 :: some v :: r9) st A = rg v (exG TB d 124 1160 (a0 :: some v :: r9) (v :: st) A) := x_rg (op := o_aload 1 1) rfl rfl
theorem x_124_1160  : exG TB d 124 1160 (some v :: r9) st A = rg v (exG TB d 124 1161 (some v :: r9) (v :: st) A) := x_rg (op := o_aload 0 1) rfl rfl
theorem x_124_1161  : exG TB d 124 1161 (a0 :: a1 :: a2 :: a3 :: a4 :: some (.int i1) :: r9) st A = exG TB d 124 1163 (a0 :: a1 :: a2 :: a3 :: a4 :: some (.int i1) :: r9) (.int i1 :: st) A := x_nx (op := o_iload 5 2) rfl rfl
theorem x_124_1163  : exG TB d 124 1163 L st A = exG TB d 124 1164 L (.int (nI 1) :: st) A := x_nx (op := o_push 1 (.int 1)) rfl rfl
theorem x_124_1164  : exG TB d 124 1164 L (.int i2 :: .int i1 :: st) A = exG TB d 124 1165 L (.int (i1 + i2) :: st) A := x_nx (op := o_iop (fun x y => x + y)) rfl rfl
theorem x_124_1165  : exG TB d 124 1165 L (.int i1 :: .ref p :: st) A = ki (rdI 0 (gas A p) i1) d 124 1166 L st A := x_bd (op := o_rdIs 0) rfl rfl (fun _ => rfl)
theorem x_124_1166  : exG TB d 124 1166 (some v :: r9) st A = rg v (exG TB d 124 1167 (some v :: r9) (v :: st) A) := x_rg (op := o_aload 0 1) rfl rfl
theorem x_124_1167  : exG TB d 124 1167 (a0 :: a1 :: a2 :: a3 :: a4 :: some (.int i1) :: r9) st A = exG TB d 124 1169 (a0 :: a1 :: a2 :: a3 :: a4 :: some (.int i1) :: r9) (.int i1 :: st) A := x_nx (op := o_iload 5 2) rfl rfl
theorem x_124_1169  : exG TB d 124 1169 L st A = exG TB d 124 1170 L (.int (nI 2) :: st) A := x_nx (op := o_push 1 (.int 2)) rfl rfl
theorem x_124_1170  : exG TB d 124 1170 L (.int i2 :: .int i1 :: st) A = exG TB d 124 1171 L (.int (i1 + i2) :: st) A := x_nx (op := o_iop (fun x y => x + y)) rfl rfl
theorem x_124_1171  : exG TB d 124 1171 L (.int i1 :: .ref p :: st) A = ki (rdI 0 (gas A p) i1) d 124 1172 L st A := x_bd (op := o_rdIs 0) rfl rfl (fun _ => rfl)
theorem x_124_1172  : exG TB d 124 1172 (some v :: r9) st A = rg v (exG TB d 124 1173 (some v :: r9) (v :: st) A) := x_rg (op := o_aload 0 1) rfl rfl
theorem x_124_1173  : exG TB d 124 1173 (a0 :: a1 :: a2 :: a3 :: a4 :: some (.int i1) :: r9) st A = exG TB d 124 1175 (a0 :: a1 :: a2 :: a3 :: a4 :: some (.int i1) :: r9) (.int i1 :: st) A := x_nx (op := o_iload 5 2) rfl rfl
theorem x_124_1175  : exG TB d 124 1175 L st A = exG TB d 124 1176 L (.int (nI 3) :: st) A := x_nx (op := o_push 1 (.int 3)) rfl rfl
theorem x_124_1176  : exG TB d 124 1176 L (.int i2 :: .int i1 :: st) A = exG TB d 124 1177 L (.int (i1 + i2) :: st) A := x_nx (op := o_iop (fun x y => x + y)) rfl rfl
theorem x_124_1177  : exG TB d 124 1177 L (.int i1 :: .ref p :: st) A = ki (rdI 0 (gas A p) i1) d 124 1178 L st A := x_bd (op := o_rdIs 0) rfl rfl (fun _ => rfl)
theorem x_124_1178  : exG TB d 124 1178 (some v :: r9) st A = rg v (exG TB d 124 1179 (some v :: r9) (v :: st) A) := x_rg (op := o_aload 0 1) rfl rfl
theorem x_124_1179  : exG TB d 124 1179 (a0 :: a1 :: a2 :: a3 :: a4 :: some (.int i1) :: r9) st A = exG TB d 124 1181 (a0 :: a1 :: a2 :: a3 :: a4 :: some (.int i1) :: r9) (.int i1 :: st) A := x_nx (op := o_iload 5 2) rfl rfl
theorem x_124_1181  : exG TB d 124 1181 L st A = exG TB d 124 1182 L (.int (nI 4) :: st) A := x_nx (op := o_push 1 (.int 4)) rfl rfl
theorem x_124_1182  : exG TB d 124 1182 L (.int i2 :: .int i1 :: st) A = exG TB d 124 1183 L (.int (i1 + i2) :: st) A := x_nx (op := o_iop (fun x y => x + y)) rfl rfl
theorem x_124_1183  : exG TB d 124 1183 L (.int i1 :: .ref p :: st) A = ki (rdI 0 (gas A p) i1) d 124 1184 L st A := x_bd (op := o_rdIs 0) rfl rfl (fun _ => rfl)
theorem x_124_1184  : exG TB d 124 1184 (a0 :: a1 :: a2 :: some v :: r9) st A = rg v (exG TB d 124 1185 (a0 :: a1 :: a2 :: some v :: r9) (v :: st) A) := x_rg (op := o_aload 3 1) rfl rfl
theorem x_124_1185  : exG TB d 124 1185 L [b5, b4, b3, b2, b1, b0] A = kc (evG TB d 138 [b0, b1, b2, b3, b4, b5] A) d 124 1188 L [] := x_cv (op := o_cs 138 6 false none) rfl rfl x_noh rfl
theorem x_124_1188  : exG TB d 124 1188 (a0 :: a1 :: a2 :: a3 :: a4 :: a5 :: a6 :: r9) (.int i1 :: st) A = exG TB d 124 1190 (a0 :: a1 :: a2 :: a3 :: a4 :: a5 :: some (.int i1) :: r9) st A := x_nx (op := o_istore 6 2) rfl rfl
theorem x_124_1190  : exG TB d 124 1190 (a0 :: a1 :: some v :: r9) st A = rg v (exG TB d 124 1191 (a0 :: a1 :: some v :: r9) (v :: st) A) := x_rg (op := o_aload 2 1) rfl rfl
theorem x_124_1191  : exG TB d 124 1191 (some v :: r9) st A = rg v (exG TB d 124 1192 (some v :: r9) (v :: st) A) := x_rg (op := o_aload 0 1) rfl rfl
theorem x_124_1192  : exG TB d 124 1192 (a0 :: a1 :: a2 :: a3 :: a4 :: some (.int i1) :: r9) st A = exG TB d 124 1194 (a0 :: a1 :: a2 :: a3 :: a4 :: some (.int i1) :: r9) (.int i1 :: st) A := x_nx (op := o_iload 5 2) rfl rfl
theorem x_124_1194  : exG TB d 124 1194 L st A = exG TB d 124 1195 L (.int (nI 1) :: st) A := x_nx (op := o_push 1 (.int 1)) rfl rfl
theorem x_124_1195  : exG TB d 124 1195 L (.int i2 :: .int i1 :: st) A = exG TB d 124 1196 L (.int (i1 + i2) :: st) A := x_nx (op := o_iop (fun x y => x + y)) rfl rfl
theorem x_124_1196  : exG TB d 124 1196 L (.int i1 :: .ref p :: st) A = ki (rdI 0 (gas A p) i1) d 124 1197 L st A := x_bd (op := o_rdIs 0) rfl rfl (fun _ => rfl)
theorem x_124_1197  : exG TB d 124 1197 (some v :: r9) st A = rg v (exG TB d 124 1198 (some v :: r9) (v :: st) A) := x_rg (op := o_aload 0 1) rfl rfl
theorem x_124_1198  : exG TB d 124 1198 (a0 :: a1 :: a2 :: a3 :: a4 :: some (.int i1) :: r9) st A = exG TB d 124 1200 (a0 :: a1 :: a2 :: a3 :: a4 :: some (.int i1) :: r9) (.int i1 :: st) A := x_nx (op := o_iload 5 2) rfl rfl
theorem x_124_1200  : exG TB d 124 1200 L st A = exG TB d 124 1201 L (.int (nI 2) :: st) A := x_nx (op := o_push 1 (.int 2)) rfl rfl
theorem x_124_1201  : exG TB d 124 1201 L (.int i2 :: .int i1 :: st) A = exG TB d 124 1202 L (.int (i1 + i2) :: st) A := x_nx (op := o_iop (fun x y => x + y)) rfl rfl
theorem x_124_1202  : exG TB d 124 1202 L (.int i1 :: .ref p :: st) A = ki (rdI 0 (gas A p) i1) d 124 1203 L st A := x_bd (op := o_rdIs 0) rfl rfl (fun _ => rfl)
theorem x_124_1203  : exG TB d 124 1203 (some v :: r9) st A = rg v (exG TB d 124 1204 (some v :: r9) (v :: st) A) := x_rg (op := o_aload 0 1) rfl rfl
theorem x_124_1204  : exG TB d 124 1204 (a0 :: a1 :: a2 :: a3 :: a4 :: some (.int i1) :: r9) st A = exG TB d 124 1206 (a0 :: a1 :: a2 :: a3 :: a4 :: some (.int i1) :: r9) (.int i1 :: st) A := x_nx (op := o_iload 5 2) rfl rfl
theorem x_124_1206  : exG TB d 124 1206 L st A = exG TB d 124 1207 L (.int (nI 3) :: st) A := x_nx (op := o_push 1 (.int 3)) rfl rfl
theorem x_124_1207  : exG TB d 124 1207 L (.int i2 :: .int i1 :: st) A = exG TB d 124 1208 L (.int (i1 + i2) :: st) A := x_nx (op := o_iop (fun x y => x + y)) rfl rfl
theorem x_124_1208  : exG TB d 124 1208 L (.int i1 :: .ref p :: st) A = ki (rdI 0 (gas A p) i1) d 124 1209 L st A := x_bd (op := o_rdIs 0) rfl rfl (fun _ => rfl)
theorem x_124_1209  : exG TB d 124 1209 (some v :: r9) st A = rg v (exG TB d 124 1210 (some v :: r9) (v :: st) A) := x_rg (op := o_aload 0 1) rfl rfl
theorem x_124_1210  : exG TB d 124 1210 (a0 :: a1 :: a2 :: a3 :: a4 :: some (.int i1) :: r9) st A = exG TB d 124 1212 (a0 :: a1 :: a2 :: a3 :: a4 :: some (.int i1) :: r9) (.int i1 :: st) A := x_nx (op := o_iload 5 2) rfl rfl
theorem x_124_1212  : exG TB d 124 1212 L st A = exG TB d 124 1213 L (.int (nI 4) :: st) A := x_nx (op := o_push 1 (.int 4)) rfl rfl
theorem x_124_1213  : exG TB d 124 1213 L (.int i2 :: .int i1 :: st) A = exG TB d 124 1214 L (.int (i1 + i2) :: st) A := x_nx (op := o_iop (fun x y => x + y)) rfl rfl
theorem x_124_1214  : exG TB d 124 1214 L (.int i1 :: .ref p :: st) A = ki (rdI 0 (gas A p) i1) d 124 1215 L st A := x_bd (op := o_rdIs 0) rfl rfl (fun _ => rfl)
theorem x_124_1215  : exG TB d 124 1215 L [b3, b2, b1, b0, .ref p] A = kw (sel (gc A p) [(30, 348)]) [.ref p, b0, b1, b2, b3] d 124 1218 L [] A := x_cvb (op := o_cv [(30, 348)] 4 3 false none) rfl rfl x_noh rfl
theorem x_124_1218  : exG TB d 124 1218 (a0 :: a1 :: a2 :: a3 :: a4 :: a5 :: a6 :: a7 :: r9) (.int i1 :: st) A = exG TB d 124 1220 (a0 :: a1 :: a2 :: a3 :: a4 :: a5 :: a6 :: some (.int i1) :: r9) st A := x_nx (op := o_istore 7 2) rfl rfl
theorem x_124_1220  : exG TB d 124 1220 (a0 :: a1 :: some v :: r9) st A = rg v (exG TB d 124 1221 (a0 :: a1 :: some v :: r9) (v :: st) A) := x_rg (op := o_aload 2 1) rfl rfl
theorem x_124_1221  : exG TB d 124 1221 L [.ref p] A = kw (sel (gc A p) [(30, 289)]) [.ref p] d 124 1224 L [] A := x_cvb (op := o_cv [(30, 289)] 0 3 false none) rfl rfl x_noh rfl
theorem x_124_1224  : exG TB d 124 1224 (a0 :: a1 :: a2 :: a3 :: a4 :: a5 :: some (.int i1) :: r9) st A = exG TB d 124 1226 (a0 :: a1 :: a2 :: a3 :: a4 :: a5 :: some (.int i1) :: r9) (.int i1 :: st) A := x_nx (op := o_iload 6 2) rfl rfl
theorem x_124_1226  : exG TB d 124 1226 L (.int i2 :: .int i1 :: st) A = if i1 = i2 then exG TB d 124 1231 L st A else exG TB d 124 1229 L st A := x_if (op := o_icmp (fun x y => decide (x = y)) 1231) rfl rfl rfl
theorem x_124_1229  : exG TB d 124 1229 L st A = exG TB d 124 1230 L (.int (nI 0) :: st) A := x_nx (op := o_push 1 (.int 0)) rfl rfl
theorem x_124_1230  : exG TB d 124 1230 L [v] A = ck (okv 5 v) (some (.inl (some v), A)) := x_outg (op := o_ret 5) rfl rfl
theorem x_124_1231  : exG TB d 124 1231 (a0 :: a1 :: a2 :: a3 :: a4 :: a5 :: some (.int i1) :: r9) st A = exG TB d 124 1233 (a0 :: a1 :: a2 :: a3 :: a4 :: a5 :: some (.int i1) :: r9) (.int i1 :: st) A := x_nx (op := o_iload 6 2) rfl rfl
theorem x_124_1233  : exG TB d 124 1233 L (.int i1 :: st) A = if ¬ i1 = nI 0 then exG TB d 124 1248 L st A else exG TB d 124 1236 L st A := x_if (op := o_if (fun x => decide (¬ x = 0)) 1248) rfl rfl rfl
theorem x_124_1236  : exG TB d 124 1236 (a0 :: a1 :: a2 :: some v :: r9) st A = rg v (exG TB d 124 1237 (a0 :: a1 :: a2 :: some v :: r9) (v :: st) A) := x_rg (op := o_aload 3 1) rfl rfl
theorem x_124_1237  : exG TB d 124 1237 L st A = exG TB d 124 1238 L (.int (nI 0) :: st) A := x_nx (op := o_push 1 (.int 0)) rfl rfl
theorem x_124_1238  : exG TB d 124 1238 L (.int i1 :: .ref p :: st) A = kj (rdJ (ga A p) i1) d 124 1239 L st A := x_bd (op := o_rdJ) rfl rfl (fun _ => rfl)
theorem x_124_1239  : exG TB d 124 1239 (a0 :: a1 :: a2 :: a3 :: a4 :: a5 :: a6 :: some (.int i1) :: r9) st A = exG TB d 124 1241 (a0 :: a1 :: a2 :: a3 :: a4 :: a5 :: a6 :: some (.int i1) :: r9) (.int i1 :: st) A := x_nx (op := o_iload 7 2) rfl rfl
theorem x_124_1241  : exG TB d 124 1241 L (.int i1 :: st) A = exG TB d 124 1242 L (.long i1.toInt64 :: st) A := x_nx (op := o_i2l) rfl rfl
theorem x_124_1242  : exG TB d 124 1242 L (.long l2 :: .long l1 :: st) A = exG TB d 124 1243 L (.int (lg_cmp l1 l2) :: st) A := x_nx (op := o_lcmp) rfl rfl
theorem x_124_1243  : exG TB d 124 1243 L (.int i1 :: st) A = if i1 = nI 0 then exG TB d 124 1248 L st A else exG TB d 124 1246 L st A := x_if (op := o_if (fun x => decide (x = 0)) 1248) rfl rfl rfl
theorem x_124_1246  : exG TB d 124 1246 L st A = exG TB d 124 1247 L (.int (nI 0) :: st) A := x_nx (op := o_push 1 (.int 0)) rfl rfl
theorem x_124_1247  : exG TB d 124 1247 L [v] A = ck (okv 5 v) (some (.inl (some v), A)) := x_outg (op := o_ret 5) rfl rfl
theorem x_124_1248  : exG TB d 124 1248 L st A = exG TB d 124 2693 L st A := x_nx (op := o_goto 2693) rfl rfl
theorem x_124_1251  : exG TB d 124 1251 (a0 :: some v :: r9) st A = rg v (exG TB d 124 1252 (a0 :: some v :: r9) (v :: st) A) := x_rg (op := o_aload 1 1) rfl rfl
theorem x_124_1252  : exG TB d 124 1252 (some v :: r9) st A = rg v (exG TB d 124 1253 (some v :: r9) (v :: st) A) := x_rg (op := o_aload 0 1) rfl rfl
theorem x_124_1253  : exG TB d 124 1253 (a0 :: a1 :: a2 :: a3 :: a4 :: some (.int i1) :: r9) st A = exG TB d 124 1255 (a0 :: a1 :: a2 :: a3 :: a4 :: some (.int i1) :: r9) (.int i1 :: st) A := x_nx (op := o_iload 5 2) rfl rfl
theorem x_124_1255  : exG TB d 124 1255 L st A = exG TB d 124 1256 L (.int (nI 1) :: st) A := x_nx (op := o_push 1 (.int 1)) rfl rfl
theorem x_124_1256  : exG TB d 124 1256 L (.int i2 :: .int i1 :: st) A = exG TB d 124 1257 L (.int (i1 + i2) :: st) A := x_nx (op := o_iop (fun x y => x + y)) rfl rfl
theorem x_124_1257  : exG TB d 124 1257 L (.int i1 :: .ref p :: st) A = ki (rdI 0 (gas A p) i1) d 124 1258 L st A := x_bd (op := o_rdIs 0) rfl rfl (fun _ => rfl)
theorem x_124_1258  : exG TB d 124 1258 (some v :: r9) st A = rg v (exG TB d 124 1259 (some v :: r9) (v :: st) A) := x_rg (op := o_aload 0 1) rfl rfl
theorem x_124_1259  : exG TB d 124 1259 (a0 :: a1 :: a2 :: a3 :: a4 :: some (.int i1) :: r9) st A = exG TB d 124 1261 (a0 :: a1 :: a2 :: a3 :: a4 :: some (.int i1) :: r9) (.int i1 :: st) A := x_nx (op := o_iload 5 2) rfl rfl
theorem x_124_1261  : exG TB d 124 1261 L st A = exG TB d 124 1262 L (.int (nI 2) :: st) A := x_nx (op := o_push 1 (.int 2)) rfl rfl
theorem x_124_1262  : exG TB d 124 1262 L (.int i2 :: .int i1 :: st) A = exG TB d 124 1263 L (.int (i1 + i2) :: st) A := x_nx (op := o_iop (fun x y => x + y)) rfl rfl
theorem x_124_1263  : exG TB d 124 1263 L (.int i1 :: .ref p :: st) A = ki (rdI 0 (gas A p) i1) d 124 1264 L st A := x_bd (op := o_rdIs 0) rfl rfl (fun _ => rfl)
theorem x_124_1264  : exG TB d 124 1264 (a0 :: a1 :: a2 :: some v :: r9) st A = rg v (exG TB d 124 1265 (a0 :: a1 :: a2 :: some v :: r9) (v :: st) A) := x_rg (op := o_aload 3 1) rfl rfl
theorem x_124_1265  : exG TB d 124 1265 L [b3, b2, b1, b0] A = kc (evG TB d 139 [b0, b1, b2, b3] A) d 124 1268 L [] := x_cv (op := o_cs 139 4 false none) rfl rfl x_noh rfl
theorem x_124_1268  : exG TB d 124 1268 (a0 :: a1 :: a2 :: a3 :: a4 :: a5 :: a6 :: r9) (.int i1 :: st) A = exG TB d 124 1270 (a0 :: a1 :: a2 :: a3 :: a4 :: a5 :: some (.int i1) :: r9) st A := x_nx (op := o_istore 6 2) rfl rfl
theorem x_124_1270  : exG TB d 124 1270 (a0 :: a1 :: some v :: r9) st A = rg v (exG TB d 124 1271 (a0 :: a1 :: some v :: r9) (v :: st) A) := x_rg (op := o_aload 2 1) rfl rfl
theorem x_124_1271  : exG TB d 124 1271 (some v :: r9) st A = rg v (exG TB d 124 1272 (some v :: r9) (v :: st) A) := x_rg (op := o_aload 0 1) rfl rfl
theorem x_124_1272  : exG TB d 124 1272 (a0 :: a1 :: a2 :: a3 :: a4 :: some (.int i1) :: r9) st A = exG TB d 124 1274 (a0 :: a1 :: a2 :: a3 :: a4 :: some (.int i1) :: r9) (.int i1 :: st) A := x_nx (op := o_iload 5 2) rfl rfl
theorem x_124_1274  : exG TB d 124 1274 L st A = exG TB d 124 1275 L (.int (nI 1) :: st) A := x_nx (op := o_push 1 (.int 1)) rfl rfl
theorem x_124_1275  : exG TB d 124 1275 L (.int i2 :: .int i1 :: st) A = exG TB d 124 1276 L (.int (i1 + i2) :: st) A := x_nx (op := o_iop (fun x y => x + y)) rfl rfl
theorem x_124_1276  : exG TB d 124 1276 L (.int i1 :: .ref p :: st) A = ki (rdI 0 (gas A p) i1) d 124 1277 L st A := x_bd (op := o_rdIs 0) rfl rfl (fun _ => rfl)
theorem x_124_1277  : exG TB d 124 1277 (some v :: r9) st A = rg v (exG TB d 124 1278 (some v :: r9) (v :: st) A) := x_rg (op := o_aload 0 1) rfl rfl
theorem x_124_1278  : exG TB d 124 1278 (a0 :: a1 :: a2 :: a3 :: a4 :: some (.int i1) :: r9) st A = exG TB d 124 1280 (a0 :: a1 :: a2 :: a3 :: a4 :: some (.int i1) :: r9) (.int i1 :: st) A := x_nx (op := o_iload 5 2) rfl rfl
theorem x_124_1280  : exG TB d 124 1280 L st A = exG TB d 124 1281 L (.int (nI 2) :: st) A := x_nx (op := o_push 1 (.int 2)) rfl rfl
theorem x_124_1281  : exG TB d 124 1281 L (.int i2 :: .int i1 :: st) A = exG TB d 124 1282 L (.int (i1 + i2) :: st) A := x_nx (op := o_iop (fun x y => x + y)) rfl rfl
theorem x_124_1282  : exG TB d 124 1282 L (.int i1 :: .ref p :: st) A = ki (rdI 0 (gas A p) i1) d 124 1283 L st A := x_bd (op := o_rdIs 0) rfl rfl (fun _ => rfl)
theorem x_124_1283  : exG TB d 124 1283 L [b1, b0, .ref p] A = kw (sel (gc A p) [(30, 349)]) [.ref p, b0, b1] d 124 1286 L [] A := x_cvb (op := o_cv [(30, 349)] 2 3 false none) rfl rfl x_noh rfl
theorem x_124_1286  : exG TB d 124 1286 (a0 :: a1 :: a2 :: a3 :: a4 :: a5 :: a6 :: a7 :: r9) (.int i1 :: st) A = exG TB d 124 1288 (a0 :: a1 :: a2 :: a3 :: a4 :: a5 :: a6 :: some (.int i1) :: r9) st A := x_nx (op := o_istore 7 2) rfl rfl
theorem x_124_1288  : exG TB d 124 1288 (a0 :: a1 :: some v :: r9) st A = rg v (exG TB d 124 1289 (a0 :: a1 :: some v :: r9) (v :: st) A) := x_rg (op := o_aload 2 1) rfl rfl
theorem x_124_1289  : exG TB d 124 1289 L [.ref p] A = kw (sel (gc A p) [(30, 289)]) [.ref p] d 124 1292 L [] A := x_cvb (op := o_cv [(30, 289)] 0 3 false none) rfl rfl x_noh rfl
theorem x_124_1292  : exG TB d 124 1292 (a0 :: a1 :: a2 :: a3 :: a4 :: a5 :: some (.int i1) :: r9) st A = exG TB d 124 1294 (a0 :: a1 :: a2 :: a3 :: a4 :: a5 :: some (.int i1) :: r9) (.int i1 :: st) A := x_nx (op := o_iload 6 2) rfl rfl
theorem x_124_1294  : exG TB d 124 1294 L (.int i2 :: .int i1 :: st) A = if i1 = i2 then exG TB d 124 1299 L st A else exG TB d 124 1297 L st A := x_if (op := o_icmp (fun x y => decide (x = y)) 1299) rfl rfl rfl
theorem x_124_1297  : exG TB d 124 1297 L st A = exG TB d 124 1298 L (.int (nI 0) :: st) A := x_nx (op := o_push 1 (.int 0)) rfl rfl
theorem x_124_1298  : exG TB d 124 1298 L [v] A = ck (okv 5 v) (some (.inl (some v), A)) := x_outg (op := o_ret 5) rfl rfl
theorem x_124_1299  : exG TB d 124 1299 (a0 :: a1 :: a2 :: a3 :: a4 :: a5 :: some (.int i1) :: r9) st A = exG TB d 124 1301 (a0 :: a1 :: a2 :: a3 :: a4 :: a5 :: some (.int i1) :: r9) (.int i1 :: st) A := x_nx (op := o_iload 6 2) rfl rfl
theorem x_124_1301  : exG TB d 124 1301 L (.int i1 :: st) A = if ¬ i1 = nI 0 then exG TB d 124 1316 L st A else exG TB d 124 1304 L st A := x_if (op := o_if (fun x => decide (¬ x = 0)) 1316) rfl rfl rfl
theorem x_124_1304  : exG TB d 124 1304 (a0 :: a1 :: a2 :: some v :: r9) st A = rg v (exG TB d 124 1305 (a0 :: a1 :: a2 :: some v :: r9) (v :: st) A) := x_rg (op := o_aload 3 1) rfl rfl
theorem x_124_1305  : exG TB d 124 1305 L st A = exG TB d 124 1306 L (.int (nI 0) :: st) A := x_nx (op := o_push 1 (.int 0)) rfl rfl
theorem x_124_1306  : exG TB d 124 1306 L (.int i1 :: .ref p :: st) A = kj (rdJ (ga A p) i1) d 124 1307 L st A := x_bd (op := o_rdJ) rfl rfl (fun _ => rfl)
theorem x_124_1307  : exG TB d 124 1307 (a0 :: a1 :: a2 :: a3 :: a4 :: a5 :: a6 :: some (.int i1) :: r9) st A = exG TB d 124 1309 (a0 :: a1 :: a2 :: a3 :: a4 :: a5 :: a6 :: some (.int i1) :: r9) (.int i1 :: st) A := x_nx (op := o_iload 7 2) rfl rfl
theorem x_124_1309  : exG TB d 124 1309 L (.int i1 :: st) A = exG TB d 124 1310 L (.long i1.toInt64 :: st) A := x_nx (op := o_i2l) rfl rfl
theorem x_124_1310  : exG TB d 124 1310 L (.long l2 :: .long l1 :: st) A = exG TB d 124 1311 L (.int (lg_cmp l1 l2) :: st) A := x_nx (op := o_lcmp) rfl rfl
theorem x_124_1311  : exG TB d 124 1311 L (.int i1 :: st) A = if i1 = nI 0 then exG TB d 124 1316 L st A else exG TB d 124 1314 L st A := x_if (op := o_if (fun x => decide (x = 0)) 1316) rfl rfl rfl
theorem x_124_1314  : exG TB d 124 1314 L st A = exG TB d 124 1315 L (.int (nI 0) :: st) A := x_nx (op := o_push 1 (.int 0)) rfl rfl
theorem x_124_1315  : exG TB d 124 1315 L [v] A = ck (okv 5 v) (some (.inl (some v), A)) := x_outg (op := o_ret 5) rfl rfl
theorem x_124_1316  : exG TB d 124 1316 L st A = exG TB d 124 2693 L st A := x_nx (op := o_goto 2693) rfl rfl
theorem x_124_1319  : exG TB d 124 1319 (a0 :: some v :: r9) st A = rg v (exG TB d 124 1320 (a0 :: some v :: r9) (v :: st) A) := x_rg (op := o_aload 1 1) rfl rfl
theorem x_124_1320  : exG TB d 124 1320 (some v :: r9) st A = rg v (exG TB d 124 1321 (some v :: r9) (v :: st) A) := x_rg (op := o_aload 0 1) rfl rfl
theorem x_124_1321  : exG TB d 124 1321 (a0 :: a1 :: a2 :: a3 :: a4 :: some (.int i1) :: r9) st A = exG TB d 124 1323 (a0 :: a1 :: a2 :: a3 :: a4 :: some (.int i1) :: r9) (.int i1 :: st) A := x_nx (op := o_iload 5 2) rfl rfl
theorem x_124_1323  : exG TB d 124 1323 L st A = exG TB d 124 1324 L (.int (nI 1) :: st) A := x_nx (op := o_push 1 (.int 1)) rfl rfl
theorem x_124_1324  : exG TB d 124 1324 L (.int i2 :: .int i1 :: st) A = exG TB d 124 1325 L (.int (i1 + i2) :: st) A := x_nx (op := o_iop (fun x y => x + y)) rfl rfl
theorem x_124_1325  : exG TB d 124 1325 L (.int i1 :: .ref p :: st) A = ki (rdI 0 (gas A p) i1) d 124 1326 L st A := x_bd (op := o_rdIs 0) rfl rfl (fun _ => rfl)
theorem x_124_1326  : exG TB d 124 1326 (some v :: r9) st A = rg v (exG TB d 124 1327 (some v :: r9) (v :: st) A) := x_rg (op := o_aload 0 1) rfl rfl
theorem x_124_1327  : exG TB d 124 1327 (a0 :: a1 :: a2 :: a3 :: a4 :: some (.int i1) :: r9) st A = exG TB d 124 1329 (a0 :: a1 :: a2 :: a3 :: a4 :: some (.int i1) :: r9) (.int i1 :: st) A := x_nx (op := o_iload 5 2) rfl rfl
theorem x_124_1329  : exG TB d 124 1329 L st A = exG TB d 124 1330 L (.int (nI 2) :: st) A := x_nx (op := o_push 1 (.int 2)) rfl rfl
theorem x_124_1330  : exG TB d 124 1330 L (.int i2 :: .int i1 :: st) A = exG TB d 124 1331 L (.int (i1 + i2) :: st) A := x_nx (op := o_iop (fun x y => x + y)) rfl rfl
theorem x_124_1331  : exG TB d 124 1331 L (.int i1 :: .ref p :: st) A = ki (rdI 0 (gas A p) i1) d 124 1332 L st A := x_bd (op := o_rdIs 0) rfl rfl (fun _ => rfl)
theorem x_124_1332  : exG TB d 124 1332 (some v :: r9) st A = rg v (exG TB d 124 1333 (some v :: r9) (v :: st) A) := x_rg (op := o_aload 0 1) rfl rfl
theorem x_124_1333  : exG TB d 124 1333 (a0 :: a1 :: a2 :: a3 :: a4 :: some (.int i1) :: r9) st A = exG TB d 124 1335 (a0 :: a1 :: a2 :: a3 :: a4 :: some (.int i1) :: r9) (.int i1 :: st) A := x_nx (op := o_iload 5 2) rfl rfl
theorem x_124_1335  : exG TB d 124 1335 L st A = exG TB d 124 1336 L (.int (nI 3) :: st) A := x_nx (op := o_push 1 (.int 3)) rfl rfl
theorem x_124_1336  : exG TB d 124 1336 L (.int i2 :: .int i1 :: st) A = exG TB d 124 1337 L (.int (i1 + i2) :: st) A := x_nx (op := o_iop (fun x y => x + y)) rfl rfl
theorem x_124_1337  : exG TB d 124 1337 L (.int i1 :: .ref p :: st) A = ki (rdI 0 (gas A p) i1) d 124 1338 L st A := x_bd (op := o_rdIs 0) rfl rfl (fun _ => rfl)
theorem x_124_1338  : exG TB d 124 1338 (a0 :: a1 :: a2 :: some v :: r9) st A = rg v (exG TB d 124 1339 (a0 :: a1 :: a2 :: some v :: r9) (v :: st) A) := x_rg (op := o_aload 3 1) rfl rfl
theorem x_124_1339  : exG TB d 124 1339 L [b4, b3, b2, b1, b0] A = kc (evG TB d 140 [b0, b1, b2, b3, b4] A) d 124 1342 L [] := x_cv (op := o_cs 140 5 false none) rfl rfl x_noh rfl
theorem x_124_1342  : exG TB d 124 1342 (a0 :: a1 :: a2 :: a3 :: a4 :: a5 :: a6 :: r9) (.int i1 :: st) A = exG TB d 124 1344 (a0 :: a1 :: a2 :: a3 :: a4 :: a5 :: some (.int i1) :: r9) st A := x_nx (op := o_istore 6 2) rfl rfl
theorem x_124_1344  : exG TB d 124 1344 (a0 :: a1 :: some v :: r9) st A = rg v (exG TB d 124 1345 (a0 :: a1 :: some v :: r9) (v :: st) A) := x_rg (op := o_aload 2 1) rfl rfl
theorem x_124_1345  : exG TB d 124 1345 (some v :: r9) st A = rg v (exG TB d 124 1346 (some v :: r9) (v :: st) A) := x_rg (op := o_aload 0 1) rfl rfl
theorem x_124_1346  : exG TB d 124 1346 (a0 :: a1 :: a2 :: a3 :: a4 :: some (.int i1) :: r9) st A = exG TB d 124 1348 (a0 :: a1 :: a2 :: a3 :: a4 :: some (.int i1) :: r9) (.int i1 :: st) A := x_nx (op := o_iload 5 2) rfl rfl
theorem x_124_1348  : exG TB d 124 1348 L st A = exG TB d 124 1349 L (.int (nI 1) :: st) A := x_nx (op := o_push 1 (.int 1)) rfl rfl
theorem x_124_1349  : exG TB d 124 1349 L (.int i2 :: .int i1 :: st) A = exG TB d 124 1350 L (.int (i1 + i2) :: st) A := x_nx (op := o_iop (fun x y => x + y)) rfl rfl
theorem x_124_1350  : exG TB d 124 1350 L (.int i1 :: .ref p :: st) A = ki (rdI 0 (gas A p) i1) d 124 1351 L st A := x_bd (op := o_rdIs 0) rfl rfl (fun _ => rfl)
theorem x_124_1351  : exG TB d 124 1351 (some v :: r9) st A = rg v (exG TB d 124 1352 (some v :: r9) (v :: st) A) := x_rg (op := o_aload 0 1) rfl rfl
theorem x_124_1352  : exG TB d 124 1352 (a0 :: a1 :: a2 :: a3 :: a4 :: some (.int i1) :: r9) st A = exG TB d 124 1354 (a0 :: a1 :: a2 :: a3 :: a4 :: some (.int i1) :: r9) (.int i1 :: st) A := x_nx (op := o_iload 5 2) rfl rfl
theorem x_124_1354  : exG TB d 124 1354 L st A = exG TB d 124 1355 L (.int (nI 2) :: st) A := x_nx (op := o_push 1 (.int 2)) rfl rfl
theorem x_124_1355  : exG TB d 124 1355 L (.int i2 :: .int i1 :: st) A = exG TB d 124 1356 L (.int (i1 + i2) :: st) A := x_nx (op := o_iop (fun x y => x + y)) rfl rfl
theorem x_124_1356  : exG TB d 124 1356 L (.int i1 :: .ref p :: st) A = ki (rdI 0 (gas A p) i1) d 124 1357 L st A := x_bd (op := o_rdIs 0) rfl rfl (fun _ => rfl)
theorem x_124_1357  : exG TB d 124 1357 (some v :: r9) st A = rg v (exG TB d 124 1358 (some v :: r9) (v :: st) A) := x_rg (op := o_aload 0 1) rfl rfl
theorem x_124_1358  : exG TB d 124 1358 (a0 :: a1 :: a2 :: a3 :: a4 :: some (.int i1) :: r9) st A = exG TB d 124 1360 (a0 :: a1 :: a2 :: a3 :: a4 :: some (.int i1) :: r9) (.int i1 :: st) A := x_nx (op := o_iload 5 2) rfl rfl
theorem x_124_1360  : exG TB d 124 1360 L st A = exG TB d 124 1361 L (.int (nI 3) :: st) A := x_nx (op := o_push 1 (.int 3)) rfl rfl
theorem x_124_1361  : exG TB d 124 1361 L (.int i2 :: .int i1 :: st) A = exG TB d 124 1362 L (.int (i1 + i2) :: st) A := x_nx (op := o_iop (fun x y => x + y)) rfl rfl
theorem x_124_1362  : exG TB d 124 1362 L (.int i1 :: .ref p :: st) A = ki (rdI 0 (gas A p) i1) d 124 1363 L st A := x_bd (op := o_rdIs 0) rfl rfl (fun _ => rfl)
theorem x_124_1363  : exG TB d 124 1363 L [b2, b1, b0, .ref p] A = kw (sel (gc A p) [(30, 351)]) [.ref p, b0, b1, b2] d 124 1366 L [] A := x_cvb (op := o_cv [(30, 351)] 3 3 false none) rfl rfl x_noh rfl
theorem x_124_1366  : exG TB d 124 1366 (a0 :: a1 :: a2 :: a3 :: a4 :: a5 :: a6 :: a7 :: r9) (.int i1 :: st) A = exG TB d 124 1368 (a0 :: a1 :: a2 :: a3 :: a4 :: a5 :: a6 :: some (.int i1) :: r9) st A := x_nx (op := o_istore 7 2) rfl rfl
theorem x_124_1368  : exG TB d 124 1368 (a0 :: a1 :: some v :: r9) st A = rg v (exG TB d 124 1369 (a0 :: a1 :: some v :: r9) (v :: st) A) := x_rg (op := o_aload 2 1) rfl rfl
theorem x_124_1369  : exG TB d 124 1369 L [.ref p] A = kw (sel (gc A p) [(30, 289)]) [.ref p] d 124 1372 L [] A := x_cvb (op := o_cv [(30, 289)] 0 3 false none) rfl rfl x_noh rfl
theorem x_124_1372  : exG TB d 124 1372 (a0 :: a1 :: a2 :: a3 :: a4 :: a5 :: some (.int i1) :: r9) st A = exG TB d 124 1374 (a0 :: a1 :: a2 :: a3 :: a4 :: a5 :: some (.int i1) :: r9) (.int i1 :: st) A := x_nx (op := o_iload 6 2) rfl rfl
theorem x_124_1374  : exG TB d 124 1374 L (.int i2 :: .int i1 :: st) A = if i1 = i2 then exG TB d 124 1379 L st A else exG TB d 124 1377 L st A := x_if (op := o_icmp (fun x y => decide (x = y)) 1379) rfl rfl rfl
theorem x_124_1377  : exG TB d 124 1377 L st A = exG TB d 124 1378 L (.int (nI 0) :: st) A := x_nx (op := o_push 1 (.int 0)) rfl rfl
theorem x_124_1378  : exG TB d 124 1378 L [v] A = ck (okv 5 v) (some (.inl (some v), A)) := x_outg (op := o_ret 5) rfl rfl
theorem x_124_1379  : exG TB d 124 1379 (a0 :: a1 :: a2 :: a3 :: a4 :: a5 :: some (.int i1) :: r9) st A = exG TB d 124 1381 (a0 :: a1 :: a2 :: a3 :: a4 :: a5 :: some (.int i1) :: r9) (.int i1 :: st) A := x_nx (op := o_iload 6 2) rfl rfl
theorem x_124_1381  : exG TB d 124 1381 L (.int i1 :: st) A = if ¬ i1 = nI 0 then exG TB d 124 1396 L st A else exG TB d 124 1384 L st A := x_if (op := o_if (fun x => decide (¬ x = 0)) 1396) rfl rfl rfl
theorem x_124_1384  : exG TB d 124 1384 (a0 :: a1 :: a2 :: some v :: r9) st A = rg v (exG TB d 124 1385 (a0 :: a1 :: a2 :: some v :: r9) (v :: st) A) := x_rg (op := o_aload 3 1) rfl rfl
theorem x_124_1385  : exG TB d 124 1385 L st A = exG TB d 124 1386 L (.int (nI 0) :: st) A := x_nx (op := o_push 1 (.int 0)) rfl rfl
theorem x_124_1386  : exG TB d 124 1386 L (.int i1 :: .ref p :: st) A = kj (rdJ (ga A p) i1) d 124 1387 L st A := x_bd (op := o_rdJ) rfl rfl (fun _ => rfl)
theorem x_124_1387  : exG TB d 124 1387 (a0 :: a1 :: a2 :: a3 :: a4 :: a5 :: a6 :: some (.int i1) :: r9) st A = exG TB d 124 1389 (a0 :: a1 :: a2 :: a3 :: a4 :: a5 :: a6 :: some (.int i1) :: r9) (.int i1 :: st) A := x_nx (op := o_iload 7 2) rfl rfl
theorem x_124_1389  : exG TB d 124 1389 L (.int i1 :: st) A = exG TB d 124 1390 L (.long i1.toInt64 :: st) A := x_nx (op := o_i2l) rfl rfl
theorem x_124_1390  : exG TB d 124 1390 L (.long l2 :: .long l1 :: st) A = exG TB d 124 1391 L (.int (lg_cmp l1 l2) :: st) A := x_nx (op := o_lcmp) rfl rfl
theorem x_124_1391  : exG TB d 124 1391 L (.int i1 :: st) A = if i1 = nI 0 then exG TB d 124 1396 L st A else exG TB d 124 1394 L st A := x_if (op := o_if (fun x => decide (x = 0)) 1396) rfl rfl rfl
theorem x_124_1394  : exG TB d 124 1394 L st A = exG TB d 124 1395 L (.int (nI 0) :: st) A := x_nx (op := o_push 1 (.int 0)) rfl rfl
theorem x_124_1395  : exG TB d 124 1395 L [v] A = ck (okv 5 v) (some (.inl (some v), A)) := x_outg (op := o_ret 5) rfl rfl
theorem x_124_1396  : exG TB d 124 1396 L st A = exG TB d 124 2693 L st A := x_nx (op := o_goto 2693) rfl rfl
theorem x_124_1399  : exG TB d 124 1399 (a0 :: some v :: r9) st A = rg v (exG TB d 124 1400 (a0 :: some v :: r9) (v :: st) A) := x_rg (op := o_aload 1 1) rfl rfl
theorem x_124_1400  : exG TB d 124 1400 (some v :: r9) st A = rg v (exG TB d 124 1401 (some v :: r9) (v :: st) A) := x_rg (op := o_aload 0 1) rfl rfl
theorem x_124_1401  : exG TB d 124 1401 (a0 :: a1 :: a2 :: a3 :: a4 :: some (.int i1) :: r9) st A = exG TB d 124 1403 (a0 :: a1 :: a2 :: a3 :: a4 :: some (.int i1) :: r9) (.int i1 :: st) A := x_nx (op := o_iload 5 2) rfl rfl
theorem x_124_1403  : exG TB d 124 1403 L st A = exG TB d 124 1404 L (.int (nI 1) :: st) A := x_nx (op := o_push 1 (.int 1)) rfl rfl
theorem x_124_1404  : exG TB d 124 1404 L (.int i2 :: .int i1 :: st) A = exG TB d 124 1405 L (.int (i1 + i2) :: st) A := x_nx (op := o_iop (fun x y => x + y)) rfl rfl
theorem x_124_1405  : exG TB d 124 1405 L (.int i1 :: .ref p :: st) A = ki (rdI 0 (gas A p) i1) d 124 1406 L st A := x_bd (op := o_rdIs 0) rfl rfl (fun _ => rfl)
theorem x_124_1406  : exG TB d 124 1406 (some v :: r9) st A = rg v (exG TB d 124 1407 (some v :: r9) (v :: st) A) := x_rg (op := o_aload 0 1) rfl rfl
theorem x_124_1407  : exG TB d 124 1407 (a0 :: a1 :: a2 :: a3 :: a4 :: some (.int i1) :: r9) st A = exG TB d 124 1409 (a0 :: a1 :: a2 :: a3 :: a4 :: some (.int i1) :: r9) (.int i1 :: st) A := x_nx (op := o_iload 5 2) rfl rfl
theorem x_124_1409  : exG TB d 124 1409 L st A = exG TB d 124 1410 L (.int (nI 2) :: st) A := x_nx (op := o_push 1 (.int 2)) rfl rfl
theorem x_124_1410  : exG TB d 124 1410 L (.int i2 :: .int i1 :: st) A = exG TB d 124 1411 L (.int (i1 + i2) :: st) A := x_nx (op := o_iop (fun x y => x + y)) rfl rfl
theorem x_124_1411  : exG TB d 124 1411 L (.int i1 :: .ref p :: st) A = ki (rdI 0 (gas A p) i1) d 124 1412 L st A := x_bd (op := o_rdIs 0) rfl rfl (fun _ => rfl)
theorem x_124_1412  : exG TB d 124 1412 (some v :: r9) st A = rg v (exG TB d 124 1413 (some v :: r9) (v :: st) A) := x_rg (op := o_aload 0 1) rfl rfl
theorem x_124_1413  : exG TB d 124 1413 (a0 :: a1 :: a2 :: a3 :: a4 :: some (.int i1) :: r9) st A = exG TB d 124 1415 (a0 :: a1 :: a2 :: a3 :: a4 :: some (.int i1) :: r9) (.int i1 :: st) A := x_nx (op := o_iload 5 2) rfl rfl
theorem x_124_1415  : exG TB d 124 1415 L st A = exG TB d 124 1416 L (.int (nI 3) :: st) A := x_nx (op := o_push 1 (.int 3)) rfl rfl
theorem x_124_1416  : exG TB d 124 1416 L (.int i2 :: .int i1 :: st) A = exG TB d 124 1417 L (.int (i1 + i2) :: st) A := x_nx (op := o_iop (fun x y => x + y)) rfl rfl
theorem x_124_1417  : exG TB d 124 1417 L (.int i1 :: .ref p :: st) A = ki (rdI 0 (gas A p) i1) d 124 1418 L st A := x_bd (op := o_rdIs 0) rfl rfl (fun _ => rfl)
theorem x_124_1418  : exG TB d 124 1418 (some v :: r9) st A = rg v (exG TB d 124 1419 (some v :: r9) (v :: st) A) := x_rg (op := o_aload 0 1) rfl rfl
theorem x_124_1419  : exG TB d 124 1419 (a0 :: a1 :: a2 :: a3 :: a4 :: some (.int i1) :: r9) st A = exG TB d 124 1421 (a0 :: a1 :: a2 :: a3 :: a4 :: some (.int i1) :: r9) (.int i1 :: st) A := x_nx (op := o_iload 5 2) rfl rfl
theorem x_124_1421  : exG TB d 124 1421 L st A = exG TB d 124 1422 L (.int (nI 4) :: st) A := x_nx (op := o_push 1 (.int 4)) rfl rfl
theorem x_124_1422  : exG TB d 124 1422 L (.int i2 :: .int i1 :: st) A = exG TB d 124 1423 L (.int (i1 + i2) :: st) A := x_nx (op := o_iop (fun x y => x + y)) rfl rfl
theorem x_124_1423  : exG TB d 124 1423 L (.int i1 :: .ref p :: st) A = ki (rdI 0 (gas A p) i1) d 124 1424 L st A := x_bd (op := o_rdIs 0) rfl rfl (fun _ => rfl)
theorem x_124_1424  : exG TB d 124 1424 (a0 :: a1 :: a2 :: some v :: r9) st A = rg v (exG TB d 124 1425 (a0 :: a1 :: a2 :: some v :: r9) (v :: st) A) := x_rg (op := o_aload 3 1) rfl rfl
theorem x_124_1425  : exG TB d 124 1425 L [b5, b4, b3, b2, b1, b0] A = kc (evG TB d 141 [b0, b1, b2, b3, b4, b5] A) d 124 1428 L [] := x_cv (op := o_cs 141 6 false none) rfl rfl x_noh rfl
theorem x_124_1428  : exG TB d 124 1428 (a0 :: a1 :: a2 :: a3 :: a4 :: a5 :: a6 :: r9) (.int i1 :: st) A = exG TB d 124 1430 (a0 :: a1 :: a2 :: a3 :: a4 :: a5 :: some (.int i1) :: r9) st A := x_nx (op := o_istore 6 2) rfl rfl
theorem x_124_1430  : exG TB d 124 1430 (a0 :: a1 :: some v :: r9) st A = rg v (exG TB d 124 1431 (a0 :: a1 :: some v :: r9) (v :: st) A) := x_rg (op := o_aload 2 1) rfl rfl
theorem x_124_1431  : exG TB d 124 1431 (some v :: r9) st A = rg v (exG TB d 124 1432 (some v :: r9) (v :: st) A) := x_rg (op := o_aload 0 1) rfl rfl
theorem x_124_1432  : exG TB d 124 1432 (a0 :: a1 :: a2 :: a3 :: a4 :: some (.int i1) :: r9) st A = exG TB d 124 1434 (a0 :: a1 :: a2 :: a3 :: a4 :: some (.int i1) :: r9) (.int i1 :: st) A := x_nx (op := o_iload 5 2) rfl rfl
theorem x_124_1434  : exG TB d 124 1434 L st A = exG TB d 124 1435 L (.int (nI 1) :: st) A := x_nx (op := o_push 1 (.int 1)) rfl rfl
theorem x_124_1435  : exG TB d 124 1435 L (.int i2 :: .int i1 :: st) A = exG TB d 124 1436 L (.int (i1 + i2) :: st) A := x_nx (op := o_iop (fun x y => x + y)) rfl rfl
theorem x_124_1436  : exG TB d 124 1436 L (.int i1 :: .ref p :: st) A = ki (rdI 0 (gas A p) i1) d 124 1437 L st A := x_bd (op := o_rdIs 0) rfl rfl (fun _ => rfl)
theorem x_124_1437  : exG TB d 124 1437 (some v :: r9) st A = rg v (exG TB d 124 1438 (some v :: r9) (v :: st) A) := x_rg (op := o_aload 0 1) rfl rfl
theorem x_124_1438  : exG TB d 124 1438 (a0 :: a1 :: a2 :: a3 :: a4 :: some (.int i1) :: r9) st A = exG TB d 124 1440 (a0 :: a1 :: a2 :: a3 :: a4 :: some (.int i1) :: r9) (.int i1 :: st) A := x_nx (op := o_iload 5 2) rfl rfl
theorem x_124_1440  : exG TB d 124 1440 L st A = exG TB d 124 1441 L (.int (nI 2) :: st) A := x_nx (op := o_push 1 (.int 2)) rfl rfl
theorem x_124_1441  : exG TB d 124 1441 L (.int i2 :: .int i1 :: st) A = exG TB d 124 1442 L (.int (i1 + i2) :: st) A := x_nx (op := o_iop (fun x y => x + y)) rfl rfl
theorem x_124_1442  : exG TB d 124 1442 L (.int i1 :: .ref p :: st) A = ki (rdI 0 (gas A p) i1) d 124 1443 L st A := x_bd (op := o_rdIs 0) rfl rfl (fun _ => rfl)
theorem x_124_1443  : exG TB d 124 1443 (some v :: r9) st A = rg v (exG TB d 124 1444 (some v :: r9) (v :: st) A) := x_rg (op := o_aload 0 1) rfl rfl
theorem x_124_1444  : exG TB d 124 1444 (a0 :: a1 :: a2 :: a3 :: a4 :: some (.int i1) :: r9) st A = exG TB d 124 1446 (a0 :: a1 :: a2 :: a3 :: a4 :: some (.int i1) :: r9) (.int i1 :: st) A := x_nx (op := o_iload 5 2) rfl rfl
theorem x_124_1446  : exG TB d 124 1446 L st A = exG TB d 124 1447 L (.int (nI 3) :: st) A := x_nx (op := o_push 1 (.int 3)) rfl rfl
theorem x_124_1447  : exG TB d 124 1447 L (.int i2 :: .int i1 :: st) A = exG TB d 124 1448 L (.int (i1 + i2) :: st) A := x_nx (op := o_iop (fun x y => x + y)) rfl rfl
theorem x_124_1448  : exG TB d 124 1448 L (.int i1 :: .ref p :: st) A = ki (rdI 0 (gas A p) i1) d 124 1449 L st A := x_bd (op := o_rdIs 0) rfl rfl (fun _ => rfl)
theorem x_124_1449  : exG TB d 124 1449 (some v :: r9) st A = rg v (exG TB d 124 1450 (some v :: r9) (v :: st) A) := x_rg (op := o_aload 0 1) rfl rfl
theorem x_124_1450  : exG TB d 124 1450 (a0 :: a1 :: a2 :: a3 :: a4 :: some (.int i1) :: r9) st A = exG TB d 124 1452 (a0 :: a1 :: a2 :: a3 :: a4 :: some (.int i1) :: r9) (.int i1 :: st) A := x_nx (op := o_iload 5 2) rfl rfl
theorem x_124_1452  : exG TB d 124 1452 L st A = exG TB d 124 1453 L (.int (nI 4) :: st) A := x_nx (op := o_push 1 (.int 4)) rfl rfl
theorem x_124_1453  : exG TB d 124 1453 L (.int i2 :: .int i1 :: st) A = exG TB d 124 1454 L (.int (i1 + i2) :: st) A := x_nx (op := o_iop (fun x y => x + y)) rfl rfl
theorem x_124_1454  : exG TB d 124 1454 L (.int i1 :: .ref p :: st) A = ki (rdI 0 (gas A p) i1) d 124 1455 L st A := x_bd (op := o_rdIs 0) rfl rfl (fun _ => rfl)
theorem x_124_1455  : exG TB d 124 1455 L [b3, b2, b1, b0, .ref p] A = kw (sel (gc A p) [(30, 355)]) [.ref p, b0, b1, b2, b3] d 124 1458 L [] A := x_cvb (op := o_cv [(30, 355)] 4 3 false none) rfl rfl x_noh rfl
theorem x_124_1458  : exG TB d 124 1458 (a0 :: a1 :: a2 :: a3 :: a4 :: a5 :: a6 :: a7 :: r9) (.int i1 :: st) A = exG TB d 124 1460 (a0 :: a1 :: a2 :: a3 :: a4 :: a5 :: a6 :: some (.int i1) :: r9) st A := x_nx (op := o_istore 7 2) rfl rfl
theorem x_124_1460  : exG TB d 124 1460 (a0 :: a1 :: some v :: r9) st A = rg v (exG TB d 124 1461 (a0 :: a1 :: some v :: r9) (v :: st) A) := x_rg (op := o_aload 2 1) rfl rfl
theorem x_124_1461  : exG TB d 124 1461 L [.ref p] A = kw (sel (gc A p) [(30, 289)]) [.ref p] d 124 1464 L [] A := x_cvb (op := o_cv [(30, 289)] 0 3 false none) rfl rfl x_noh rfl
theorem x_124_1464  : exG TB d 124 1464 (a0 :: a1 :: a2 :: a3 :: a4 :: a5 :: some (.int i1) :: r9) st A = exG TB d 124 1466 (a0 :: a1 :: a2 :: a3 :: a4 :: a5 :: some (.int i1) :: r9) (.int i1 :: st) A := x_nx (op := o_iload 6 2) rfl rfl
theorem x_124_1466  : exG TB d 124 1466 L (.int i2 :: .int i1 :: st) A = if i1 = i2 then exG TB d 124 1471 L st A else exG TB d 124 1469 L st A := x_if (op := o_icmp (fun x y => decide (x = y)) 1471) rfl rfl rfl
theorem x_124_1469  : exG TB d 124 1469 L st A = exG TB d 124 1470 L (.int (nI 0) :: st) A := x_nx (op := o_push 1 (.int 0)) rfl rfl
theorem x_124_1470  : exG TB d 124 1470 L [v] A = ck (okv 5 v) (some (.inl (some v), A)) := x_outg (op := o_ret 5) rfl rfl
theorem x_124_1471  : exG TB d 124 1471 (a0 :: a1 :: a2 :: a3 :: a4 :: a5 :: some (.int i1) :: r9) st A = exG TB d 124 1473 (a0 :: a1 :: a2 :: a3 :: a4 :: a5 :: some (.int i1) :: r9) (.int i1 :: st) A := x_nx (op := o_iload 6 2) rfl rfl
theorem x_124_1473  : exG TB d 124 1473 L (.int i1 :: st) A = if ¬ i1 = nI 0 then exG TB d 124 1488 L st A else exG TB d 124 1476 L st A := x_if (op := o_if (fun x => decide (¬ x = 0)) 1488) rfl rfl rfl
theorem x_124_1476  : exG TB d 124 1476 (a0 :: a1 :: a2 :: some v :: r9) st A = rg v (exG TB d 124 1477 (a0 :: a1 :: a2 :: some v :: r9) (v :: st) A) := x_rg (op := o_aload 3 1) rfl rfl
theorem x_124_1477  : exG TB d 124 1477 L st A = exG TB d 124 1478 L (.int (nI 0) :: st) A := x_nx (op := o_push 1 (.int 0)) rfl rfl
theorem x_124_1478  : exG TB d 124 1478 L (.int i1 :: .ref p :: st) A = kj (rdJ (ga A p) i1) d 124 1479 L st A := x_bd (op := o_rdJ) rfl rfl (fun _ => rfl)
theorem x_124_1479  : exG TB d 124 1479 (a0 :: a1 :: a2 :: a3 :: a4 :: a5 :: a6 :: some (.int i1) :: r9) st A = exG TB d 124 1481 (a0 :: a1 :: a2 :: a3 :: a4 :: a5 :: a6 :: some (.int i1) :: r9) (.int i1 :: st) A := x_nx (op := o_iload 7 2) rfl rfl
theorem x_124_1481  : exG TB d 124 1481 L (.int i1 :: st) A = exG TB d 124 1482 L (.long i1.toInt64 :: st) A := x_nx (op := o_i2l) rfl rfl
theorem x_124_1482  : exG TB d 124 1482 L (.long l2 :: .long l1 :: st) A = exG TB d 124 1483 L (.int (lg_cmp l1 l2) :: st) A := x_nx (op := o_lcmp) rfl rfl
theorem x_124_1483  : exG TB d 124 1483 L (.int i1 :: st) A = if i1 = nI 0 then exG TB d 124 1488 L st A else exG TB d 124 1486 L st A := x_if (op := o_if (fun x => decide (x = 0)) 1488) rfl rfl rfl
theorem x_124_1486  : exG TB d 124 1486 L st A = exG TB d 124 1487 L (.int (nI 0) :: st) A := x_nx (op := o_push 1 (.int 0)) rfl rfl
theorem x_124_1487  : exG TB d 124 1487 L [v] A = ck (okv 5 v) (some (.inl (some v), A)) := x_outg (op := o_ret 5) rfl rfl
theorem x_124_1488  : exG TB d 124 1488 L st A = exG TB d 124 2693 L st A := x_nx (op := o_goto 2693) rfl rfl
theorem x_124_1491  : exG TB d 124 1491 (a0 :: some v :: r9) st A = rg v (exG TB d 124 1492 (a0 :: some v :: r9) (v :: st) A) := x_rg (op := o_aload 1 1) rfl rfl
theorem x_124_1492  : exG TB d 124 1492 (some v :: r9) st A = rg v (exG TB d 124 1493 (some v :: r9) (v :: st) A) := x_rg (op := o_aload 0 1) rfl rfl
theorem x_124_1493  : exG TB d 124 1493 (a0 :: a1 :: a2 :: a3 :: a4 :: some (.int i1) :: r9) st A = exG TB d 124 1495 (a0 :: a1 :: a2 :: a3 :: a4 :: some (.int i1) :: r9) (.int i1 :: st) A := x_nx (op := o_iload 5 2) rfl rfl
theorem x_124_1495  : exG TB d 124 1495 L st A = exG TB d 124 1496 L (.int (nI 1) :: st) A := x_nx (op := o_push 1 (.int 1)) rfl rfl
theorem x_124_1496  : exG TB d 124 1496 L (.int i2 :: .int i1 :: st) A = exG TB d 124 1497 L (.int (i1 + i2) :: st) A := x_nx (op := o_iop (fun x y => x + y)) rfl rfl
theorem x_124_1497  : exG TB d 124 1497 L (.int i1 :: .ref p :: st) A = ki (rdI 0 (gas A p) i1) d 124 1498 L st A := x_bd (op := o_rdIs 0) rfl rfl (fun _ => rfl)
theorem x_124_1498  : exG TB d 124 1498 (some v :: r9) st A = rg v (exG TB d 124 1499 (some v :: r9) (v :: st) A) := x_rg (op := o_aload 0 1) rfl rfl
theorem x_124_1499  : exG TB d 124 1499 (a0 :: a1 :: a2 :: a3 :: a4 :: some (.int i1) :: r9) st A = exG TB d 124 1501 (a0 :: a1 :: a2 :: a3 :: a4 :: some (.int i1) :: r9) (.int i1 :: st) A := x_nx (op := o_iload 5 2) rfl rfl
theorem x_124_1501  : exG TB d 124 1501 L st A = exG TB d 124 1502 L (.int (nI 2) :: st) A := x_nx (op := o_push 1 (.int 2)) rfl rfl
theorem x_124_1502  : exG TB d 124 1502 L (.int i2 :: .int i1 :: st) A = exG TB d 124 1503 L (.int (i1 + i2) :: st) A := x_nx (op := o_iop (fun x y => x + y)) rfl rfl
theorem x_124_1503  : exG TB d 124 1503 L (.int i1 :: .ref p :: st) A = ki (rdI 0 (gas A p) i1) d 124 1504 L st A := x_bd (op := o_rdIs 0) rfl rfl (fun _ => rfl)
theorem x_124_1504  : exG TB d 124 1504 (a0 :: a1 :: a2 :: some v :: r9) st A = rg v (exG TB d 124 1505 (a0 :: a1 :: a2 :: some v :: r9) (v :: st) A) := x_rg (op := o_aload 3 1) rfl rfl
theorem x_124_1505  : exG TB d 124 1505 L [b3, b2, b1, b0] A = kc (evG TB d 142 [b0, b1, b2, b3] A) d 124 1508 L [] := x_cv (op := o_cs 142 4 false none) rfl rfl x_noh rfl
theorem x_124_1508  : exG TB d 124 1508 (a0 :: a1 :: a2 :: a3 :: a4 :: a5 :: a6 :: r9) (.int i1 :: st) A = exG TB d 124 1510 (a0 :: a1 :: a2 :: a3 :: a4 :: a5 :: some (.int i1) :: r9) st A := x_nx (op := o_istore 6 2) rfl rfl
theorem x_124_1510  : exG TB d 124 1510 (a0 :: a1 :: some v :: r9) st A = rg v (exG TB d 124 1511 (a0 :: a1 :: some v :: r9) (v :: st) A) := x_rg (op := o_aload 2 1) rfl rfl
theorem x_124_1511  : exG TB d 124 1511 (some v :: r9) st A = rg v (exG TB d 124 1512 (some v :: r9) (v :: st) A) := x_rg (op := o_aload 0 1) rfl rfl
theorem x_124_1512  : exG TB d 124 1512 (a0 :: a1 :: a2 :: a3 :: a4 :: some (.int i1) :: r9) st A = exG TB d 124 1514 (a0 :: a1 :: a2 :: a3 :: a4 :: some (.int i1) :: r9) (.int i1 :: st) A := x_nx (op := o_iload 5 2) rfl rfl
theorem x_124_1514  : exG TB d 124 1514 L st A = exG TB d 124 1515 L (.int (nI 1) :: st) A := x_nx (op := o_push 1 (.int 1)) rfl rfl
theorem x_124_1515  : exG TB d 124 1515 L (.int i2 :: .int i1 :: st) A = exG TB d 124 1516 L (.int (i1 + i2) :: st) A := x_nx (op := o_iop (fun x y => x + y)) rfl rfl
theorem x_124_1516  : exG TB d 124 1516 L (.int i1 :: .ref p :: st) A = ki (rdI 0 (gas A p) i1) d 124 1517 L st A := x_bd (op := o_rdIs 0) rfl rfl (fun _ => rfl)
theorem x_124_1517  : exG TB d 124 1517 (some v :: r9) st A = rg v (exG TB d 124 1518 (some v :: r9) (v :: st) A) := x_rg (op := o_aload 0 1) rfl rfl
theorem x_124_1518  : exG TB d 124 1518 (a0 :: a1 :: a2 :: a3 :: a4 :: some (.int i1) :: r9) st A = exG TB d 124 1520 (a0 :: a1 :: a2 :: a3 :: a4 :: some (.int i1) :: r9) (.int i1 :: st) A := x_nx (op := o_iload 5 2) rfl rfl
theorem x_124_1520  : exG TB d 124 1520 L st A = exG TB d 124 1521 L (.int (nI 2) :: st) A := x_nx (op := o_push 1 (.int 2)) rfl rfl
theorem x_124_1521  : exG TB d 124 1521 L (.int i2 :: .int i1 :: st) A = exG TB d 124 1522 L (.int (i1 + i2) :: st) A := x_nx (op := o_iop (fun x y => x + y)) rfl rfl
theorem x_124_1522  : exG TB d 124 1522 L (.int i1 :: .ref p :: st) A = ki (rdI 0 (gas A p) i1) d 124 1523 L st A := x_bd (op := o_rdIs 0) rfl rfl (fun _ => rfl)
theorem x_124_1523  : exG TB d 124 1523 L [b1, b0, .ref p] A = kw (sel (gc A p) [(30, 356)]) [.ref p, b0, b1] d 124 1526 L [] A := x_cvb (op := o_cv [(30, 356)] 2 3 false none) rfl rfl x_noh rfl
theorem x_124_1526  : exG TB d 124 1526 (a0 :: a1 :: a2 :: a3 :: a4 :: a5 :: a6 :: a7 :: r9) (.int i1 :: st) A = exG TB d 124 1528 (a0 :: a1 :: a2 :: a3 :: a4 :: a5 :: a6 :: some (.int i1) :: r9) st A := x_nx (op := o_istore 7 2) rfl rfl
theorem x_124_1528  : exG TB d 124 1528 (a0 :: a1 :: some v :: r9) st A = rg v (exG TB d 124 1529 (a0 :: a1 :: some v :: r9) (v :: st) A) := x_rg (op := o_aload 2 1) rfl rfl
theorem x_124_1529  : exG TB d 124 1529 L [.ref p] A = kw (sel (gc A p) [(30, 289)]) [.ref p] d 124 1532 L [] A := x_cvb (op := o_cv [(30, 289)] 0 3 false none) rfl rfl x_noh rfl
theorem x_124_1532  : exG TB d 124 1532 (a0 :: a1 :: a2 :: a3 :: a4 :: a5 :: some (.int i1) :: r9) st A = exG TB d 124 1534 (a0 :: a1 :: a2 :: a3 :: a4 :: a5 :: some (.int i1) :: r9) (.int i1 :: st) A := x_nx (op := o_iload 6 2) rfl rfl
theorem x_124_1534  : exG TB d 124 1534 L (.int i2 :: .int i1 :: st) A = if i1 = i2 then exG TB d 124 1539 L st A else exG TB d 124 1537 L st A := x_if (op := o_icmp (fun x y => decide (x = y)) 1539) rfl rfl rfl
theorem x_124_1537  : exG TB d 124 1537 L st A = exG TB d 124 1538 L (.int (nI 0) :: st) A := x_nx (op := o_push 1 (.int 0)) rfl rfl
theorem x_124_1538  : exG TB d 124 1538 L [v] A = ck (okv 5 v) (some (.inl (some v), A)) := x_outg (op := o_ret 5) rfl rfl
theorem x_124_1539  : exG TB d 124 1539 (a0 :: a1 :: a2 :: a3 :: a4 :: a5 :: some (.int i1) :: r9) st A = exG TB d 124 1541 (a0 :: a1 :: a2 :: a3 :: a4 :: a5 :: some (.int i1) :: r9) (.int i1 :: st) A := x_nx (op := o_iload 6 2) rfl rfl
theorem x_124_1541  : exG TB d 124 1541 L (.int i1 :: st) A = if ¬ i1 = nI 0 then exG TB d 124 1556 L st A else exG TB d 124 1544 L st A := x_if (op := o_if (fun x => decide (¬ x = 0)) 1556) rfl rfl rfl
theorem x_124_1544  : exG TB d 124 1544 (a0 :: a1 :: a2 :: some v :: r9) st A = rg v (exG TB d 124 1545 (a0 :: a1 :: a2 :: some v :: r9) (v :: st) A) := x_rg (op := o_aload 3 1) rfl rfl
theorem x_124_1545  : exG TB d 124 1545 L st A = exG TB d 124 1546 L (.int (nI 0) :: st) A := x_nx (op := o_push 1 (.int 0)) rfl rfl
theorem x_124_1546  : exG TB d 124 1546 L (.int i1 :: .ref p :: st) A = kj (rdJ (ga A p) i1) d 124 1547 L st A := x_bd (op := o_rdJ) rfl rfl (fun _ => rfl)
theorem x_124_1547  : exG TB d 124 1547 (a0 :: a1 :: a2 :: a3 :: a4 :: a5 :: a6 :: some (.int i1) :: r9) st A = exG TB d 124 1549 (a0 :: a1 :: a2 :: a3 :: a4 :: a5 :: a6 :: some (.int i1) :: r9) (.int i1 :: st) A := x_nx (op := o_iload 7 2) rfl rfl
theorem x_124_1549  : exG TB d 124 1549 L (.int i1 :: st) A = exG TB d 124 1550 L (.long i1.toInt64 :: st) A := x_nx (op := o_i2l) rfl rfl
theorem x_124_1550  : exG TB d 124 1550 L (.long l2 :: .long l1 :: st) A = exG TB d 124 1551 L (.int (lg_cmp l1 l2) :: st) A := x_nx (op := o_lcmp) rfl rfl
theorem x_124_1551  : exG TB d 124 1551 L (.int i1 :: st) A = if i1 = nI 0 then exG TB d 124 1556 L st A else exG TB d 124 1554 L st A := x_if (op := o_if (fun x => decide (x = 0)) 1556) rfl rfl rfl
theorem x_124_1554  : exG TB d 124 1554 L st A = exG TB d 124 1555 L (.int (nI 0) :: st) A := x_nx (op := o_push 1 (.int 0)) rfl rfl
theorem x_124_1555  : exG TB d 124 1555 L [v] A = ck (okv 5 v) (some (.inl (some v), A)) := x_outg (op := o_ret 5) rfl rfl
theorem x_124_1556  : exG TB d 124 1556 L st A = exG TB d 124 2693 L st A := x_nx (op := o_goto 2693) rfl rfl
theorem x_124_1559  : exG TB d 124 1559 (a0 :: some v :: r9) st A = rg v (exG TB d 124 1560 (a0 :: some v :: r9) (v :: st) A) := x_rg (op := o_aload 1 1) rfl rfl
theorem x_124_1560  : exG TB d 124 1560 (some v :: r9) st A = rg v (exG TB d 124 1561 (some v :: r9) (v :: st) A) := x_rg (op := o_aload 0 1) rfl rfl
theorem x_124_1561  : exG TB d 124 1561 (a0 :: a1 :: a2 :: a3 :: a4 :: some (.int i1) :: r9) st A = exG TB d 124 1563 (a0 :: a1 :: a2 :: a3 :: a4 :: some (.int i1) :: r9) (.int i1 :: st) A := x_nx (op := o_iload 5 2) rfl rfl
theorem x_124_1563  : exG TB d 124 1563 L st A = exG TB d 124 1564 L (.int (nI 1) :: st) A := x_nx (op := o_push 1 (.int 1)) rfl rfl
theorem x_124_1564  : exG TB d 124 1564 L (.int i2 :: .int i1 :: st) A = exG TB d 124 1565 L (.int (i1 + i2) :: st) A := x_nx (op := o_iop (fun x y => x + y)) rfl rfl
theorem x_124_1565  : exG TB d 124 1565 L (.int i1 :: .ref p :: st) A = ki (rdI 0 (gas A p) i1) d 124 1566 L st A := x_bd (op := o_rdIs 0) rfl rfl (fun _ => rfl)
theorem x_124_1566  : exG TB d 124 1566 (a0 :: a1 :: a2 :: some v :: r9) st A = rg v (exG TB d 124 1567 (a0 :: a1 :: a2 :: some v :: r9) (v :: st) A) := x_rg (op := o_aload 3 1) rfl rfl
theorem x_124_1567  : exG TB d 124 1567 L [b2, b1, b0] A = kc (evG TB d 143 [b0, b1, b2] A) d 124 1570 L [] := x_cv (op := o_cs 143 3 false none) rfl rfl x_noh rfl
theorem x_124_1570  : exG TB d 124 1570 (a0 :: a1 :: a2 :: a3 :: a4 :: a5 :: a6 :: r9) (.int i1 :: st) A = exG TB d 124 1572 (a0 :: a1 :: a2 :: a3 :: a4 :: a5 :: some (.int i1) :: r9) st A := x_nx (op := o_istore 6 2) rfl rfl
theorem x_124_1572  : exG TB d 124 1572 (a0 :: a1 :: some v :: r9) st A = rg v (exG TB d 124 1573 (a0 :: a1 :: some v :: r9) (v :: st) A) := x_rg (op := o_aload 2 1) rfl rfl
theorem x_124_1573  : exG TB d 124 1573 (some v :: r9) st A = rg v (exG TB d 124 1574 (some v :: r9) (v :: st) A) := x_rg (op := o_aload 0 1) rfl rfl
theorem x_124_1574  : exG TB d 124 1574 (a0 :: a1 :: a2 :: a3 :: a4 :: some (.int i1) :: r9) st A = exG TB d 124 1576 (a0 :: a1 :: a2 :: a3 :: a4 :: some (.int i1) :: r9) (.int i1 :: st) A := x_nx (op := o_iload 5 2) rfl rfl
theorem x_124_1576  : exG TB d 124 1576 L st A = exG TB d 124 1577 L (.int (nI 1) :: st) A := x_nx (op := o_push 1 (.int 1)) rfl rfl
theorem x_124_1577  : exG TB d 124 1577 L (.int i2 :: .int i1 :: st) A = exG TB d 124 1578 L (.int (i1 + i2) :: st) A := x_nx (op := o_iop (fun x y => x + y)) rfl rfl
theorem x_124_1578  : exG TB d 124 1578 L (.int i1 :: .ref p :: st) A = ki (rdI 0 (gas A p) i1) d 124 1579 L st A := x_bd (op := o_rdIs 0) rfl rfl (fun _ => rfl)
theorem x_124_1579  : exG TB d 124 1579 L [b0, .ref p] A = kw (sel (gc A p) [(30, 358)]) [.ref p, b0] d 124 1582 L [] A := x_cvb (op := o_cv [(30, 358)] 1 3 false none) rfl rfl x_noh rfl
theorem x_124_1582  : exG TB d 124 1582 (a0 :: a1 :: a2 :: a3 :: a4 :: a5 :: a6 :: a7 :: r9) (.int i1 :: st) A = exG TB d 124 1584 (a0 :: a1 :: a2 :: a3 :: a4 :: a5 :: a6 :: some (.int i1) :: r9) st A := x_nx (op := o_istore 7 2) rfl rfl
theorem x_124_1584  : exG TB d 124 1584 (a0 :: a1 :: some v :: r9) st A = rg v (exG TB d 124 1585 (a0 :: a1 :: some v :: r9) (v :: st) A) := x_rg (op := o_aload 2 1) rfl rfl
theorem x_124_1585  : exG TB d 124 1585 L [.ref p] A = kw (sel (gc A p) [(30, 289)]) [.ref p] d 124 1588 L [] A := x_cvb (op := o_cv [(30, 289)] 0 3 false none) rfl rfl x_noh rfl
theorem x_124_1588  : exG TB d 124 1588 (a0 :: a1 :: a2 :: a3 :: a4 :: a5 :: some (.int i1) :: r9) st A = exG TB d 124 1590 (a0 :: a1 :: a2 :: a3 :: a4 :: a5 :: some (.int i1) :: r9) (.int i1 :: st) A := x_nx (op := o_iload 6 2) rfl rfl
theorem x_124_1590  : exG TB d 124 1590 L (.int i2 :: .int i1 :: st) A = if i1 = i2 then exG TB d 124 1595 L st A else exG TB d 124 1593 L st A := x_if (op := o_icmp (fun x y => decide (x = y)) 1595) rfl rfl rfl
theorem x_124_1593  : exG TB d 124 1593 L st A = exG TB d 124 1594 L (.int (nI 0) :: st) A := x_nx (op := o_push 1 (.int 0)) rfl rfl
theorem x_124_1594  : exG TB d 124 1594 L [v] A = ck (okv 5 v) (some (.inl (some v), A)) := x_outg (op := o_ret 5) rfl rfl
theorem x_124_1595  : exG TB d 124 1595 (a0 :: a1 :: a2 :: a3 :: a4 :: a5 :: some (.int i1) :: r9) st A = exG TB d 124 1597 (a0 :: a1 :: a2 :: a3 :: a4 :: a5 :: some (.int i1) :: r9) (.int i1 :: st) A := x_nx (op := o_iload 6 2) rfl rfl
theorem x_124_1597  : exG TB d 124 1597 L (.int i1 :: st) A = if ¬ i1 = nI 0 then exG TB d 124 1612 L st A else exG TB d 124 1600 L st A := x_if (op := o_if (fun x => decide (¬ x = 0)) 1612) rfl rfl rfl
theorem x_124_1600  : exG TB d 124 1600 (a0 :: a1 :: a2 :: some v :: r9) st A = rg v (exG TB d 124 1601 (a0 :: a1 :: a2 :: some v :: r9) (v :: st) A) := x_rg (op := o_aload 3 1) rfl rfl
theorem x_124_1601  : exG TB d 124 1601 L st A = exG TB d 124 1602 L (.int (nI 0) :: st) A := x_nx (op := o_push 1 (.int 0)) rfl rfl
theorem x_124_1602  : exG TB d 124 1602 L (.int i1 :: .ref p :: st) A = kj (rdJ (ga A p) i1) d 124 1603 L st A := x_bd (op := o_rdJ) rfl rfl (fun _ => rfl)
theorem x_124_1603  : exG TB d 124 1603 (a0 :: a1 :: a2 :: a3 :: a4 :: a5 :: a6 :: some (.int i1) :: r9) st A = exG TB d 124 1605 (a0 :: a1 :: a2 :: a3 :: a4 :: a5 :: a6 :: some (.int i1) :: r9) (.int i1 :: st) A := x_nx (op := o_iload 7 2) rfl rfl
theorem x_124_1605  : exG TB d 124 1605 L (.int i1 :: st) A = exG TB d 124 1606 L (.long i1.toInt64 :: st) A := x_nx (op := o_i2l) rfl rfl
theorem x_124_1606  : exG TB d 124 1606 L (.long l2 :: .long l1 :: st) A = exG TB d 124 1607 L (.int (lg_cmp l1 l2) :: st) A := x_nx (op := o_lcmp) rfl rfl
theorem x_124_1607  : exG TB d 124 1607 L (.int i1 :: st) A = if i1 = nI 0 then exG TB d 124 1612 L st A else exG TB d 124 1610 L st A := x_if (op := o_if (fun x => decide (x = 0)) 1612) rfl rfl rfl
theorem x_124_1610  : exG TB d 124 1610 L st A = exG TB d 124 1611 L (.int (nI 0) :: st) A := x_nx (op := o_push 1 (.int 0)) rfl rfl
theorem x_124_1611  : exG TB d 124 1611 L [v] A = ck (okv 5 v) (some (.inl (some v), A)) := x_outg (op := o_ret 5) rfl rfl
theorem x_124_1612  : exG TB d 124 1612 L st A = exG TB d 124 2693 L st A := x_nx (op := o_goto 2693) rfl rfl
theorem x_124_1615  : exG TB d 124 1615 (a0 :: some v :: r9) st A = rg v (exG TB d 124 1616 (a0 :: some v :: r9) (v :: st) A) := x_rg (op := o_aload 1 1) rfl rfl
theorem x_124_1616  : exG TB d 124 1616 (some v :: r9) st A = rg v (exG TB d 124 1617 (some v :: r9) (v :: st) A) := x_rg (op := o_aload 0 1) rfl rfl
theorem x_124_1617  : exG TB d 124 1617 (a0 :: a1 :: a2 :: a3 :: a4 :: some (.int i1) :: r9) st A = exG TB d 124 1619 (a0 :: a1 :: a2 :: a3 :: a4 :: some (.int i1) :: r9) (.int i1 :: st) A := x_nx (op := o_iload 5 2) rfl rfl
theorem x_124_1619  : exG TB d 124 1619 L st A = exG TB d 124 1620 L (.int (nI 1) :: st) A := x_nx (op := o_push 1 (.int 1)) rfl rfl
theorem x_124_1620  : exG TB d 124 1620 L (.int i2 :: .int i1 :: st) A = exG TB d 124 1621 L (.int (i1 + i2) :: st) A := x_nx (op := o_iop (fun x y => x + y)) rfl rfl
theorem x_124_1621  : exG TB d 124 1621 L (.int i1 :: .ref p :: st) A = ki (rdI 0 (gas A p) i1) d 124 1622 L st A := x_bd (op := o_rdIs 0) rfl rfl (fun _ => rfl)
theorem x_124_1622  : exG TB d 124 1622 (a0 :: a1 :: a2 :: some v :: r9) st A = rg v (exG TB d 124 1623 (a0 :: a1 :: a2 :: some v :: r9) (v :: st) A) := x_rg (op := o_aload 3 1) rfl rfl
theorem x_124_1623  : exG TB d 124 1623 L [b2, b1, b0] A = kc (evG TB d 144 [b0, b1, b2] A) d 124 1626 L [] := x_cv (op := o_cs 144 3 false none) rfl rfl x_noh rfl
theorem x_124_1626  : exG TB d 124 1626 (a0 :: a1 :: a2 :: a3 :: a4 :: a5 :: a6 :: r9) (.int i1 :: st) A = exG TB d 124 1628 (a0 :: a1 :: a2 :: a3 :: a4 :: a5 :: some (.int i1) :: r9) st A := x_nx (op := o_istore 6 2) rfl rfl
theorem x_124_1628  : exG TB d 124 1628 (a0 :: a1 :: some v :: r9) st A = rg v (exG TB d 124 1629 (a0 :: a1 :: some v :: r9) (v :: st) A) := x_rg (op := o_aload 2 1) rfl rfl
theorem x_124_1629  : exG TB d 124 1629 (some v :: r9) st A = rg v (exG TB d 124 1630 (some v :: r9) (v :: st) A) := x_rg (op := o_aload 0 1) rfl rfl
theorem x_124_1630  : exG TB d 124 1630 (a0 :: a1 :: a2 :: a3 :: a4 :: some (.int i1) :: r9) st A = exG TB d 124 1632 (a0 :: a1 :: a2 :: a3 :: a4 :: some (.int i1) :: r9) (.int i1 :: st) A := x_nx (op := o_iload 5 2) rfl rfl
theorem x_124_1632  : exG TB d 124 1632 L st A = exG TB d 124 1633 L (.int (nI 1) :: st) A := x_nx (op := o_push 1 (.int 1)) rfl rfl
theorem x_124_1633  : exG TB d 124 1633 L (.int i2 :: .int i1 :: st) A = exG TB d 124 1634 L (.int (i1 + i2) :: st) A := x_nx (op := o_iop (fun x y => x + y)) rfl rfl
theorem x_124_1634  : exG TB d 124 1634 L (.int i1 :: .ref p :: st) A = ki (rdI 0 (gas A p) i1) d 124 1635 L st A := x_bd (op := o_rdIs 0) rfl rfl (fun _ => rfl)
theorem x_124_1635  : exG TB d 124 1635 L [b0, .ref p] A = kw (sel (gc A p) [(30, 361)]) [.ref p, b0] d 124 1638 L [] A := x_cvb (op := o_cv [(30, 361)] 1 3 false none) rfl rfl x_noh rfl
theorem x_124_1638  : exG TB d 124 1638 (a0 :: a1 :: a2 :: a3 :: a4 :: a5 :: a6 :: a7 :: r9) (.int i1 :: st) A = exG TB d 124 1640 (a0 :: a1 :: a2 :: a3 :: a4 :: a5 :: a6 :: some (.int i1) :: r9) st A := x_nx (op := o_istore 7 2) rfl rfl
theorem x_124_1640  : exG TB d 124 1640 (a0 :: a1 :: some v :: r9) st A = rg v (exG TB d 124 1641 (a0 :: a1 :: some v :: r9) (v :: st) A) := x_rg (op := o_aload 2 1) rfl rfl
theorem x_124_1641  : exG TB d 124 1641 L [.ref p] A = kw (sel (gc A p) [(30, 289)]) [.ref p] d 124 1644 L [] A := x_cvb (op := o_cv [(30, 289)] 0 3 false none) rfl rfl x_noh rfl
theorem x_124_1644  : exG TB d 124 1644 (a0 :: a1 :: a2 :: a3 :: a4 :: a5 :: some (.int i1) :: r9) st A = exG TB d 124 1646 (a0 :: a1 :: a2 :: a3 :: a4 :: a5 :: some (.int i1) :: r9) (.int i1 :: st) A := x_nx (op := o_iload 6 2) rfl rfl
theorem x_124_1646  : exG TB d 124 1646 L (.int i2 :: .int i1 :: st) A = if i1 = i2 then exG TB d 124 1651 L st A else exG TB d 124 1649 L st A := x_if (op := o_icmp (fun x y => decide (x = y)) 1651) rfl rfl rfl
theorem x_124_1649  : exG TB d 124 1649 L st A = exG TB d 124 1650 L (.int (nI 0) :: st) A := x_nx (op := o_push 1 (.int 0)) rfl rfl
theorem x_124_1650  : exG TB d 124 1650 L [v] A = ck (okv 5 v) (some (.inl (some v), A)) := x_outg (op := o_ret 5) rfl rfl
theorem x_124_1651  : exG TB d 124 1651 (a0 :: a1 :: a2 :: a3 :: a4 :: a5 :: some (.int i1) :: r9) st A = exG TB d 124 1653 (a0 :: a1 :: a2 :: a3 :: a4 :: a5 :: some (.int i1) :: r9) (.int i1 :: st) A := x_nx (op := o_iload 6 2) rfl rfl
theorem x_124_1653  : exG TB d 124 1653 L (.int i1 :: st) A = if ¬ i1 = nI 0 then exG TB d 124 1668 L st A else exG TB d 124 1656 L st A := x_if (op := o_if (fun x => decide (¬ x = 0)) 1668) rfl rfl rfl
theorem x_124_1656  : exG TB d 124 1656 (a0 :: a1 :: a2 :: some v :: r9) st A = rg v (exG TB d 124 1657 (a0 :: a1 :: a2 :: some v :: r9) (v :: st) A) := x_rg (op := o_aload 3 1) rfl rfl
theorem x_124_1657  : exG TB d 124 1657 L st A = exG TB d 124 1658 L (.int (nI 0) :: st) A := x_nx (op := o_push 1 (.int 0)) rfl rfl
theorem x_124_1658  : exG TB d 124 1658 L (.int i1 :: .ref p :: st) A = kj (rdJ (ga A p) i1) d 124 1659 L st A := x_bd (op := o_rdJ) rfl rfl (fun _ => rfl)
theorem x_124_1659  : exG TB d 124 1659 (a0 :: a1 :: a2 :: a3 :: a4 :: a5 :: a6 :: some (.int i1) :: r9) st A = exG TB d 124 1661 (a0 :: a1 :: a2 :: a3 :: a4 :: a5 :: a6 :: some (.int i1) :: r9) (.int i1 :: st) A := x_nx (op := o_iload 7 2) rfl rfl
theorem x_124_1661  : exG TB d 124 1661 L (.int i1 :: st) A = exG TB d 124 1662 L (.long i1.toInt64 :: st) A := x_nx (op := o_i2l) rfl rfl
theorem x_124_1662  : exG TB d 124 1662 L (.long l2 :: .long l1 :: st) A = exG TB d 124 1663 L (.int (lg_cmp l1 l2) :: st) A := x_nx (op := o_lcmp) rfl rfl
theorem x_124_1663  : exG TB d 124 1663 L (.int i1 :: st) A = if i1 = nI 0 then exG TB d 124 1668 L st A else exG TB d 124 1666 L st A := x_if (op := o_if (fun x => decide (x = 0)) 1668) rfl rfl rfl
theorem x_124_1666  : exG TB d 124 1666 L st A = exG TB d 124 1667 L (.int (nI 0) :: st) A := x_nx (op := o_push 1 (.int 0)) rfl rfl
theorem x_124_1667  : exG TB d 124 1667 L [v] A = ck (okv 5 v) (some (.inl (some v), A)) := x_outg (op := o_ret 5) rfl rfl
theorem x_124_1668  : exG TB d 124 1668 L st A = exG TB d 124 2693 L st A := x_nx (op := o_goto 2693) rfl rfl
theorem x_124_1671  : exG TB d 124 1671 (a0 :: some v :: r9) st A = rg v (exG TB d 124 1672 (a0 :: some v :: r9) (v :: st) A) := x_rg (op := o_aload 1 1) rfl rfl
theorem x_124_1672  : exG TB d 124 1672 (some v :: r9) st A = rg v (exG TB d 124 1673 (some v :: r9) (v :: st) A) := x_rg (op := o_aload 0 1) rfl rfl
theorem x_124_1673  : exG TB d 124 1673 (a0 :: a1 :: a2 :: a3 :: a4 :: some (.int i1) :: r9) st A = exG TB d 124 1675 (a0 :: a1 :: a2 :: a3 :: a4 :: some (.int i1) :: r9) (.int i1 :: st) A := x_nx (op := o_iload 5 2) rfl rfl
theorem x_124_1675  : exG TB d 124 1675 L st A = exG TB d 124 1676 L (.int (nI 1) :: st) A := x_nx (op := o_push 1 (.int 1)) rfl rfl
theorem x_124_1676  : exG TB d 124 1676 L (.int i2 :: .int i1 :: st) A = exG TB d 124 1677 L (.int (i1 + i2) :: st) A := x_nx (op := o_iop (fun x y => x + y)) rfl rfl
theorem x_124_1677  : exG TB d 124 1677 L (.int i1 :: .ref p :: st) A = ki (rdI 0 (gas A p) i1) d 124 1678 L st A := x_bd (op := o_rdIs 0) rfl rfl (fun _ => rfl)
theorem x_124_1678  : exG TB d 124 1678 (some v :: r9) st A = rg v (exG TB d 124 1679 (some v :: r9) (v :: st) A) := x_rg (op := o_aload 0 1) rfl rfl
theorem x_124_1679  : exG TB d 124 1679 (a0 :: a1 :: a2 :: a3 :: a4 :: some (.int i1) :: r9) st A = exG TB d 124 1681 (a0 :: a1 :: a2 :: a3 :: a4 :: some (.int i1) :: r9) (.int i1 :: st) A := x_nx (op := o_iload 5 2) rfl rfl
theorem x_124_1681  : exG TB d 124 1681 L st A = exG TB d 124 1682 L (.int (nI 2) :: st) A := x_nx (op := o_push 1 (.int 2)) rfl rfl
theorem x_124_1682  : exG TB d 124 1682 L (.int i2 :: .int i1 :: st) A = exG TB d 124 1683 L (.int (i1 + i2) :: st) A := x_nx (op := o_iop (fun x y => x + y)) rfl rfl
theorem x_124_1683  : exG TB d 124 1683 L (.int i1 :: .ref p :: st) A = ki (rdI 0 (gas A p) i1) d 124 1684 L st A := x_bd (op := o_rdIs 0) rfl rfl (fun _ => rfl)
theorem x_124_1684  : exG TB d 124 1684 (a0 :: a1 :: a2 :: some v :: r9) st A = rg v (exG TB d 124 1685 (a0 :: a1 :: a2 :: some v :: r9) (v :: st) A) := x_rg (op := o_aload 3 1) rfl rfl
theorem x_124_1685  : exG TB d 124 1685 L [b3, b2, b1, b0] A = kc (evG TB d 145 [b0, b1, b2, b3] A) d 124 1688 L [] := x_cv (op := o_cs 145 4 false none) rfl rfl x_noh rfl
theorem x_124_1688  : exG TB d 124 1688 (a0 :: a1 :: a2 :: a3 :: a4 :: a5 :: a6 :: r9) (.int i1 :: st) A = exG TB d 124 1690 (a0 :: a1 :: a2 :: a3 :: a4 :: a5 :: some (.int i1) :: r9) st A := x_nx (op := o_istore 6 2) rfl rfl
theorem x_124_1690  : exG TB d 124 1690 (a0 :: a1 :: some v :: r9) st A = rg v (exG TB d 124 1691 (a0 :: a1 :: some v :: r9) (v :: st) A) := x_rg (op := o_aload 2 1) rfl rfl
theorem x_124_1691  : exG TB d 124 1691 (some v :: r9) st A = rg v (exG TB d 124 1692 (some v :: r9) (v :: st) A) := x_rg (op := o_aload 0 1) rfl rfl
theorem x_124_1692  : exG TB d 124 1692 (a0 :: a1 :: a2 :: a3 :: a4 :: some (.int i1) :: r9) st A = exG TB d 124 1694 (a0 :: a1 :: a2 :: a3 :: a4 :: some (.int i1) :: r9) (.int i1 :: st) A := x_nx (op := o_iload 5 2) rfl rfl
theorem x_124_1694  : exG TB d 124 1694 L st A = exG TB d 124 1695 L (.int (nI 1) :: st) A := x_nx (op := o_push 1 (.int 1)) rfl rfl
theorem x_124_1695  : exG TB d 124 1695 L (.int i2 :: .int i1 :: st) A = exG TB d 124 1696 L (.int (i1 + i2) :: st) A := x_nx (op := o_iop (fun x y => x + y)) rfl rfl
theorem x_124_1696  : exG TB d 124 1696 L (.int i1 :: .ref p :: st) A = ki (rdI 0 (gas A p) i1) d 124 1697 L st A := x_bd (op := o_rdIs 0) rfl rfl (fun _ => rfl)
theorem x_124_1697  : exG TB d 124 1697 (some v :: r9) st A = rg v (exG TB d 124 1698 (some v :: r9) (v :: st) A) := x_rg (op := o_aload 0 1) rfl rfl
theorem x_124_1698  : exG TB d 124 1698 (a0 :: a1 :: a2 :: a3 :: a4 :: some (.int i1) :: r9) st A = exG TB d 124 1700 (a0 :: a1 :: a2 :: a3 :: a4 :: some (.int i1) :: r9) (.int i1 :: st) A := x_nx (op := o_iload 5 2) rfl rfl
theorem x_124_1700  : exG TB d 124 1700 L st A = exG TB d 124 1701 L (.int (nI 2) :: st) A := x_nx (op := o_push 1 (.int 2)) rfl rfl
theorem x_124_1701  : exG TB d 124 1701 L (.int i2 :: .int i1 :: st) A = exG TB d 124 1702 L (.int (i1 + i2) :: st) A := x_nx (op := o_iop (fun x y => x + y)) rfl rfl
theorem x_124_1702  : exG TB d 124 1702 L (.int i1 :: .ref p :: st) A = ki (rdI 0 (gas A p) i1) d 124 1703 L st A := x_bd (op := o_rdIs 0) rfl rfl (fun _ => rfl)
theorem x_124_1703  : exG TB d 124 1703 L [b1, b0, .ref p] A = kw (sel (gc A p) [(30, 362)]) [.ref p, b0, b1] d 124 1706 L [] A := x_cvb (op := o_cv [(30, 362)] 2 3 false none) rfl rfl x_noh rfl
theorem x_124_1706  : exG TB d 124 1706 (a0 :: a1 :: a2 :: a3 :: a4 :: a5 :: a6 :: a7 :: r9) (.int i1 :: st) A = exG TB d 124 1708 (a0 :: a1 :: a2 :: a3 :: a4 :: a5 :: a6 :: some (.int i1) :: r9) st A := x_nx (op := o_istore 7 2) rfl rfl
theorem x_124_1708  : exG TB d 124 1708 (a0 :: a1 :: some v :: r9) st A = rg v (exG TB d 124 1709 (a0 :: a1 :: some v :: r9) (v :: st) A) := x_rg (op := o_aload 2 1) rfl rfl
theorem x_124_1709  : exG TB d 124 1709 L [.ref p] A = kw (sel (gc A p) [(30, 289)]) [.ref p] d 124 1712 L [] A := x_cvb (op := o_cv [(30, 289)] 0 3 false none) rfl rfl x_noh rfl
theorem x_124_1712  : exG TB d 124 1712 (a0 :: a1 :: a2 :: a3 :: a4 :: a5 :: some (.int i1) :: r9) st A = exG TB d 124 1714 (a0 :: a1 :: a2 :: a3 :: a4 :: a5 :: some (.int i1) :: r9) (.int i1 :: st) A := x_nx (op := o_iload 6 2) rfl rfl
theorem x_124_1714  : exG TB d 124 1714 L (.int i2 :: .int i1 :: st) A = if i1 = i2 then exG TB d 124 1719 L st A else exG TB d 124 1717 L st A := x_if (op := o_icmp (fun x y => decide (x = y)) 1719) rfl rfl rfl
theorem x_124_1717  : exG TB d 124 1717 L st A = exG TB d 124 1718 L (.int (nI 0) :: st) A := x_nx (op := o_push 1 (.int 0)) rfl rfl
theorem x_124_1718  : exG TB d 124 1718 L [v] A = ck (okv 5 v) (some (.inl (some v), A)) := x_outg (op := o_ret 5) rfl rfl
theorem x_124_1719  : exG TB d 124 1719 (a0 :: a1 :: a2 :: a3 :: a4 :: a5 :: some (.int i1) :: r9) st A = exG TB d 124 1721 (a0 :: a1 :: a2 :: a3 :: a4 :: a5 :: some (.int i1) :: r9) (.int i1 :: st) A := x_nx (op := o_iload 6 2) rfl rfl
theorem x_124_1721  : exG TB d 124 1721 L (.int i1 :: st) A = if ¬ i1 = nI 0 then exG TB d 124 1736 L st A else exG TB d 124 1724 L st A := x_if (op := o_if (fun x => decide (¬ x = 0)) 1736) rfl rfl rfl
theorem x_124_1724  : exG TB d 124 1724 (a0 :: a1 :: a2 :: some v :: r9) st A = rg v (exG TB d 124 1725 (a0 :: a1 :: a2 :: some v :: r9) (v :: st) A) := x_rg (op := o_aload 3 1) rfl rfl
theorem x_124_1725  : exG TB d 124 1725 L st A = exG TB d 124 1726 L (.int (nI 0) :: st) A := x_nx (op := o_push 1 (.int 0)) rfl rfl
theorem x_124_1726  : exG TB d 124 1726 L (.int i1 :: .ref p :: st) A = kj (rdJ (ga A p) i1) d 124 1727 L st A := x_bd (op := o_rdJ) rfl rfl (fun _ => rfl)
theorem x_124_1727  : exG TB d 124 1727 (a0 :: a1 :: a2 :: a3 :: a4 :: a5 :: a6 :: some (.int i1) :: r9) st A = exG TB d 124 1729 (a0 :: a1 :: a2 :: a3 :: a4 :: a5 :: a6 :: some (.int i1) :: r9) (.int i1 :: st) A := x_nx (op := o_iload 7 2) rfl rfl
theorem x_124_1729  : exG TB d 124 1729 L (.int i1 :: st) A = exG TB d 124 1730 L (.long i1.toInt64 :: st) A := x_nx (op := o_i2l) rfl rfl
theorem x_124_1730  : exG TB d 124 1730 L (.long l2 :: .long l1 :: st) A = exG TB d 124 1731 L (.int (lg_cmp l1 l2) :: st) A := x_nx (op := o_lcmp) rfl rfl
theorem x_124_1731  : exG TB d 124 1731 L (.int i1 :: st) A = if i1 = nI 0 then exG TB d 124 1736 L st A else exG TB d 124 1734 L st A := x_if (op := o_if (fun x => decide (x = 0)) 1736) rfl rfl rfl
theorem x_124_1734  : exG TB d 124 1734 L st A = exG TB d 124 1735 L (.int (nI 0) :: st) A := x_nx (op := o_push 1 (.int 0)) rfl rfl
theorem x_124_1735  : exG TB d 124 1735 L [v] A = ck (okv 5 v) (some (.inl (some v), A)) := x_outg (op := o_ret 5) rfl rfl
theorem x_124_1736  : exG TB d 124 1736 L st A = exG TB d 124 2693 L st A := x_nx (op := o_goto 2693) rfl rfl
theorem x_124_1739  : exG TB d 124 1739 (a0 :: some v :: r9) st A = rg v (exG TB d 124 1740 (a0 :: some v :: r9) (v :: st) A) := x_rg (op := o_aload 1 1) rfl rfl
theorem x_124_1740  : exG TB d 124 1740 (some v :: r9) st A = rg v (exG TB d 124 1741 (some v :: r9) (v :: st) A) := x_rg (op := o_aload 0 1) rfl rfl
theorem x_124_1741  : exG TB d 124 1741 (a0 :: a1 :: a2 :: a3 :: a4 :: some (.int i1) :: r9) st A = exG TB d 124 1743 (a0 :: a1 :: a2 :: a3 :: a4 :: some (.int i1) :: r9) (.int i1 :: st) A := x_nx (op := o_iload 5 2) rfl rfl
theorem x_124_1743  : exG TB d 124 1743 L st A = exG TB d 124 1744 L (.int (nI 1) :: st) A := x_nx (op := o_push 1 (.int 1)) rfl rfl
theorem x_124_1744  : exG TB d 124 1744 L (.int i2 :: .int i1 :: st) A = exG TB d 124 1745 L (.int (i1 + i2) :: st) A := x_nx (op := o_iop (fun x y => x + y)) rfl rfl
theorem x_124_1745  : exG TB d 124 1745 L (.int i1 :: .ref p :: st) A = ki (rdI 0 (gas A p) i1) d 124 1746 L st A := x_bd (op := o_rdIs 0) rfl rfl (fun _ => rfl)
theorem x_124_1746  : exG TB d 124 1746 (a0 :: a1 :: a2 :: some v :: r9) st A = rg v (exG TB d 124 1747 (a0 :: a1 :: a2 :: some v :: r9) (v :: st) A) := x_rg (op := o_aload 3 1) rfl rfl
theorem x_124_1747  : exG TB d 124 1747 L [b2, b1, b0] A = kc (evG TB d 146 [b0, b1, b2] A) d 124 1750 L [] := x_cv (op := o_cs 146 3 false none) rfl rfl x_noh rfl
theorem x_124_1750  : exG TB d 124 1750 (a0 :: a1 :: a2 :: a3 :: a4 :: a5 :: a6 :: r9) (.int i1 :: st) A = exG TB d 124 1752 (a0 :: a1 :: a2 :: a3 :: a4 :: a5 :: some (.int i1) :: r9) st A := x_nx (op := o_istore 6 2) rfl rfl
theorem x_124_1752  : exG TB d 124 1752 (a0 :: a1 :: some v :: r9) st A = rg v (exG TB d 124 1753 (a0 :: a1 :: some v :: r9) (v :: st) A) := x_rg (op := o_aload 2 1) rfl rfl
theorem x_124_1753  : exG TB d 124 1753 (some v :: r9) st A = rg v (exG TB d 124 1754 (some v :: r9) (v :: st) A) := x_rg (op := o_aload 0 1) rfl rfl
theorem x_124_1754  : exG TB d 124 1754 (a0 :: a1 :: a2 :: a3 :: a4 :: some (.int i1) :: r9) st A = exG TB d 124 1756 (a0 :: a1 :: a2 :: a3 :: a4 :: some (.int i1) :: r9) (.int i1 :: st) A := x_nx (op := o_iload 5 2) rfl rfl
theorem x_124_1756  : exG TB d 124 1756 L st A = exG TB d 124 1757 L (.int (nI 1) :: st) A := x_nx (op := o_push 1 (.int 1)) rfl rfl
theorem x_124_1757  : exG TB d 124 1757 L (.int i2 :: .int i1 :: st) A = exG TB d 124 1758 L (.int (i1 + i2) :: st) A := x_nx (op := o_iop (fun x y => x + y)) rfl rfl
theorem x_124_1758  : exG TB d 124 1758 L (.int i1 :: .ref p :: st) A = ki (rdI 0 (gas A p) i1) d 124 1759 L st A := x_bd (op := o_rdIs 0) rfl rfl (fun _ => rfl)
theorem x_124_1759  : exG TB d 124 1759 L [b0, .ref p] A = kw (sel (gc A p) [(30, 363)]) [.ref p, b0] d 124 1762 L [] A := x_cvb (op := o_cv [(30, 363)] 1 3 false none) rfl rfl x_noh rfl
theorem x_124_1762  : exG TB d 124 1762 (a0 :: a1 :: a2 :: a3 :: a4 :: a5 :: a6 :: a7 :: r9) (.int i1 :: st) A = exG TB d 124 1764 (a0 :: a1 :: a2 :: a3 :: a4 :: a5 :: a6 :: some (.int i1) :: r9) st A := x_nx (op := o_istore 7 2) rfl rfl
theorem x_124_1764  : exG TB d 124 1764 (a0 :: a1 :: some v :: r9) st A = rg v (exG TB d 124 1765 (a0 :: a1 :: some v :: r9) (v :: st) A) := x_rg (op := o_aload 2 1) rfl rfl
theorem x_124_1765  : exG TB d 124 1765 L [.ref p] A = kw (sel (gc A p) [(30, 289)]) [.ref p] d 124 1768 L [] A := x_cvb (op := o_cv [(30, 289)] 0 3 false none) rfl rfl x_noh rfl
theorem x_124_1768  : exG TB d 124 1768 (a0 :: a1 :: a2 :: a3 :: a4 :: a5 :: some (.int i1) :: r9) st A = exG TB d 124 1770 (a0 :: a1 :: a2 :: a3 :: a4 :: a5 :: some (.int i1) :: r9) (.int i1 :: st) A := x_nx (op := o_iload 6 2) rfl rfl
theorem x_124_1770  : exG TB d 124 1770 L (.int i2 :: .int i1 :: st) A = if i1 = i2 then exG TB d 124 1775 L st A else exG TB d 124 1773 L st A := x_if (op := o_icmp (fun x y => decide (x = y)) 1775) rfl rfl rfl
theorem x_124_1773  : exG TB d 124 1773 L st A = exG TB d 124 1774 L (.int (nI 0) :: st) A := x_nx (op := o_push 1 (.int 0)) rfl rfl
theorem x_124_1774  : exG TB d 124 1774 L [v] A = ck (okv 5 v) (some (.inl (some v), A)) := x_outg (op := o_ret 5) rfl rfl
theorem x_124_1775  : exG TB d 124 1775 (a0 :: a1 :: a2 :: a3 :: a4 :: a5 :: some (.int i1) :: r9) st A = exG TB d 124 1777 (a0 :: a1 :: a2 :: a3 :: a4 :: a5 :: some (.int i1) :: r9) (.int i1 :: st) A := x_nx (op := o_iload 6 2) rfl rfl
theorem x_124_1777  : exG TB d 124 1777 L (.int i1 :: st) A = if ¬ i1 = nI 0 then exG TB d 124 1792 L st A else exG TB d 124 1780 L st A := x_if (op := o_if (fun x => decide (¬ x = 0)) 1792) rfl rfl rfl
theorem x_124_1780  : exG TB d 124 1780 (a0 :: a1 :: a2 :: some v :: r9) st A = rg v (exG TB d 124 1781 (a0 :: a1 :: a2 :: some v :: r9) (v :: st) A) := x_rg (op := o_aload 3 1) rfl rfl
theorem x_124_1781  : exG TB d 124 1781 L st A = exG TB d 124 1782 L (.int (nI 0) :: st) A := x_nx (op := o_push 1 (.int 0)) rfl rfl
theorem x_124_1782  : exG TB d 124 1782 L (.int i1 :: .ref p :: st) A = kj (rdJ (ga A p) i1) d 124 1783 L st A := x_bd (op := o_rdJ) rfl rfl (fun _ => rfl)
theorem x_124_1783  : exG TB d 124 1783 (a0 :: a1 :: a2 :: a3 :: a4 :: a5 :: a6 :: some (.int i1) :: r9) st A = exG TB d 124 1785 (a0 :: a1 :: a2 :: a3 :: a4 :: a5 :: a6 :: some (.int i1) :: r9) (.int i1 :: st) A := x_nx (op := o_iload 7 2) rfl rfl
theorem x_124_1785  : exG TB d 124 1785 L (.int i1 :: st) A = exG TB d 124 1786 L (.long i1.toInt64 :: st) A := x_nx (op := o_i2l) rfl rfl
theorem x_124_1786  : exG TB d 124 1786 L (.long l2 :: .long l1 :: st) A = exG TB d 124 1787 L (.int (lg_cmp l1 l2) :: st) A := x_nx (op := o_lcmp) rfl rfl
theorem x_124_1787  : exG TB d 124 1787 L (.int i1 :: st) A = if i1 = nI 0 then exG TB d 124 1792 L st A else exG TB d 124 1790 L st A := x_if (op := o_if (fun x => decide (x = 0)) 1792) rfl rfl rfl
theorem x_124_1790  : exG TB d 124 1790 L st A = exG TB d 124 1791 L (.int (nI 0) :: st) A := x_nx (op := o_push 1 (.int 0)) rfl rfl
theorem x_124_1791  : exG TB d 124 1791 L [v] A = ck (okv 5 v) (some (.inl (some v), A)) := x_outg (op := o_ret 5) rfl rfl
theorem x_124_1792  : exG TB d 124 1792 L st A = exG TB d 124 2693 L st A := x_nx (op := o_goto 2693) rfl rfl
theorem x_124_1795  : exG TB d 124 1795 (a0 :: some v :: r9) st A = rg v (exG TB d 124 1796 (a0 :: some v :: r9) (v :: st) A) := x_rg (op := o_aload 1 1) rfl rfl
theorem x_124_1796  : exG TB d 124 1796 (some v :: r9) st A = rg v (exG TB d 124 1797 (some v :: r9) (v :: st) A) := x_rg (op := o_aload 0 1) rfl rfl
theorem x_124_1797  : exG TB d 124 1797 (a0 :: a1 :: a2 :: a3 :: a4 :: some (.int i1) :: r9) st A = exG TB d 124 1799 (a0 :: a1 :: a2 :: a3 :: a4 :: some (.int i1) :: r9) (.int i1 :: st) A := x_nx (op := o_iload 5 2) rfl rfl
theorem x_124_1799  : exG TB d 124 1799 L st A = exG TB d 124 1800 L (.int (nI 1) :: st) A := x_nx (op := o_push 1 (.int 1)) rfl rfl
theorem x_124_1800  : exG TB d 124 1800 L (.int i2 :: .int i1 :: st) A = exG TB d 124 1801 L (.int (i1 + i2) :: st) A := x_nx (op := o_iop (fun x y => x + y)) rfl rfl
theorem x_124_1801  : exG TB d 124 1801 L (.int i1 :: .ref p :: st) A = ki (rdI 0 (gas A p) i1) d 124 1802 L st A := x_bd (op := o_rdIs 0) rfl rfl (fun _ => rfl)
theorem x_124_1802  : exG TB d 124 1802 (some v :: r9) st A = rg v (exG TB d 124 1803 (some v :: r9) (v :: st) A) := x_rg (op := o_aload 0 1) rfl rfl
theorem x_124_1803  : exG TB d 124 1803 (a0 :: a1 :: a2 :: a3 :: a4 :: some (.int i1) :: r9) st A = exG TB d 124 1805 (a0 :: a1 :: a2 :: a3 :: a4 :: some (.int i1) :: r9) (.int i1 :: st) A := x_nx (op := o_iload 5 2) rfl rfl
theorem x_124_1805  : exG TB d 124 1805 L st A = exG TB d 124 1806 L (.int (nI 2) :: st) A := x_nx (op := o_push 1 (.int 2)) rfl rfl
theorem x_124_1806  : exG TB d 124 1806 L (.int i2 :: .int i1 :: st) A = exG TB d 124 1807 L (.int (i1 + i2) :: st) A := x_nx (op := o_iop (fun x y => x + y)) rfl rfl
theorem x_124_1807  : exG TB d 124 1807 L (.int i1 :: .ref p :: st) A = ki (rdI 0 (gas A p) i1) d 124 1808 L st A := x_bd (op := o_rdIs 0) rfl rfl (fun _ => rfl)
theorem x_124_1808  : exG TB d 124 1808 (some v :: r9) st A = rg v (exG TB d 124 1809 (some v :: r9) (v :: st) A) := x_rg (op := o_aload 0 1) rfl rfl
theorem x_124_1809  : exG TB d 124 1809 (a0 :: a1 :: a2 :: a3 :: a4 :: some (.int i1) :: r9) st A = exG TB d 124 1811 (a0 :: a1 :: a2 :: a3 :: a4 :: some (.int i1) :: r9) (.int i1 :: st) A := x_nx (op := o_iload 5 2) rfl rfl
theorem x_124_1811  : exG TB d 124 1811 L st A = exG TB d 124 1812 L (.int (nI 3) :: st) A := x_nx (op := o_push 1 (.int 3)) rfl rfl
theorem x_124_1812  : exG TB d 124 1812 L (.int i2 :: .int i1 :: st) A = exG TB d 124 1813 L (.int (i1 + i2) :: st) A := x_nx (op := o_iop (fun x y => x + y)) rfl rfl
theorem x_124_1813  : exG TB d 124 1813 L (.int i1 :: .ref p :: st) A = ki (rdI 0 (gas A p) i1) d 124 1814 L st A := x_bd (op := o_rdIs 0) rfl rfl (fun _ => rfl)
theorem x_124_1814  : exG TB d 124 1814 (a0 :: a1 :: a2 :: some v :: r9) st A = rg v (exG TB d 124 1815 (a0 :: a1 :: a2 :: some v :: r9) (v :: st) A) := x_rg (op := o_aload 3 1) rfl rfl
theorem x_124_1815  : exG TB d 124 1815 L [b4, b3, b2, b1, b0] A = kc (evG TB d 147 [b0, b1, b2, b3, b4] A) d 124 1818 L [] := x_cv (op := o_cs 147 5 false none) rfl rfl x_noh rfl
theorem x_124_1818  : exG TB d 124 1818 (a0 :: a1 :: a2 :: a3 :: a4 :: a5 :: a6 :: r9) (.int i1 :: st) A = exG TB d 124 1820 (a0 :: a1 :: a2 :: a3 :: a4 :: a5 :: some (.int i1) :: r9) st A := x_nx (op := o_istore 6 2) rfl rfl
theorem x_124_1820  : exG TB d 124 1820 (a0 :: a1 :: some v :: r9) st A = rg v (exG TB d 124 1821 (a0 :: a1 :: some v :: r9) (v :: st) A) := x_rg (op := o_aload 2 1) rfl rfl
theorem x_124_1821  : exG TB d 124 1821 (some v :: r9) st A = rg v (exG TB d 124 1822 (some v :: r9) (v :: st) A) := x_rg (op := o_aload 0 1) rfl rfl
theorem x_124_1822  : exG TB d 124 1822 (a0 :: a1 :: a2 :: a3 :: a4 :: some (.int i1) :: r9) st A = exG TB d 124 1824 (a0 :: a1 :: a2 :: a3 :: a4 :: some (.int i1) :: r9) (.int i1 :: st) A := x_nx (op := o_iload 5 2) rfl rfl
theorem x_124_1824  : exG TB d 124 1824 L st A = exG TB d 124 1825 L (.int (nI 1) :: st) A := x_nx (op := o_push 1 (.int 1)) rfl rfl
theorem x_124_1825  : exG TB d 124 1825 L (.int i2 :: .int i1 :: st) A = exG TB d 124 1826 L (.int (i1 + i2) :: st) A := x_nx (op := o_iop (fun x y => x + y)) rfl rfl
theorem x_124_1826  : exG TB d 124 1826 L (.int i1 :: .ref p :: st) A = ki (rdI 0 (gas A p) i1) d 124 1827 L st A := x_bd (op := o_rdIs 0) rfl rfl (fun _ => rfl)
theorem x_124_1827  : exG TB d 124 1827 (some v :: r9) st A = rg v (exG TB d 124 1828 (some v :: r9) (v :: st) A) := x_rg (op := o_aload 0 1) rfl rfl
theorem x_124_1828  : exG TB d 124 1828 (a0 :: a1 :: a2 :: a3 :: a4 :: some (.int i1) :: r9) st A = exG TB d 124 1830 (a0 :: a1 :: a2 :: a3 :: a4 :: some (.int i1) :: r9) (.int i1 :: st) A := x_nx (op := o_iload 5 2) rfl rfl
theorem x_124_1830  : exG TB d 124 1830 L st A = exG TB d 124 1831 L (.int (nI 2) :: st) A := x_nx (op := o_push 1 (.int 2)) rfl rfl
theorem x_124_1831  : exG TB d 124 1831 L (.int i2 :: .int i1 :: st) A = exG TB d 124 1832 L (.int (i1 + i2) :: st) A := x_nx (op := o_iop (fun x y => x + y)) rfl rfl
theorem x_124_1832  : exG TB d 124 1832 L (.int i1 :: .ref p :: st) A = ki (rdI 0 (gas A p) i1) d 124 1833 L st A := x_bd (op := o_rdIs 0) rfl rfl (fun _ => rfl)
theorem x_124_1833  : exG TB d 124 1833 (some v :: r9) st A = rg v (exG TB d 124 1834 (some v :: r9) (v :: st) A) := x_rg (op := o_aload 0 1) rfl rfl
theorem x_124_1834  : exG TB d 124 1834 (a0 :: a1 :: a2 :: a3 :: a4 :: some (.int i1) :: r9) st A = exG TB d 124 1836 (a0 :: a1 :: a2 :: a3 :: a4 :: some (.int i1) :: r9) (.int i1 :: st) A := x_nx (op := o_iload 5 2) rfl rfl
theorem x_124_1836  : exG TB d 124 1836 L st A = exG TB d 124 1837 L (.int (nI 3) :: st) A := x_nx (op := o_push 1 (.int 3)) rfl rfl
theorem x_124_1837  : exG TB d 124 1837 L (.int i2 :: .int i1 :: st) A = exG TB d 124 1838 L (.int (i1 + i2) :: st) A := x_nx (op := o_iop (fun x y => x + y)) rfl rfl
theorem x_124_1838  : exG TB d 124 1838 L (.int i1 :: .ref p :: st) A = ki (rdI 0 (gas A p) i1) d 124 1839 L st A := x_bd (op := o_rdIs 0) rfl rfl (fun _ => rfl)
theorem x_124_1839  : exG TB d 124 1839 L [b2, b1, b0, .ref p] A = kw (sel (gc A p) [(30, 369)]) [.ref p, b0, b1, b2] d 124 1842 L [] A := x_cvb (op := o_cv [(30, 369)] 3 3 false none) rfl rfl x_noh rfl
theorem x_124_1842  : exG TB d 124 1842 (a0 :: a1 :: a2 :: a3 :: a4 :: a5 :: a6 :: a7 :: r9) (.int i1 :: st) A = exG TB d 124 1844 (a0 :: a1 :: a2 :: a3 :: a4 :: a5 :: a6 :: some (.int i1) :: r9) st A := x_nx (op := o_istore 7 2) rfl rfl
theorem x_124_1844  : exG TB d 124 1844 (a0 :: a1 :: some v :: r9) st A = rg v (exG TB d 124 1845 (a0 :: a1 :: some v :: r9) (v :: st) A) := x_rg (op := o_aload 2 1) rfl rfl
theorem x_124_1845  : exG TB d 124 1845 L [.ref p] A = kw (sel (gc A p) [(30, 289)]) [.ref p] d 124 1848 L [] A := x_cvb (op := o_cv [(30, 289)] 0 3 false none) rfl rfl x_noh rfl
theorem x_124_1848  : exG TB d 124 1848 (a0 :: a1 :: a2 :: a3 :: a4 :: a5 :: some (.int i1) :: r9) st A = exG TB d 124 1850 (a0 :: a1 :: a2 :: a3 :: a4 :: a5 :: some (.int i1) :: r9) (.int i1 :: st) A := x_nx (op := o_iload 6 2) rfl rfl
theorem x_124_1850  : exG TB d 124 1850 L (.int i2 :: .int i1 :: st) A = if i1 = i2 then exG TB d 124 1855 L st A else exG TB d 124 1853 L st A := x_if (op := o_icmp (fun x y => decide (x = y)) 1855) rfl rfl rfl
theorem x_124_1853  : exG TB d 124 1853 L st A = exG TB d 124 1854 L (.int (nI 0) :: st) A := x_nx (op := o_push 1 (.int 0)) rfl rfl
theorem x_124_1854  : exG TB d 124 1854 L [v] A = ck (okv 5 v) (some (.inl (some v), A)) := x_outg (op := o_ret 5) rfl rfl
theorem x_124_1855  : exG TB d 124 1855 (a0 :: a1 :: a2 :: a3 :: a4 :: a5 :: some (.int i1) :: r9) st A = exG TB d 124 1857 (a0 :: a1 :: a2 :: a3 :: a4 :: a5 :: some (.int i1) :: r9) (.int i1 :: st) A := x_nx (op := o_iload 6 2) rfl rfl
theorem x_124_1857  : exG TB d 124 1857 L (.int i1 :: st) A = if ¬ i1 = nI 0 then exG TB d 124 1872 L st A else exG TB d 124 1860 L st A := x_if (op := o_if (fun x => decide (¬ x = 0)) 1872) rfl rfl rfl
theorem x_124_1860  : exG TB d 124 1860 (a0 :: a1 :: a2 :: some v :: r9) st A = rg v (exG TB d 124 1861 (a0 :: a1 :: a2 :: some v :: r9) (v :: st) A) := x_rg (op := o_aload 3 1) rfl rfl
theorem x_124_1861  : exG TB d 124 1861 L st A = exG TB d 124 1862 L (.int (nI 0) :: st) A := x_nx (op := o_push 1 (.int 0)) rfl rfl
theorem x_124_1862  : exG TB d 124 1862 L (.int i1 :: .ref p :: st) A = kj (rdJ (ga A p) i1) d 124 1863 L st A := x_bd (op := o_rdJ) rfl rfl (fun _ => rfl)
theorem x_124_1863  : exG TB d 124 1863 (a0 :: a1 :: a2 :: a3 :: a4 :: a5 :: a6 :: some (.int i1) :: r9) st A = exG TB d 124 1865 (a0 :: a1 :: a2 :: a3 :: a4 :: a5 :: a6 :: some (.int i1) :: r9) (.int i1 :: st) A := x_nx (op := o_iload 7 2) rfl rfl
theorem x_124_1865  : exG TB d 124 1865 L (.int i1 :: st) A = exG TB d 124 1866 L (.long i1.toInt64 :: st) A := x_nx (op := o_i2l) rfl rfl
theorem x_124_1866  : exG TB d 124 1866 L (.long l2 :: .long l1 :: st) A = exG TB d 124 1867 L (.int (lg_cmp l1 l2) :: st) A := x_nx (op := o_lcmp) rfl rfl
theorem x_124_1867  : exG TB d 124 1867 L (.int i1 :: st) A = if i1 = nI 0 then exG TB d 124 1872 L st A else exG TB d 124 1870 L st A := x_if (op := o_if (fun x => decide (x = 0)) 1872) rfl rfl rfl
theorem x_124_1870  : exG TB d 124 1870 L st A = exG TB d 124 1871 L (.int (nI 0) :: st) A := x_nx (op := o_push 1 (.int 0)) rfl rfl
theorem x_124_1871  : exG TB d 124 1871 L [v] A = ck (okv 5 v) (some (.inl (some v), A)) := x_outg (op := o_ret 5) rfl rfl
theorem x_124_1872  : exG TB d 124 1872 L st A = exG TB d 124 2693 L st A := x_nx (op := o_goto 2693) rfl rfl
theorem x_124_1875  : exG TB d 124 1875 (a0 :: some v :: r9) st A = rg v (exG TB d 124 1876 (a0 :: some v :: r9) (v :: st) A) := x_rg (op := o_aload 1 1) rfl rfl
theorem x_124_1876  : exG TB d 124 1876 (some v :: r9) st A = rg v (exG TB d 124 1877 (some v :: r9) (v :: st) A) := x_rg (op := o_aload 0 1) rfl rfl
theorem x_124_1877  : exG TB d 124 1877 (a0 :: a1 :: a2 :: a3 :: a4 :: some (.int i1) :: r9) st A = exG TB d 124 1879 (a0 :: a1 :: a2 :: a3 :: a4 :: some (.int i1) :: r9) (.int i1 :: st) A := x_nx (op := o_iload 5 2) rfl rfl
theorem x_124_1879  : exG TB d 124 1879 L st A = exG TB d 124 1880 L (.int (nI 1) :: st) A := x_nx (op := o_push 1 (.int 1)) rfl rfl
theorem x_124_1880  : exG TB d 124 1880 L (.int i2 :: .int i1 :: st) A = exG TB d 124 1881 L (.int (i1 + i2) :: st) A := x_nx (op := o_iop (fun x y => x + y)) rfl rfl
theorem x_124_1881  : exG TB d 124 1881 L (.int i1 :: .ref p :: st) A = ki (rdI 0 (gas A p) i1) d 124 1882 L st A := x_bd (op := o_rdIs 0) rfl rfl (fun _ => rfl)
theorem x_124_1882  : exG TB d 124 1882 (some v :: r9) st A = rg v (exG TB d 124 1883 (some v :: r9) (v :: st) A) := x_rg (op := o_aload 0 1) rfl rfl
theorem x_124_1883  : exG TB d 124 1883 (a0 :: a1 :: a2 :: a3 :: a4 :: some (.int i1) :: r9) st A = exG TB d 124 1885 (a0 :: a1 :: a2 :: a3 :: a4 :: some (.int i1) :: r9) (.int i1 :: st) A := x_nx (op := o_iload 5 2) rfl rfl
theorem x_124_1885  : exG TB d 124 1885 L st A = exG TB d 124 1886 L (.int (nI 2) :: st) A := x_nx (op := o_push 1 (.int 2)) rfl rfl
theorem x_124_1886  : exG TB d 124 1886 L (.int i2 :: .int i1 :: st) A = exG TB d 124 1887 L (.int (i1 + i2) :: st) A := x_nx (op := o_iop (fun x y => x + y)) rfl rfl
theorem x_124_1887  : exG TB d 124 1887 L (.int i1 :: .ref p :: st) A = ki (rdI 0 (gas A p) i1) d 124 1888 L st A := x_bd (op := o_rdIs 0) rfl rfl (fun _ => rfl)
theorem x_124_1888  : exG TB d 124 1888 (some v :: r9) st A = rg v (exG TB d 124 1889 (some v :: r9) (v :: st) A) := x_rg (op := o_aload 0 1) rfl rfl
theorem x_124_1889  : exG TB d 124 1889 (a0 :: a1 :: a2 :: a3 :: a4 :: some (.int i1) :: r9) st A = exG TB d 124 1891 (a0 :: a1 :: a2 :: a3 :: a4 :: some (.int i1) :: r9) (.int i1 :: st) A := x_nx (op := o_iload 5 2) rfl rfl
theorem x_124_1891  : exG TB d 124 1891 L st A = exG TB d 124 1892 L (.int (nI 3) :: st) A := x_nx (op := o_push 1 (.int 3)) rfl rfl
theorem x_124_1892  : exG TB d 124 1892 L (.int i2 :: .int i1 :: st) A = exG TB d 124 1893 L (.int (i1 + i2) :: st) A := x_nx (op := o_iop (fun x y => x + y)) rfl rfl
theorem x_124_1893  : exG TB d 124 1893 L (.int i1 :: .ref p :: st) A = ki (rdI 0 (gas A p) i1) d 124 1894 L st A := x_bd (op := o_rdIs 0) rfl rfl (fun _ => rfl)
theorem x_124_1894  : exG TB d 124 1894 (a0 :: a1 :: a2 :: some v :: r9) st A = rg v (exG TB d 124 1895 (a0 :: a1 :: a2 :: some v :: r9) (v :: st) A) := x_rg (op := o_aload 3 1) rfl rfl
theorem x_124_1895  : exG TB d 124 1895 L [b4, b3, b2, b1, b0] A = kc (evG TB d 148 [b0, b1, b2, b3, b4] A) d 124 1898 L [] := x_cv (op := o_cs 148 5 false none) rfl rfl x_noh rfl
theorem x_124_1898  : exG TB d 124 1898 (a0 :: a1 :: a2 :: a3 :: a4 :: a5 :: a6 :: r9) (.int i1 :: st) A = exG TB d 124 1900 (a0 :: a1 :: a2 :: a3 :: a4 :: a5 :: some (.int i1) :: r9) st A := x_nx (op := o_istore 6 2) rfl rfl
theorem x_124_1900  : exG TB d 124 1900 (a0 :: a1 :: some v :: r9) st A = rg v (exG TB d 124 1901 (a0 :: a1 :: some v :: r9) (v :: st) A) := x_rg (op := o_aload 2 1) rfl rfl
theorem x_124_1901  : exG TB d 124 1901 (some v :: r9) st A = rg v (exG TB d 124 1902 (some v :: r9) (v :: st) A) := x_rg (op := o_aload 0 1) rfl rfl
theorem x_124_1902  : exG TB d 124 1902 (a0 :: a1 :: a2 :: a3 :: a4 :: some (.int i1) :: r9) st A = exG TB d 124 1904 (a0 :: a1 :: a2 :: a3 :: a4 :: some (.int i1) :: r9) (.int i1 :: st) A := x_nx (op := o_iload 5 2) rfl rfl
theorem x_124_1904  : exG TB d 124 1904 L st A = exG TB d 124 1905 L (.int (nI 1) :: st) A := x_nx (op := o_push 1 (.int 1)) rfl rfl
theorem x_124_1905  : exG TB d 124 1905 L (.int i2 :: .int i1 :: st) A = exG TB d 124 1906 L (.int (i1 + i2) :: st) A := x_nx (op := o_iop (fun x y => x + y)) rfl rfl
theorem x_124_1906  : exG TB d 124 1906 L (.int i1 :: .ref p :: st) A = ki (rdI 0 (gas A p) i1) d 124 1907 L st A := x_bd (op := o_rdIs 0) rfl rfl (fun _ => rfl)
theorem x_124_1907  : exG TB d 124 1907 (some v :: r9) st A = rg v (exG TB d 124 1908 (some v :: r9) (v :: st) A) := x_rg (op := o_aload 0 1) rfl rfl
theorem x_124_1908  : exG TB d 124 1908 (a0 :: a1 :: a2 :: a3 :: a4 :: some (.int i1) :: r9) st A = exG TB d 124 1910 (a0 :: a1 :: a2 :: a3 :: a4 :: some (.int i1) :: r9) (.int i1 :: st) A := x_nx (op := o_iload 5 2) rfl rfl
theorem x_124_1910  : exG TB d 124 1910 L st A = exG TB d 124 1911 L (.int (nI 2) :: st) A := x_nx (op := o_push 1 (.int 2)) rfl rfl
theorem x_124_1911  : exG TB d 124 1911 L (.int i2 :: .int i1 :: st) A = exG TB d 124 1912 L (.int (i1 + i2) :: st) A := x_nx (op := o_iop (fun x y => x + y)) rfl rfl
theorem x_124_1912  : exG TB d 124 1912 L (.int i1 :: .ref p :: st) A = ki (rdI 0 (gas A p) i1) d 124 1913 L st A := x_bd (op := o_rdIs 0) rfl rfl (fun _ => rfl)
theorem x_124_1913  : exG TB d 124 1913 (some v :: r9) st A = rg v (exG TB d 124 1914 (some v :: r9) (v :: st) A) := x_rg (op := o_aload 0 1) rfl rfl
theorem x_124_1914  : exG TB d 124 1914 (a0 :: a1 :: a2 :: a3 :: a4 :: some (.int i1) :: r9) st A = exG TB d 124 1916 (a0 :: a1 :: a2 :: a3 :: a4 :: some (.int i1) :: r9) (.int i1 :: st) A := x_nx (op := o_iload 5 2) rfl rfl
theorem x_124_1916  : exG TB d 124 1916 L st A = exG TB d 124 1917 L (.int (nI 3) :: st) A := x_nx (op := o_push 1 (.int 3)) rfl rfl
theorem x_124_1917  : exG TB d 124 1917 L (.int i2 :: .int i1 :: st) A = exG TB d 124 1918 L (.int (i1 + i2) :: st) A := x_nx (op := o_iop (fun x y => x + y)) rfl rfl
theorem x_124_1918  : exG TB d 124 1918 L (.int i1 :: .ref p :: st) A = ki (rdI 0 (gas A p) i1) d 124 1919 L st A := x_bd (op := o_rdIs 0) rfl rfl (fun _ => rfl)
theorem x_124_1919  : exG TB d 124 1919 L [b2, b1, b0, .ref p] A = kw (sel (gc A p) [(30, 375)]) [.ref p, b0, b1, b2] d 124 1922 L [] A := x_cvb (op := o_cv [(30, 375)] 3 3 false none) rfl rfl x_noh rfl
theorem x_124_1922  : exG TB d 124 1922 (a0 :: a1 :: a2 :: a3 :: a4 :: a5 :: a6 :: a7 :: r9) (.int i1 :: st) A = exG TB d 124 1924 (a0 :: a1 :: a2 :: a3 :: a4 :: a5 :: a6 :: some (.int i1) :: r9) st A := x_nx (op := o_istore 7 2) rfl rfl
theorem x_124_1924  : exG TB d 124 1924 (a0 :: a1 :: some v :: r9) st A = rg v (exG TB d 124 1925 (a0 :: a1 :: some v :: r9) (v :: st) A) := x_rg (op := o_aload 2 1) rfl rfl
theorem x_124_1925  : exG TB d 124 1925 L [.ref p] A = kw (sel (gc A p) [(30, 289)]) [.ref p] d 124 1928 L [] A := x_cvb (op := o_cv [(30, 289)] 0 3 false none) rfl rfl x_noh rfl
theorem x_124_1928  : exG TB d 124 1928 (a0 :: a1 :: a2 :: a3 :: a4 :: a5 :: some (.int i1) :: r9) st A = exG TB d 124 1930 (a0 :: a1 :: a2 :: a3 :: a4 :: a5 :: some (.int i1) :: r9) (.int i1 :: st) A := x_nx (op := o_iload 6 2) rfl rfl
theorem x_124_1930  : exG TB d 124 1930 L (.int i2 :: .int i1 :: st) A = if i1 = i2 then exG TB d 124 1935 L st A else exG TB d 124 1933 L st A := x_if (op := o_icmp (fun x y => decide (x = y)) 1935) rfl rfl rfl
theorem x_124_1933  : exG TB d 124 1933 L st A = exG TB d 124 1934 L (.int (nI 0) :: st) A := x_nx (op := o_push 1 (.int 0)) rfl rfl
theorem x_124_1934  : exG TB d 124 1934 L [v] A = ck (okv 5 v) (some (.inl (some v), A)) := x_outg (op := o_ret 5) rfl rfl
theorem x_124_1935  : exG TB d 124 1935 (a0 :: a1 :: a2 :: a3 :: a4 :: a5 :: some (.int i1) :: r9) st A = exG TB d 124 1937 (a0 :: a1 :: a2 :: a3 :: a4 :: a5 :: some (.int i1) :: r9) (.int i1 :: st) A := x_nx (op := o_iload 6 2) rfl rfl
theorem x_124_1937  : exG TB d 124 1937 L (.int i1 :: st) A = if ¬ i1 = nI 0 then exG TB d 124 1952 L st A else exG TB d 124 1940 L st A := x_if (op := o_if (fun x => decide (¬ x = 0)) 1952) rfl rfl rfl
theorem x_124_1940  : exG TB d 124 1940 (a0 :: a1 :: a2 :: some v :: r9) st A = rg v (exG TB d 124 1941 (a0 :: a1 :: a2 :: some v :: r9) (v :: st) A) := x_rg (op := o_aload 3 1) rfl rfl
theorem x_124_1941  : exG TB d 124 1941 L st A = exG TB d 124 1942 L (.int (nI 0) :: st) A := x_nx (op := o_push 1 (.int 0)) rfl rfl
theorem x_124_1942  : exG TB d 124 1942 L (.int i1 :: .ref p :: st) A = kj (rdJ (ga A p) i1) d 124 1943 L st A := x_bd (op := o_rdJ) rfl rfl (fun _ => rfl)
theorem x_124_1943  : exG TB d 124 1943 (a0 :: a1 :: a2 :: a3 :: a4 :: a5 :: a6 :: some (.int i1) :: r9) st A = exG TB d 124 1945 (a0 :: a1 :: a2 :: a3 :: a4 :: a5 :: a6 :: some (.int i1) :: r9) (.int i1 :: st) A := x_nx (op := o_iload 7 2) rfl rfl
theorem x_124_1945  : exG TB d 124 1945 L (.int i1 :: st) A = exG TB d 124 1946 L (.long i1.toInt64 :: st) A := x_nx (op := o_i2l) rfl rfl
theorem x_124_1946  : exG TB d 124 1946 L (.long l2 :: .long l1 :: st) A = exG TB d 124 1947 L (.int (lg_cmp l1 l2) :: st) A := x_nx (op := o_lcmp) rfl rfl
theorem x_124_1947  : exG TB d 124 1947 L (.int i1 :: st) A = if i1 = nI 0 then exG TB d 124 1952 L st A else exG TB d 124 1950 L st A := x_if (op := o_if (fun x => decide (x = 0)) 1952) rfl rfl rfl
theorem x_124_1950  : exG TB d 124 1950 L st A = exG TB d 124 1951 L (.int (nI 0) :: st) A := x_nx (op := o_push 1 (.int 0)) rfl rfl
theorem x_124_1951  : exG TB d 124 1951 L [v] A = ck (okv 5 v) (some (.inl (some v), A)) := x_outg (op := o_ret 5) rfl rfl
theorem x_124_1952  : exG TB d 124 1952 L st A = exG TB d 124 2693 L st A := x_nx (op := o_goto 2693) rfl rfl
theorem x_124_1955  : exG TB d 124 1955 (a0 :: some v :: r9) st A = rg v (exG TB d 124 1956 (a0 :: some v :: r9) (v :: st) A) := x_rg (op := o_aload 1 1) rfl rfl
theorem x_124_1956  : exG TB d 124 1956 (some v :: r9) st A = rg v (exG TB d 124 1957 (some v :: r9) (v :: st) A) := x_rg (op := o_aload 0 1) rfl rfl
theorem x_124_1957  : exG TB d 124 1957 (a0 :: a1 :: a2 :: a3 :: a4 :: some (.int i1) :: r9) st A = exG TB d 124 1959 (a0 :: a1 :: a2 :: a3 :: a4 :: some (.int i1) :: r9) (.int i1 :: st) A := x_nx (op := o_iload 5 2) rfl rfl
theorem x_124_1959  : exG TB d 124 1959 L st A = exG TB d 124 1960 L (.int (nI 1) :: st) A := x_nx (op := o_push 1 (.int 1)) rfl rfl
theorem x_124_1960  : exG TB d 124 1960 L (.int i2 :: .int i1 :: st) A = exG TB d 124 1961 L (.int (i1 + i2) :: st) A := x_nx (op := o_iop (fun x y => x + y)) rfl rfl
theorem x_124_1961  : exG TB d 124 1961 L (.int i1 :: .ref p :: st) A = ki (rdI 0 (gas A p) i1) d 124 1962 L st A := x_bd (op := o_rdIs 0) rfl rfl (fun _ => rfl)
theorem x_124_1962  : exG TB d 124 1962 (some v :: r9) st A = rg v (exG TB d 124 1963 (some v :: r9) (v :: st) A) := x_rg (op := o_aload 0 1) rfl rfl
theorem x_124_1963  : exG TB d 124 1963 (a0 :: a1 :: a2 :: a3 :: a4 :: some (.int i1) :: r9) st A = exG TB d 124 1965 (a0 :: a1 :: a2 :: a3 :: a4 :: some (.int i1) :: r9) (.int i1 :: st) A := x_nx (op := o_iload 5 2) rfl rfl
theorem x_124_1965  : exG TB d 124 1965 L st A = exG TB d 124 1966 L (.int (nI 2) :: st) A := x_nx (op := o_push 1 (.int 2)) rfl rfl
theorem x_124_1966  : exG TB d 124 1966 L (.int i2 :: .int i1 :: st) A = exG TB d 124 1967 L (.int (i1 + i2) :: st) A := x_nx (op := o_iop (fun x y => x + y)) rfl rfl
theorem x_124_1967  : exG TB d 124 1967 L (.int i1 :: .ref p :: st) A = ki (rdI 0 (gas A p) i1) d 124 1968 L st A := x_bd (op := o_rdIs 0) rfl rfl (fun _ => rfl)
theorem x_124_1968  : exG TB d 124 1968 (a0 :: a1 :: a2 :: some v :: r9) st A = rg v (exG TB d 124 1969 (a0 :: a1 :: a2 :: some v :: r9) (v :: st) A) := x_rg (op := o_aload 3 1) rfl rfl
theorem x_124_1969  : exG TB d 124 1969 L [b3, b2, b1, b0] A = kc (evG TB d 149 [b0, b1, b2, b3] A) d 124 1972 L [] := x_cv (op := o_cs 149 4 false none) rfl rfl x_noh rfl
theorem x_124_1972  : exG TB d 124 1972 (a0 :: a1 :: a2 :: a3 :: a4 :: a5 :: a6 :: r9) (.int i1 :: st) A = exG TB d 124 1974 (a0 :: a1 :: a2 :: a3 :: a4 :: a5 :: some (.int i1) :: r9) st A := x_nx (op := o_istore 6 2) rfl rfl
theorem x_124_1974  : exG TB d 124 1974 (a0 :: a1 :: some v :: r9) st A = rg v (exG TB d 124 1975 (a0 :: a1 :: some v :: r9) (v :: st) A) := x_rg (op := o_aload 2 1) rfl rfl
theorem x_124_1975  : exG TB d 124 1975 (some v :: r9) st A = rg v (exG TB d 124 1976 (some v :: r9) (v :: st) A) := x_rg (op := o_aload 0 1) rfl rfl
theorem x_124_1976  : exG TB d 124 1976 (a0 :: a1 :: a2 :: a3 :: a4 :: some (.int i1) :: r9) st A = exG TB d 124 1978 (a0 :: a1 :: a2 :: a3 :: a4 :: some (.int i1) :: r9) (.int i1 :: st) A := x_nx (op := o_iload 5 2) rfl rfl
theorem x_124_1978  : exG TB d 124 1978 L st A = exG TB d 124 1979 L (.int (nI 1) :: st) A := x_nx (op := o_push 1 (.int 1)) rfl rfl
theorem x_124_1979  : exG TB d 124 1979 L (.int i2 :: .int i1 :: st) A = exG TB d 124 1980 L (.int (i1 + i2) :: st) A := x_nx (op := o_iop (fun x y => x + y)) rfl rfl
theorem x_124_1980  : exG TB d 124 1980 L (.int i1 :: .ref p :: st) A = ki (rdI 0 (gas A p) i1) d 124 1981 L st A := x_bd (op := o_rdIs 0) rfl rfl (fun _ => rfl)
theorem x_124_1981  : exG TB d 124 1981 (some v :: r9) st A = rg v (exG TB d 124 1982 (some v :: r9) (v :: st) A) := x_rg (op := o_aload 0 1) rfl rfl
theorem x_124_1982  : exG TB d 124 1982 (a0 :: a1 :: a2 :: a3 :: a4 :: some (.int i1) :: r9) st A = exG TB d 124 1984 (a0 :: a1 :: a2 :: a3 :: a4 :: some (.int i1) :: r9) (.int i1 :: st) A := x_nx (op := o_iload 5 2) rfl rfl
theorem x_124_1984  : exG TB d 124 1984 L st A = exG TB d 124 1985 L (.int (nI 2) :: st) A := x_nx (op := o_push 1 (.int 2)) rfl rfl
theorem x_124_1985  : exG TB d 124 1985 L (.int i2 :: .int i1 :: st) A = exG TB d 124 1986 L (.int (i1 + i2) :: st) A := x_nx (op := o_iop (fun x y => x + y)) rfl rfl
theorem x_124_1986  : exG TB d 124 1986 L (.int i1 :: .ref p :: st) A = ki (rdI 0 (gas A p) i1) d 124 1987 L st A := x_bd (op := o_rdIs 0) rfl rfl (fun _ => rfl)
theorem x_124_1987  : exG TB d 124 1987 L [b1, b0, .ref p] A = kw (sel (gc A p) [(30, 376)]) [.ref p, b0, b1] d 124 1990 L [] A := x_cvb (op := o_cv [(30, 376)] 2 3 false none) rfl rfl x_noh rfl
theorem x_124_1990  : exG TB d 124 1990 (a0 :: a1 :: a2 :: a3 :: a4 :: a5 :: a6 :: a7 :: r9) (.int i1 :: st) A = exG TB d 124 1992 (a0 :: a1 :: a2 :: a3 :: a4 :: a5 :: a6 :: some (.int i1) :: r9) st A := x_nx (op := o_istore 7 2) rfl rfl
theorem x_124_1992  : exG TB d 124 1992 (a0 :: a1 :: some v :: r9) st A = rg v (exG TB d 124 1993 (a0 :: a1 :: some v :: r9) (v :: st) A) := x_rg (op := o_aload 2 1) rfl rfl
theorem x_124_1993  : exG TB d 124 1993 L [.ref p] A = kw (sel (gc A p) [(30, 289)]) [.ref p] d 124 1996 L [] A := x_cvb (op := o_cv [(30, 289)] 0 3 false none) rfl rfl x_noh rfl
theorem x_124_1996  : exG TB d 124 1996 (a0 :: a1 :: a2 :: a3 :: a4 :: a5 :: some (.int i1) :: r9) st A = exG TB d 124 1998 (a0 :: a1 :: a2 :: a3 :: a4 :: a5 :: some (.int i1) :: r9) (.int i1 :: st) A := x_nx (op := o_iload 6 2) rfl rfl
theorem x_124_1998  : exG TB d 124 1998 L (.int i2 :: .int i1 :: st) A = if i1 = i2 then exG TB d 124 2003 L st A else exG TB d 124 2001 L st A := x_if (op := o_icmp (fun x y => decide (x = y)) 2003) rfl rfl rfl
theorem x_124_2001  : exG TB d 124 2001 L st A = exG TB d 124 2002 L (.int (nI 0) :: st) A := x_nx (op := o_push 1 (.int 0)) rfl rfl
theorem x_124_2002  : exG TB d 124 2002 L [v] A = ck (okv 5 v) (some (.inl (some v), A)) := x_outg (op := o_ret 5) rfl rfl
theorem x_124_2003  : exG TB d 124 2003 (a0 :: a1 :: a2 :: a3 :: a4 :: a5 :: some (.int i1) :: r9) st A = exG TB d 124 2005 (a0 :: a1 :: a2 :: a3 :: a4 :: a5 :: some (.int i1) :: r9) (.int i1 :: st) A := x_nx (op := o_iload 6 2) rfl rfl
theorem x_124_2005  : exG TB d 124 2005 L (.int i1 :: st) A = if ¬ i1 = nI 0 then exG TB d 124 2020 L st A else exG TB d 124 2008 L st A := x_if (op := o_if (fun x => decide (¬ x = 0)) 2020) rfl rfl rfl
theorem x_124_2008  : exG TB d 124 2008 (a0 :: a1 :: a2 :: some v :: r9) st A = rg v (exG TB d 124 2009 (a0 :: a1 :: a2 :: some v :: r9) (v :: st) A) := x_rg (op := o_aload 3 1) rfl rfl
theorem x_124_2009  : exG TB d 124 2009 L st A = exG TB d 124 2010 L (.int (nI 0) :: st) A := x_nx (op := o_push 1 (.int 0)) rfl rfl
theorem x_124_2010  : exG TB d 124 2010 L (.int i1 :: .ref p :: st) A = kj (rdJ (ga A p) i1) d 124 2011 L st A := x_bd (op := o_rdJ) rfl rfl (fun _ => rfl)
theorem x_124_2011  : exG TB d 124 2011 (a0 :: a1 :: a2 :: a3 :: a4 :: a5 :: a6 :: some (.int i1) :: r9) st A = exG TB d 124 2013 (a0 :: a1 :: a2 :: a3 :: a4 :: a5 :: a6 :: some (.int i1) :: r9) (.int i1 :: st) A := x_nx (op := o_iload 7 2) rfl rfl
theorem x_124_2013  : exG TB d 124 2013 L (.int i1 :: st) A = exG TB d 124 2014 L (.long i1.toInt64 :: st) A := x_nx (op := o_i2l) rfl rfl
theorem x_124_2014  : exG TB d 124 2014 L (.long l2 :: .long l1 :: st) A = exG TB d 124 2015 L (.int (lg_cmp l1 l2) :: st) A := x_nx (op := o_lcmp) rfl rfl
theorem x_124_2015  : exG TB d 124 2015 L (.int i1 :: st) A = if i1 = nI 0 then exG TB d 124 2020 L st A else exG TB d 124 2018 L st A := x_if (op := o_if (fun x => decide (x = 0)) 2020) rfl rfl rfl
theorem x_124_2018  : exG TB d 124 2018 L st A = exG TB d 124 2019 L (.int (nI 0) :: st) A := x_nx (op := o_push 1 (.int 0)) rfl rfl
theorem x_124_2019  : exG TB d 124 2019 L [v] A = ck (okv 5 v) (some (.inl (some v), A)) := x_outg (op := o_ret 5) rfl rfl
theorem x_124_2020  : exG TB d 124 2020 L st A = exG TB d 124 2693 L st A := x_nx (op := o_goto 2693) rfl rfl
theorem x_124_2023  : exG TB d 124 2023 (a0 :: some v :: r9) st A = rg v (exG TB d 124 2024 (a0 :: some v :: r9) (v :: st) A) := x_rg (op := o_aload 1 1) rfl rfl
theorem x_124_2024  : exG TB d 124 2024 (some v :: r9) st A = rg v (exG TB d 124 2025 (some v :: r9) (v :: st) A) := x_rg (op := o_aload 0 1) rfl rfl
theorem x_124_2025  : exG TB d 124 2025 (a0 :: a1 :: a2 :: a3 :: a4 :: some (.int i1) :: r9) st A = exG TB d 124 2027 (a0 :: a1 :: a2 :: a3 :: a4 :: some (.int i1) :: r9) (.int i1 :: st) A := x_nx (op := o_iload 5 2) rfl rfl
theorem x_124_2027  : exG TB d 124 2027 L st A = exG TB d 124 2028 L (.int (nI 1) :: st) A := x_nx (op := o_push 1 (.int 1)) rfl rfl
theorem x_124_2028  : exG TB d 124 2028 L (.int i2 :: .int i1 :: st) A = exG TB d 124 2029 L (.int (i1 + i2) :: st) A := x_nx (op := o_iop (fun x y => x + y)) rfl rfl
theorem x_124_2029  : exG TB d 124 2029 L (.int i1 :: .ref p :: st) A = ki (rdI 0 (gas A p) i1) d 124 2030 L st A := x_bd (op := o_rdIs 0) rfl rfl (fun _ => rfl)
theorem x_124_2030  : exG TB d 124 2030 (a0 :: a1 :: a2 :: some v :: r9) st A = rg v (exG TB d 124 2031 (a0 :: a1 :: a2 :: some v :: r9) (v :: st) A) := x_rg (op := o_aload 3 1) rfl rfl
theorem x_124_2031  : exG TB d 124 2031 L [b2, b1, b0] A = kc (evG TB d 150 [b0, b1, b2] A) d 124 2034 L [] := x_cv (op := o_cs 150 3 false none) rfl rfl x_noh rfl
theorem x_124_2034  : exG TB d 124 2034 (a0 :: a1 :: a2 :: a3 :: a4 :: a5 :: a6 :: r9) (.int i1 :: st) A = exG TB d 124 2036 (a0 :: a1 :: a2 :: a3 :: a4 :: a5 :: some (.int i1) :: r9) st A := x_nx (op := o_istore 6 2) rfl rfl
theorem x_124_2036  : exG TB d 124 2036 (a0 :: a1 :: some v :: r9) st A = rg v (exG TB d 124 2037 (a0 :: a1 :: some v :: r9) (v :: st) A) := x_rg (op := o_aload 2 1) rfl rfl
theorem x_124_2037  : exG TB d 124 2037 (some v :: r9) st A = rg v (exG TB d 124 2038 (some v :: r9) (v :: st) A) := x_rg (op := o_aload 0 1) rfl rfl
theorem x_124_2038  : exG TB d 124 2038 (a0 :: a1 :: a2 :: a3 :: a4 :: some (.int i1) :: r9) st A = exG TB d 124 2040 (a0 :: a1 :: a2 :: a3 :: a4 :: some (.int i1) :: r9) (.int i1 :: st) A := x_nx (op := o_iload 5 2) rfl rfl
theorem x_124_2040  : exG TB d 124 2040 L st A = exG TB d 124 2041 L (.int (nI 1) :: st) A := x_nx (op := o_push 1 (.int 1)) rfl rfl
theorem x_124_2041  : exG TB d 124 2041 L (.int i2 :: .int i1 :: st) A = exG TB d 124 2042 L (.int (i1 + i2) :: st) A := x_nx (op := o_iop (fun x y => x + y)) rfl rfl
theorem x_124_2042  : exG TB d 124 2042 L (.int i1 :: .ref p :: st) A = ki (rdI 0 (gas A p) i1) d 124 2043 L st A := x_bd (op := o_rdIs 0) rfl rfl (fun _ => rfl)
theorem x_124_2043  : exG TB d 124 2043 L [b0, .ref p] A = kw (sel (gc A p) [(30, 386)]) [.ref p, b0] d 124 2046 L [] A := x_cvb (op := o_cv [(30, 386)] 1 3 false none) rfl rfl x_noh rfl
theorem x_124_2046  : exG TB d 124 2046 (a0 :: a1 :: a2 :: a3 :: a4 :: a5 :: a6 :: a7 :: r9) (.int i1 :: st) A = exG TB d 124 2048 (a0 :: a1 :: a2 :: a3 :: a4 :: a5 :: a6 :: some (.int i1) :: r9) st A := x_nx (op := o_istore 7 2) rfl rfl
theorem x_124_2048  : exG TB d 124 2048 (a0 :: a1 :: some v :: r9) st A = rg v (exG TB d 124 2049 (a0 :: a1 :: some v :: r9) (v :: st) A) := x_rg (op := o_aload 2 1) rfl rfl
theorem x_124_2049  : exG TB d 124 2049 L [.ref p] A = kw (sel (gc A p) [(30, 289)]) [.ref p] d 124 2052 L [] A := x_cvb (op := o_cv [(30, 289)] 0 3 false none) rfl rfl x_noh rfl
theorem x_124_2052  : exG TB d 124 2052 (a0 :: a1 :: a2 :: a3 :: a4 :: a5 :: some (.int i1) :: r9) st A = exG TB d 124 2054 (a0 :: a1 :: a2 :: a3 :: a4 :: a5 :: some (.int i1) :: r9) (.int i1 :: st) A := x_nx (op := o_iload 6 2) rfl rfl
theorem x_124_2054  : exG TB d 124 2054 L (.int i2 :: .int i1 :: st) A = if i1 = i2 then exG TB d 124 2059 L st A else exG TB d 124 2057 L st A := x_if (op := o_icmp (fun x y => decide (x = y)) 2059) rfl rfl rfl
theorem x_124_2057  : exG TB d 124 2057 L st A = exG TB d 124 2058 L (.int (nI 0) :: st) A := x_nx (op := o_push 1 (.int 0)) rfl rfl
theorem x_124_2058  : exG TB d 124 2058 L [v] A = ck (okv 5 v) (some (.inl (some v), A)) := x_outg (op := o_ret 5) rfl rfl
theorem x_124_2059  : exG TB d 124 2059 (a0 :: a1 :: a2 :: a3 :: a4 :: a5 :: some (.int i1) :: r9) st A = exG TB d 124 2061 (a0 :: a1 :: a2 :: a3 :: a4 :: a5 :: some (.int i1) :: r9) (.int i1 :: st) A := x_nx (op := o_iload 6 2) rfl rfl
theorem x_124_2061  : exG TB d 124 2061 L (.int i1 :: st) A = if ¬ i1 = nI 0 then exG TB d 124 2076 L st A else exG TB d 124 2064 L st A := x_if (op := o_if (fun x => decide (¬ x = 0)) 2076) rfl rfl rfl
theorem x_124_2064  : exG TB d 124 2064 (a0 :: a1 :: a2 :: some v :: r9) st A = rg v (exG TB d 124 2065 (a0 :: a1 :: a2 :: some v :: r9) (v :: st) A) := x_rg (op := o_aload 3 1) rfl rfl
theorem x_124_2065  : exG TB d 124 2065 L st A = exG TB d 124 2066 L (.int (nI 0) :: st) A := x_nx (op := o_push 1 (.int 0)) rfl rfl
theorem x_124_2066  : exG TB d 124 2066 L (.int i1 :: .ref p :: st) A = kj (rdJ (ga A p) i1) d 124 2067 L st A := x_bd (op := o_rdJ) rfl rfl (fun _ => rfl)
theorem x_124_2067  : exG TB d 124 2067 (a0 :: a1 :: a2 :: a3 :: a4 :: a5 :: a6 :: some (.int i1) :: r9) st A = exG TB d 124 2069 (a0 :: a1 :: a2 :: a3 :: a4 :: a5 :: a6 :: some (.int i1) :: r9) (.int i1 :: st) A := x_nx (op := o_iload 7 2) rfl rfl
theorem x_124_2069  : exG TB d 124 2069 L (.int i1 :: st) A = exG TB d 124 2070 L (.long i1.toInt64 :: st) A := x_nx (op := o_i2l) rfl rfl
theorem x_124_2070  : exG TB d 124 2070 L (.long l2 :: .long l1 :: st) A = exG TB d 124 2071 L (.int (lg_cmp l1 l2) :: st) A := x_nx (op := o_lcmp) rfl rfl
theorem x_124_2071  : exG TB d 124 2071 L (.int i1 :: st) A = if i1 = nI 0 then exG TB d 124 2076 L st A else exG TB d 124 2074 L st A := x_if (op := o_if (fun x => decide (x = 0)) 2076) rfl rfl rfl
theorem x_124_2074  : exG TB d 124 2074 L st A = exG TB d 124 2075 L (.int (nI 0) :: st) A := x_nx (op := o_push 1 (.int 0)) rfl rfl
theorem x_124_2075  : exG TB d 124 2075 L [v] A = ck (okv 5 v) (some (.inl (some v), A)) := x_outg (op := o_ret 5) rfl rfl
theorem x_124_2076  : exG TB d 124 2076 L st A = exG TB d 124 2693 L st A := x_nx (op := o_goto 2693) rfl rfl
theorem x_124_2079  : exG TB d 124 2079 (a0 :: some v :: r9) st A = rg v (exG TB d 124 2080 (a0 :: some v :: r9) (v :: st) A) := x_rg (op := o_aload 1 1) rfl rfl
theorem x_124_2080  : exG TB d 124 2080 (some v :: r9) st A = rg v (exG TB d 124 2081 (some v :: r9) (v :: st) A) := x_rg (op := o_aload 0 1) rfl rfl
theorem x_124_2081  : exG TB d 124 2081 (a0 :: a1 :: a2 :: a3 :: a4 :: some (.int i1) :: r9) st A = exG TB d 124 2083 (a0 :: a1 :: a2 :: a3 :: a4 :: some (.int i1) :: r9) (.int i1 :: st) A := x_nx (op := o_iload 5 2) rfl rfl
theorem x_124_2083  : exG TB d 124 2083 L st A = exG TB d 124 2084 L (.int (nI 1) :: st) A := x_nx (op := o_push 1 (.int 1)) rfl rfl
theorem x_124_2084  : exG TB d 124 2084 L (.int i2 :: .int i1 :: st) A = exG TB d 124 2085 L (.int (i1 + i2) :: st) A := x_nx (op := o_iop (fun x y => x + y)) rfl rfl
theorem x_124_2085  : exG TB d 124 2085 L (.int i1 :: .ref p :: st) A = ki (rdI 0 (gas A p) i1) d 124 2086 L st A := x_bd (op := o_rdIs 0) rfl rfl (fun _ => rfl)
theorem x_124_2086  : exG TB d 124 2086 (some v :: r9) st A = rg v (exG TB d 124 2087 (some v :: r9) (v :: st) A) := x_rg (op := o_aload 0 1) rfl rfl
theorem x_124_2087  : exG TB d 124 2087 (a0 :: a1 :: a2 :: a3 :: a4 :: some (.int i1) :: r9) st A = exG TB d 124 2089 (a0 :: a1 :: a2 :: a3 :: a4 :: some (.int i1) :: r9) (.int i1 :: st) A := x_nx (op := o_iload 5 2) rfl rfl
theorem x_124_2089  : exG TB d 124 2089 L st A = exG TB d 124 2090 L (.int (nI 2) :: st) A := x_nx (op := o_push 1 (.int 2)) rfl rfl
theorem x_124_2090  : exG TB d 124 2090 L (.int i2 :: .int i1 :: st) A = exG TB d 124 2091 L (.int (i1 + i2) :: st) A := x_nx (op := o_iop (fun x y => x + y)) rfl rfl
theorem x_124_2091  : exG TB d 124 2091 L (.int i1 :: .ref p :: st) A = ki (rdI 0 (gas A p) i1) d 124 2092 L st A := x_bd (op := o_rdIs 0) rfl rfl (fun _ => rfl)
theorem x_124_2092  : exG TB d 124 2092 (a0 :: a1 :: a2 :: some v :: r9) st A = rg v (exG TB d 124 2093 (a0 :: a1 :: a2 :: some v :: r9) (v :: st) A) := x_rg (op := o_aload 3 1) rfl rfl
theorem x_124_2093  : exG TB d 124 2093 L [b3, b2, b1, b0] A = kc (evG TB d 151 [b0, b1, b2, b3] A) d 124 2096 L [] := x_cv (op := o_cs 151 4 false none) rfl rfl x_noh rfl
theorem x_124_2096  : exG TB d 124 2096 (a0 :: a1 :: a2 :: a3 :: a4 :: a5 :: a6 :: r9) (.int i1 :: st) A = exG TB d 124 2098 (a0 :: a1 :: a2 :: a3 :: a4 :: a5 :: some (.int i1) :: r9) st A := x_nx (op := o_istore 6 2) rfl rfl
theorem x_124_2098  : exG TB d 124 2098 (a0 :: a1 :: some v :: r9) st A = rg v (exG TB d 124 2099 (a0 :: a1 :: some v :: r9) (v :: st) A) := x_rg (op := o_aload 2 1) rfl rfl
theorem x_124_2099  : exG TB d 124 2099 (some v :: r9) st A = rg v (exG TB d 124 2100 (some v :: r9) (v :: st) A) := x_rg (op := o_aload 0 1) rfl rfl
theorem x_124_2100  : exG TB d 124 2100 (a0 :: a1 :: a2 :: a3 :: a4 :: some (.int i1) :: r9) st A = exG TB d 124 2102 (a0 :: a1 :: a2 :: a3 :: a4 :: some (.int i1) :: r9) (.int i1 :: st) A := x_nx (op := o_iload 5 2) rfl rfl
theorem x_124_2102  : exG TB d 124 2102 L st A = exG TB d 124 2103 L (.int (nI 1) :: st) A := x_nx (op := o_push 1 (.int 1)) rfl rfl
theorem x_124_2103  : exG TB d 124 2103 L (.int i2 :: .int i1 :: st) A = exG TB d 124 2104 L (.int (i1 + i2) :: st) A := x_nx (op := o_iop (fun x y => x + y)) rfl rfl
theorem x_124_2104  : exG TB d 124 2104 L (.int i1 :: .ref p :: st) A = ki (rdI 0 (gas A p) i1) d 124 2105 L st A := x_bd (op := o_rdIs 0) rfl rfl (fun _ => rfl)
theorem x_124_2105  : exG TB d 124 2105 (some v :: r9) st A = rg v (exG TB d 124 2106 (some v :: r9) (v :: st) A) := x_rg (op := o_aload 0 1) rfl rfl
theorem x_124_2106  : exG TB d 124 2106 (a0 :: a1 :: a2 :: a3 :: a4 :: some (.int i1) :: r9) st A = exG TB d 124 2108 (a0 :: a1 :: a2 :: a3 :: a4 :: some (.int i1) :: r9) (.int i1 :: st) A := x_nx (op := o_iload 5 2) rfl rfl
theorem x_124_2108  : exG TB d 124 2108 L st A = exG TB d 124 2109 L (.int (nI 2) :: st) A := x_nx (op := o_push 1 (.int 2)) rfl rfl
theorem x_124_2109  : exG TB d 124 2109 L (.int i2 :: .int i1 :: st) A = exG TB d 124 2110 L (.int (i1 + i2) :: st) A := x_nx (op := o_iop (fun x y => x + y)) rfl rfl
theorem x_124_2110  : exG TB d 124 2110 L (.int i1 :: .ref p :: st) A = ki (rdI 0 (gas A p) i1) d 124 2111 L st A := x_bd (op := o_rdIs 0) rfl rfl (fun _ => rfl)
theorem x_124_2111  : exG TB d 124 2111 L [b1, b0, .ref p] A = kw (sel (gc A p) [(30, 387)]) [.ref p, b0, b1] d 124 2114 L [] A := x_cvb (op := o_cv [(30, 387)] 2 3 false none) rfl rfl x_noh rfl
theorem x_124_2114  : exG TB d 124 2114 (a0 :: a1 :: a2 :: a3 :: a4 :: a5 :: a6 :: a7 :: r9) (.int i1 :: st) A = exG TB d 124 2116 (a0 :: a1 :: a2 :: a3 :: a4 :: a5 :: a6 :: some (.int i1) :: r9) st A := x_nx (op := o_istore 7 2) rfl rfl
theorem x_124_2116  : exG TB d 124 2116 (a0 :: a1 :: some v :: r9) st A = rg v (exG TB d 124 2117 (a0 :: a1 :: some v :: r9) (v :: st) A) := x_rg (op := o_aload 2 1) rfl rfl
theorem x_124_2117  : exG TB d 124 2117 L [.ref p] A = kw (sel (gc A p) [(30, 289)]) [.ref p] d 124 2120 L [] A := x_cvb (op := o_cv [(30, 289)] 0 3 false none) rfl rfl x_noh rfl
theorem x_124_2120  : exG TB d 124 2120 (a0 :: a1 :: a2 :: a3 :: a4 :: a5 :: some (.int i1) :: r9) st A = exG TB d 124 2122 (a0 :: a1 :: a2 :: a3 :: a4 :: a5 :: some (.int i1) :: r9) (.int i1 :: st) A := x_nx (op := o_iload 6 2) rfl rfl
theorem x_124_2122  : exG TB d 124 2122 L (.int i2 :: .int i1 :: st) A = if i1 = i2 then exG TB d 124 2127 L st A else exG TB d 124 2125 L st A := x_if (op := o_icmp (fun x y => decide (x = y)) 2127) rfl rfl rfl
theorem x_124_2125  : exG TB d 124 2125 L st A = exG TB d 124 2126 L (.int (nI 0) :: st) A := x_nx (op := o_push 1 (.int 0)) rfl rfl
theorem x_124_2126  : exG TB d 124 2126 L [v] A = ck (okv 5 v) (some (.inl (some v), A)) := x_outg (op := o_ret 5) rfl rfl
theorem x_124_2127  : exG TB d 124 2127 (a0 :: a1 :: a2 :: a3 :: a4 :: a5 :: some (.int i1) :: r9) st A = exG TB d 124 2129 (a0 :: a1 :: a2 :: a3 :: a4 :: a5 :: some (.int i1) :: r9) (.int i1 :: st) A := x_nx (op := o_iload 6 2) rfl rfl
theorem x_124_2129  : exG TB d 124 2129 L (.int i1 :: st) A = if ¬ i1 = nI 0 then exG TB d 124 2144 L st A else exG TB d 124 2132 L st A := x_if (op := o_if (fun x => decide (¬ x = 0)) 2144) rfl rfl rfl
theorem x_124_2132  : exG TB d 124 2132 (a0 :: a1 :: a2 :: some v :: r9) st A = rg v (exG TB d 124 2133 (a0 :: a1 :: a2 :: some v :: r9) (v :: st) A) := x_rg (op := o_aload 3 1) rfl rfl
theorem x_124_2133  : exG TB d 124 2133 L st A = exG TB d 124 2134 L (.int (nI 0) :: st) A := x_nx (op := o_push 1 (.int 0)) rfl rfl
theorem x_124_2134  : exG TB d 124 2134 L (.int i1 :: .ref p :: st) A = kj (rdJ (ga A p) i1) d 124 2135 L st A := x_bd (op := o_rdJ) rfl rfl (fun _ => rfl)
theorem x_124_2135  : exG TB d 124 2135 (a0 :: a1 :: a2 :: a3 :: a4 :: a5 :: a6 :: some (.int i1) :: r9) st A = exG TB d 124 2137 (a0 :: a1 :: a2 :: a3 :: a4 :: a5 :: a6 :: some (.int i1) :: r9) (.int i1 :: st) A := x_nx (op := o_iload 7 2) rfl rfl
theorem x_124_2137  : exG TB d 124 2137 L (.int i1 :: st) A = exG TB d 124 2138 L (.long i1.toInt64 :: st) A := x_nx (op := o_i2l) rfl rfl
theorem x_124_2138  : exG TB d 124 2138 L (.long l2 :: .long l1 :: st) A = exG TB d 124 2139 L (.int (lg_cmp l1 l2) :: st) A := x_nx (op := o_lcmp) rfl rfl
theorem x_124_2139  : exG TB d 124 2139 L (.int i1 :: st) A = if i1 = nI 0 then exG TB d 124 2144 L st A else exG TB d 124 2142 L st A := x_if (op := o_if (fun x => decide (x = 0)) 2144) rfl rfl rfl
theorem x_124_2142  : exG TB d 124 2142 L st A = exG TB d 124 2143 L (.int (nI 0) :: st) A := x_nx (op := o_push 1 (.int 0)) rfl rfl
theorem x_124_2143  : exG TB d 124 2143 L [v] A = ck (okv 5 v) (some (.inl (some v), A)) := x_outg (op := o_ret 5) rfl rfl
theorem x_124_2144  : exG TB d 124 2144 L st A = exG TB d 124 2693 L st A := x_nx (op := o_goto 2693) rfl rfl
theorem x_124_2147  : exG TB d 124 2147 (a0 :: some v :: r9) st A = rg v (exG TB d 124 2148 (a0 :: some v :: r9) (v :: st) A) := x_rg (op := o_aload 1 1) rfl rfl
theorem x_124_2148  : exG TB d 124 2148 (some v :: r9) st A = rg v (exG TB d 124 2149 (some v :: r9) (v :: st) A) := x_rg (op := o_aload 0 1) rfl rfl
theorem x_124_2149  : exG TB d 124 2149 (a0 :: a1 :: a2 :: a3 :: a4 :: some (.int i1) :: r9) st A = exG TB d 124 2151 (a0 :: a1 :: a2 :: a3 :: a4 :: some (.int i1) :: r9) (.int i1 :: st) A := x_nx (op := o_iload 5 2) rfl rfl
theorem x_124_2151  : exG TB d 124 2151 L st A = exG TB d 124 2152 L (.int (nI 1) :: st) A := x_nx (op := o_push 1 (.int 1)) rfl rfl
theorem x_124_2152  : exG TB d 124 2152 L (.int i2 :: .int i1 :: st) A = exG TB d 124 2153 L (.int (i1 + i2) :: st) A := x_nx (op := o_iop (fun x y => x + y)) rfl rfl
theorem x_124_2153  : exG TB d 124 2153 L (.int i1 :: .ref p :: st) A = ki (rdI 0 (gas A p) i1) d 124 2154 L st A := x_bd (op := o_rdIs 0) rfl rfl (fun _ => rfl)
theorem x_124_2154  : exG TB d 124 2154 (some v :: r9) st A = rg v (exG TB d 124 2155 (some v :: r9) (v :: st) A) := x_rg (op := o_aload 0 1) rfl rfl
theorem x_124_2155  : exG TB d 124 2155 (a0 :: a1 :: a2 :: a3 :: a4 :: some (.int i1) :: r9) st A = exG TB d 124 2157 (a0 :: a1 :: a2 :: a3 :: a4 :: some (.int i1) :: r9) (.int i1 :: st) A := x_nx (op := o_iload 5 2) rfl rfl
theorem x_124_2157  : exG TB d 124 2157 L st A = exG TB d 124 2158 L (.int (nI 2) :: st) A := x_nx (op := o_push 1 (.int 2)) rfl rfl
theorem x_124_2158  : exG TB d 124 2158 L (.int i2 :: .int i1 :: st) A = exG TB d 124 2159 L (.int (i1 + i2) :: st) A := x_nx (op := o_iop (fun x y => x + y)) rfl rfl
theorem x_124_2159  : exG TB d 124 2159 L (.int i1 :: .ref p :: st) A = ki (rdI 0 (gas A p) i1) d 124 2160 L st A := x_bd (op := o_rdIs 0) rfl rfl (fun _ => rfl)
theorem x_124_2160  : exG TB d 124 2160 (a0 :: a1 :: a2 :: some v :: r9) st A = rg v (exG TB d 124 2161 (a0 :: a1 :: a2 :: some v :: r9) (v :: st) A) := x_rg (op := o_aload 3 1) rfl rfl
theorem x_124_2161  : exG TB d 124 2161 L [b3, b2, b1, b0] A = kc (evG TB d 152 [b0, b1, b2, b3] A) d 124 2164 L [] := x_cv (op := o_cs 152 4 false none) rfl rfl x_noh rfl
theorem x_124_2164  : exG TB d 124 2164 (a0 :: a1 :: a2 :: a3 :: a4 :: a5 :: a6 :: r9) (.int i1 :: st) A = exG TB d 124 2166 (a0 :: a1 :: a2 :: a3 :: a4 :: a5 :: some (.int i1) :: r9) st A := x_nx (op := o_istore 6 2) rfl rfl
theorem x_124_2166  : exG TB d 124 2166 (a0 :: a1 :: some v :: r9) st A = rg v (exG TB d 124 2167 (a0 :: a1 :: some v :: r9) (v :: st) A) := x_rg (op := o_aload 2 1) rfl rfl
theorem x_124_2167  : exG TB d 124 2167 (some v :: r9) st A = rg v (exG TB d 124 2168 (some v :: r9) (v :: st) A) := x_rg (op := o_aload 0 1) rfl rfl
theorem x_124_2168  : exG TB d 124 2168 (a0 :: a1 :: a2 :: a3 :: a4 :: some (.int i1) :: r9) st A = exG TB d 124 2170 (a0 :: a1 :: a2 :: a3 :: a4 :: some (.int i1) :: r9) (.int i1 :: st) A := x_nx (op := o_iload 5 2) rfl rfl
theorem x_124_2170  : exG TB d 124 2170 L st A = exG TB d 124 2171 L (.int (nI 1) :: st) A := x_nx (op := o_push 1 (.int 1)) rfl rfl
theorem x_124_2171  : exG TB d 124 2171 L (.int i2 :: .int i1 :: st) A = exG TB d 124 2172 L (.int (i1 + i2) :: st) A := x_nx (op := o_iop (fun x y => x + y)) rfl rfl
theorem x_124_2172  : exG TB d 124 2172 L (.int i1 :: .ref p :: st) A = ki (rdI 0 (gas A p) i1) d 124 2173 L st A := x_bd (op := o_rdIs 0) rfl rfl (fun _ => rfl)
theorem x_124_2173  : exG TB d 124 2173 (some v :: r9) st A = rg v (exG TB d 124 2174 (some v :: r9) (v :: st) A) := x_rg (op := o_aload 0 1) rfl rfl
theorem x_124_2174  : exG TB d 124 2174 (a0 :: a1 :: a2 :: a3 :: a4 :: some (.int i1) :: r9) st A = exG TB d 124 2176 (a0 :: a1 :: a2 :: a3 :: a4 :: some (.int i1) :: r9) (.int i1 :: st) A := x_nx (op := o_iload 5 2) rfl rfl
theorem x_124_2176  : exG TB d 124 2176 L st A = exG TB d 124 2177 L (.int (nI 2) :: st) A := x_nx (op := o_push 1 (.int 2)) rfl rfl
theorem x_124_2177  : exG TB d 124 2177 L (.int i2 :: .int i1 :: st) A = exG TB d 124 2178 L (.int (i1 + i2) :: st) A := x_nx (op := o_iop (fun x y => x + y)) rfl rfl
theorem x_124_2178  : exG TB d 124 2178 L (.int i1 :: .ref p :: st) A = ki (rdI 0 (gas A p) i1) d 124 2179 L st A := x_bd (op := o_rdIs 0) rfl rfl (fun _ => rfl)
theorem x_124_2179  : exG TB d 124 2179 L [b1, b0, .ref p] A = kw (sel (gc A p) [(30, 388)]) [.ref p, b0, b1] d 124 2182 L [] A := x_cvb (op := o_cv [(30, 388)] 2 3 false none) rfl rfl x_noh rfl
theorem x_124_2182  : exG TB d 124 2182 (a0 :: a1 :: a2 :: a3 :: a4 :: a5 :: a6 :: a7 :: r9) (.int i1 :: st) A = exG TB d 124 2184 (a0 :: a1 :: a2 :: a3 :: a4 :: a5 :: a6 :: some (.int i1) :: r9) st A := x_nx (op := o_istore 7 2) rfl rfl
theorem x_124_2184  : exG TB d 124 2184 (a0 :: a1 :: some v :: r9) st A = rg v (exG TB d 124 2185 (a0 :: a1 :: some v :: r9) (v :: st) A) := x_rg (op := o_aload 2 1) rfl rfl
theorem x_124_2185  : exG TB d 124 2185 L [.ref p] A = kw (sel (gc A p) [(30, 289)]) [.ref p] d 124 2188 L [] A := x_cvb (op := o_cv [(30, 289)] 0 3 false none) rfl rfl x_noh rfl
theorem x_124_2188  : exG TB d 124 2188 (a0 :: a1 :: a2 :: a3 :: a4 :: a5 :: some (.int i1) :: r9) st A = exG TB d 124 2190 (a0 :: a1 :: a2 :: a3 :: a4 :: a5 :: some (.int i1) :: r9) (.int i1 :: st) A := x_nx (op := o_iload 6 2) rfl rfl
theorem x_124_2190  : exG TB d 124 2190 L (.int i2 :: .int i1 :: st) A = if i1 = i2 then exG TB d 124 2195 L st A else exG TB d 124 2193 L st A := x_if (op := o_icmp (fun x y => decide (x = y)) 2195) rfl rfl rfl
theorem x_124_2193  : exG TB d 124 2193 L st A = exG TB d 124 2194 L (.int (nI 0) :: st) A := x_nx (op := o_push 1 (.int 0)) rfl rfl
theorem x_124_2194  : exG TB d 124 2194 L [v] A = ck (okv 5 v) (some (.inl (some v), A)) := x_outg (op := o_ret 5) rfl rfl
theorem x_124_2195  : exG TB d 124 2195 (a0 :: a1 :: a2 :: a3 :: a4 :: a5 :: some (.int i1) :: r9) st A = exG TB d 124 2197 (a0 :: a1 :: a2 :: a3 :: a4 :: a5 :: some (.int i1) :: r9) (.int i1 :: st) A := x_nx (op := o_iload 6 2) rfl rfl
theorem x_124_2197  : exG TB d 124 2197 L (.int i1 :: st) A = if ¬ i1 = nI 0 then exG TB d 124 2212 L st A else exG TB d 124 2200 L st A := x_if (op := o_if (fun x => decide (¬ x = 0)) 2212) rfl rfl rfl
theorem x_124_2200  : exG TB d 124 2200 (a0 :: a1 :: a2 :: some v :: r9) st A = rg v (exG TB d 124 2201 (a0 :: a1 :: a2 :: some v :: r9) (v :: st) A) := x_rg (op := o_aload 3 1) rfl rfl
theorem x_124_2201  : exG TB d 124 2201 L st A = exG TB d 124 2202 L (.int (nI 0) :: st) A := x_nx (op := o_push 1 (.int 0)) rfl rfl
theorem x_124_2202  : exG TB d 124 2202 L (.int i1 :: .ref p :: st) A = kj (rdJ (ga A p) i1) d 124 2203 L st A := x_bd (op := o_rdJ) rfl rfl (fun _ => rfl)
theorem x_124_2203  : exG TB d 124 2203 (a0 :: a1 :: a2 :: a3 :: a4 :: a5 :: a6 :: some (.int i1) :: r9) st A = exG TB d 124 2205 (a0 :: a1 :: a2 :: a3 :: a4 :: a5 :: a6 :: some (.int i1) :: r9) (.int i1 :: st) A := x_nx (op := o_iload 7 2) rfl rfl
theorem x_124_2205  : exG TB d 124 2205 L (.int i1 :: st) A = exG TB d 124 2206 L (.long i1.toInt64 :: st) A := x_nx (op := o_i2l) rfl rfl
theorem x_124_2206  : exG TB d 124 2206 L (.long l2 :: .long l1 :: st) A = exG TB d 124 2207 L (.int (lg_cmp l1 l2) :: st) A := x_nx (op := o_lcmp) rfl rfl
theorem x_124_2207  : exG TB d 124 2207 L (.int i1 :: st) A = if i1 = nI 0 then exG TB d 124 2212 L st A else exG TB d 124 2210 L st A := x_if (op := o_if (fun x => decide (x = 0)) 2212) rfl rfl rfl
theorem x_124_2210  : exG TB d 124 2210 L st A = exG TB d 124 2211 L (.int (nI 0) :: st) A := x_nx (op := o_push 1 (.int 0)) rfl rfl
theorem x_124_2211  : exG TB d 124 2211 L [v] A = ck (okv 5 v) (some (.inl (some v), A)) := x_outg (op := o_ret 5) rfl rfl
theorem x_124_2212  : exG TB d 124 2212 L st A = exG TB d 124 2693 L st A := x_nx (op := o_goto 2693) rfl rfl
theorem x_124_2215  : exG TB d 124 2215 (a0 :: some v :: r9) st A = rg v (exG TB d 124 2216 (a0 :: some v :: r9) (v :: st) A) := x_rg (op := o_aload 1 1) rfl rfl
theorem x_124_2216  : exG TB d 124 2216 (some v :: r9) st A = rg v (exG TB d 124 2217 (some v :: r9) (v :: st) A) := x_rg (op := o_aload 0 1) rfl rfl
theorem x_124_2217  : exG TB d 124 2217 (a0 :: a1 :: a2 :: a3 :: a4 :: some (.int i1) :: r9) st A = exG TB d 124 2219 (a0 :: a1 :: a2 :: a3 :: a4 :: some (.int i1) :: r9) (.int i1 :: st) A := x_nx (op := o_iload 5 2) rfl rfl
theorem x_124_2219  : exG TB d 124 2219 L st A = exG TB d 124 2220 L (.int (nI 1) :: st) A := x_nx (op := o_push 1 (.int 1)) rfl rfl
theorem x_124_2220  : exG TB d 124 2220 L (.int i2 :: .int i1 :: st) A = exG TB d 124 2221 L (.int (i1 + i2) :: st) A := x_nx (op := o_iop (fun x y => x + y)) rfl rfl
theorem x_124_2221  : exG TB d 124 2221 L (.int i1 :: .ref p :: st) A = ki (rdI 0 (gas A p) i1) d 124 2222 L st A := x_bd (op := o_rdIs 0) rfl rfl (fun _ => rfl)
theorem x_124_2222  : exG TB d 124 2222 (some v :: r9) st A = rg v (exG TB d 124 2223 (some v :: r9) (v :: st) A) := x_rg (op := o_aload 0 1) rfl rfl
theorem x_124_2223  : exG TB d 124 2223 (a0 :: a1 :: a2 :: a3 :: a4 :: some (.int i1) :: r9) st A = exG TB d 124 2225 (a0 :: a1 :: a2 :: a3 :: a4 :: some (.int i1) :: r9) (.int i1 :: st) A := x_nx (op := o_iload 5 2) rfl rfl
theorem x_124_2225  : exG TB d 124 2225 L st A = exG TB d 124 2226 L (.int (nI 2) :: st) A := x_nx (op := o_push 1 (.int 2)) rfl rfl
theorem x_124_2226  : exG TB d 124 2226 L (.int i2 :: .int i1 :: st) A = exG TB d 124 2227 L (.int (i1 + i2) :: st) A := x_nx (op := o_iop (fun x y => x + y)) rfl rfl
theorem x_124_2227  : exG TB d 124 2227 L (.int i1 :: .ref p :: st) A = ki (rdI 0 (gas A p) i1) d 124 2228 L st A := x_bd (op := o_rdIs 0) rfl rfl (fun _ => rfl)
theorem x_124_2228  : exG TB d 124 2228 (a0 :: a1 :: a2 :: some v :: r9) st A = rg v (exG TB d 124 2229 (a0 :: a1 :: a2 :: some v :: r9) (v :: st) A) := x_rg (op := o_aload 3 1) rfl rfl
theorem x_124_2229  : exG TB d 124 2229 L [b3, b2, b1, b0] A = kc (evG TB d 153 [b0, b1, b2, b3] A) d 124 2232 L [] := x_cv (op := o_cs 153 4 false none) rfl rfl x_noh rfl
theorem x_124_2232  : exG TB d 124 2232 (a0 :: a1 :: a2 :: a3 :: a4 :: a5 :: a6 :: r9) (.int i1 :: st) A = exG TB d 124 2234 (a0 :: a1 :: a2 :: a3 :: a4 :: a5 :: some (.int i1) :: r9) st A := x_nx (op := o_istore 6 2) rfl rfl
theorem x_124_2234  : exG TB d 124 2234 (a0 :: a1 :: some v :: r9) st A = rg v (exG TB d 124 2235 (a0 :: a1 :: some v :: r9) (v :: st) A) := x_rg (op := o_aload 2 1) rfl rfl
theorem x_124_2235  : exG TB d 124 2235 (some v :: r9) st A = rg v (exG TB d 124 2236 (some v :: r9) (v :: st) A) := x_rg (op := o_aload 0 1) rfl rfl
theorem x_124_2236  : exG TB d 124 2236 (a0 :: a1 :: a2 :: a3 :: a4 :: some (.int i1) :: r9) st A = exG TB d 124 2238 (a0 :: a1 :: a2 :: a3 :: a4 :: some (.int i1) :: r9) (.int i1 :: st) A := x_nx (op := o_iload 5 2) rfl rfl
theorem x_124_2238  : exG TB d 124 2238 L st A = exG TB d 124 2239 L (.int (nI 1) :: st) A := x_nx (op := o_push 1 (.int 1)) rfl rfl
theorem x_124_2239  : exG TB d 124 2239 L (.int i2 :: .int i1 :: st) A = exG TB d 124 2240 L (.int (i1 + i2) :: st) A := x_nx (op := o_iop (fun x y => x + y)) rfl rfl
theorem x_124_2240  : exG TB d 124 2240 L (.int i1 :: .ref p :: st) A = ki (rdI 0 (gas A p) i1) d 124 2241 L st A := x_bd (op := o_rdIs 0) rfl rfl (fun _ => rfl)
theorem x_124_2241  : exG TB d 124 2241 (some v :: r9) st A = rg v (exG TB d 124 2242 (some v :: r9) (v :: st) A) := x_rg (op := o_aload 0 1) rfl rfl
theorem x_124_2242  : exG TB d 124 2242 (a0 :: a1 :: a2 :: a3 :: a4 :: some (.int i1) :: r9) st A = exG TB d 124 2244 (a0 :: a1 :: a2 :: a3 :: a4 :: some (.int i1) :: r9) (.int i1 :: st) A := x_nx (op := o_iload 5 2) rfl rfl
theorem x_124_2244  : exG TB d 124 2244 L st A = exG TB d 124 2245 L (.int (nI 2) :: st) A := x_nx (op := o_push 1 (.int 2)) rfl rfl
theorem x_124_2245  : exG TB d 124 2245 L (.int i2 :: .int i1 :: st) A = exG TB d 124 2246 L (.int (i1 + i2) :: st) A := x_nx (op := o_iop (fun x y => x + y)) rfl rfl
theorem x_124_2246  : exG TB d 124 2246 L (.int i1 :: .ref p :: st) A = ki (rdI 0 (gas A p) i1) d 124 2247 L st A := x_bd (op := o_rdIs 0) rfl rfl (fun _ => rfl)
theorem x_124_2247  : exG TB d 124 2247 L [b1, b0, .ref p] A = kw (sel (gc A p) [(30, 390)]) [.ref p, b0, b1] d 124 2250 L [] A := x_cvb (op := o_cv [(30, 390)] 2 3 false none) rfl rfl x_noh rfl
theorem x_124_2250  : exG TB d 124 2250 (a0 :: a1 :: a2 :: a3 :: a4 :: a5 :: a6 :: a7 :: r9) (.int i1 :: st) A = exG TB d 124 2252 (a0 :: a1 :: a2 :: a3 :: a4 :: a5 :: a6 :: some (.int i1) :: r9) st A := x_nx (op := o_istore 7 2) rfl rfl
theorem x_124_2252  : exG TB d 124 2252 (a0 :: a1 :: some v :: r9) st A = rg v (exG TB d 124 2253 (a0 :: a1 :: some v :: r9) (v :: st) A) := x_rg (op := o_aload 2 1) rfl rfl
theorem x_124_2253  : exG TB d 124 2253 L [.ref p] A = kw (sel (gc A p) [(30, 289)]) [.ref p] d 124 2256 L [] A := x_cvb (op := o_cv [(30, 289)] 0 3 false none) rfl rfl x_noh rfl
theorem x_124_2256  : exG TB d 124 2256 (a0 :: a1 :: a2 :: a3 :: a4 :: a5 :: some (.int i1) :: r9) st A = exG TB d 124 2258 (a0 :: a1 :: a2 :: a3 :: a4 :: a5 :: some (.int i1) :: r9) (.int i1 :: st) A := x_nx (op := o_iload 6 2) rfl rfl
theorem x_124_2258  : exG TB d 124 2258 L (.int i2 :: .int i1 :: st) A = if i1 = i2 then exG TB d 124 2263 L st A else exG TB d 124 2261 L st A := x_if (op := o_icmp (fun x y => decide (x = y)) 2263) rfl rfl rfl
theorem x_124_2261  : exG TB d 124 2261 L st A = exG TB d 124 2262 L (.int (nI 0) :: st) A := x_nx (op := o_push 1 (.int 0)) rfl rfl
theorem x_124_2262  : exG TB d 124 2262 L [v] A = ck (okv 5 v) (some (.inl (some v), A)) := x_outg (op := o_ret 5) rfl rfl
theorem x_124_2263  : exG TB d 124 2263 (a0 :: a1 :: a2 :: a3 :: a4 :: a5 :: some (.int i1) :: r9) st A = exG TB d 124 2265 (a0 :: a1 :: a2 :: a3 :: a4 :: a5 :: some (.int i1) :: r9) (.int i1 :: st) A := x_nx (op := o_iload 6 2) rfl rfl
theorem x_124_2265  : exG TB d 124 2265 L (.int i1 :: st) A = if ¬ i1 = nI 0 then exG TB d 124 2280 L st A else exG TB d 124 2268 L st A := x_if (op := o_if (fun x => decide (¬ x = 0)) 2280) rfl rfl rfl
theorem x_124_2268  : exG TB d 124 2268 (a0 :: a1 :: a2 :: some v :: r9) st A = rg v (exG TB d 124 2269 (a0 :: a1 :: a2 :: some v :: r9) (v :: st) A) := x_rg (op := o_aload 3 1) rfl rfl
theorem x_124_2269  : exG TB d 124 2269 L st A = exG TB d 124 2270 L (.int (nI 0) :: st) A := x_nx (op := o_push 1 (.int 0)) rfl rfl
theorem x_124_2270  : exG TB d 124 2270 L (.int i1 :: .ref p :: st) A = kj (rdJ (ga A p) i1) d 124 2271 L st A := x_bd (op := o_rdJ) rfl rfl (fun _ => rfl)
theorem x_124_2271  : exG TB d 124 2271 (a0 :: a1 :: a2 :: a3 :: a4 :: a5 :: a6 :: some (.int i1) :: r9) st A = exG TB d 124 2273 (a0 :: a1 :: a2 :: a3 :: a4 :: a5 :: a6 :: some (.int i1) :: r9) (.int i1 :: st) A := x_nx (op := o_iload 7 2) rfl rfl
theorem x_124_2273  : exG TB d 124 2273 L (.int i1 :: st) A = exG TB d 124 2274 L (.long i1.toInt64 :: st) A := x_nx (op := o_i2l) rfl rfl
theorem x_124_2274  : exG TB d 124 2274 L (.long l2 :: .long l1 :: st) A = exG TB d 124 2275 L (.int (lg_cmp l1 l2) :: st) A := x_nx (op := o_lcmp) rfl rfl
theorem x_124_2275  : exG TB d 124 2275 L (.int i1 :: st) A = if i1 = nI 0 then exG TB d 124 2280 L st A else exG TB d 124 2278 L st A := x_if (op := o_if (fun x => decide (x = 0)) 2280) rfl rfl rfl
theorem x_124_2278  : exG TB d 124 2278 L st A = exG TB d 124 2279 L (.int (nI 0) :: st) A := x_nx (op := o_push 1 (.int 0)) rfl rfl
theorem x_124_2279  : exG TB d 124 2279 L [v] A = ck (okv 5 v) (some (.inl (some v), A)) := x_outg (op := o_ret 5) rfl rfl
theorem x_124_2280  : exG TB d 124 2280 L st A = exG TB d 124 2693 L st A := x_nx (op := o_goto 2693) rfl rfl
theorem x_124_2283  : exG TB d 124 2283 (a0 :: some v :: r9) st A = rg v (exG TB d 124 2284 (a0 :: some v :: r9) (v :: st) A) := x_rg (op := o_aload 1 1) rfl rfl
theorem x_124_2284  : exG TB d 124 2284 (some v :: r9) st A = rg v (exG TB d 124 2285 (some v :: r9) (v :: st) A) := x_rg (op := o_aload 0 1) rfl rfl
theorem x_124_2285  : exG TB d 124 2285 (a0 :: a1 :: a2 :: a3 :: a4 :: some (.int i1) :: r9) st A = exG TB d 124 2287 (a0 :: a1 :: a2 :: a3 :: a4 :: some (.int i1) :: r9) (.int i1 :: st) A := x_nx (op := o_iload 5 2) rfl rfl
theorem x_124_2287  : exG TB d 124 2287 L st A = exG TB d 124 2288 L (.int (nI 1) :: st) A := x_nx (op := o_push 1 (.int 1)) rfl rfl
theorem x_124_2288  : exG TB d 124 2288 L (.int i2 :: .int i1 :: st) A = exG TB d 124 2289 L (.int (i1 + i2) :: st) A := x_nx (op := o_iop (fun x y => x + y)) rfl rfl
theorem x_124_2289  : exG TB d 124 2289 L (.int i1 :: .ref p :: st) A = ki (rdI 0 (gas A p) i1) d 124 2290 L st A := x_bd (op := o_rdIs 0) rfl rfl (fun _ => rfl)
theorem x_124_2290  : exG TB d 124 2290 (some v :: r9) st A = rg v (exG TB d 124 2291 (some v :: r9) (v :: st) A) := x_rg (op := o_aload 0 1) rfl rfl
theorem x_124_2291  : exG TB d 124 2291 (a0 :: a1 :: a2 :: a3 :: a4 :: some (.int i1) :: r9) st A = exG TB d 124 2293 (a0 :: a1 :: a2 :: a3 :: a4 :: some (.int i1) :: r9) (.int i1 :: st) A := x_nx (op := o_iload 5 2) rfl rfl
theorem x_124_2293  : exG TB d 124 2293 L st A = exG TB d 124 2294 L (.int (nI 2) :: st) A := x_nx (op := o_push 1 (.int 2)) rfl rfl
theorem x_124_2294  : exG TB d 124 2294 L (.int i2 :: .int i1 :: st) A = exG TB d 124 2295 L (.int (i1 + i2) :: st) A := x_nx (op := o_iop (fun x y => x + y)) rfl rfl
theorem x_124_2295  : exG TB d 124 2295 L (.int i1 :: .ref p :: st) A = ki (rdI 0 (gas A p) i1) d 124 2296 L st A := x_bd (op := o_rdIs 0) rfl rfl (fun _ => rfl)
theorem x_124_2296  : exG TB d 124 2296 (a0 :: a1 :: a2 :: some v :: r9) st A = rg v (exG TB d 124 2297 (a0 :: a1 :: a2 :: some v :: r9) (v :: st) A) := x_rg (op := o_aload 3 1) rfl rfl
theorem x_124_2297  : exG TB d 124 2297 L [b3, b2, b1, b0] A = kc (evG TB d 154 [b0, b1, b2, b3] A) d 124 2300 L [] := x_cv (op := o_cs 154 4 false none) rfl rfl x_noh rfl
theorem x_124_2300  : exG TB d 124 2300 (a0 :: a1 :: a2 :: a3 :: a4 :: a5 :: a6 :: r9) (.int i1 :: st) A = exG TB d 124 2302 (a0 :: a1 :: a2 :: a3 :: a4 :: a5 :: some (.int i1) :: r9) st A := x_nx (op := o_istore 6 2) rfl rfl
theorem x_124_2302  : exG TB d 124 2302 (a0 :: a1 :: some v :: r9) st A = rg v (exG TB d 124 2303 (a0 :: a1 :: some v :: r9) (v :: st) A) := x_rg (op := o_aload 2 1) rfl rfl
theorem x_124_2303  : exG TB d 124 2303 (some v :: r9) st A = rg v (exG TB d 124 2304 (some v :: r9) (v :: st) A) := x_rg (op := o_aload 0 1) rfl rfl
theorem x_124_2304  : exG TB d 124 2304 (a0 :: a1 :: a2 :: a3 :: a4 :: some (.int i1) :: r9) st A = exG TB d 124 2306 (a0 :: a1 :: a2 :: a3 :: a4 :: some (.int i1) :: r9) (.int i1 :: st) A := x_nx (op := o_iload 5 2) rfl rfl
theorem x_124_2306  : exG TB d 124 2306 L st A = exG TB d 124 2307 L (.int (nI 1) :: st) A := x_nx (op := o_push 1 (.int 1)) rfl rfl
theorem x_124_2307  : exG TB d 124 2307 L (.int i2 :: .int i1 :: st) A = exG TB d 124 2308 L (.int (i1 + i2) :: st) A := x_nx (op := o_iop (fun x y => x + y)) rfl rfl
theorem x_124_2308  : exG TB d 124 2308 L (.int i1 :: .ref p :: st) A = ki (rdI 0 (gas A p) i1) d 124 2309 L st A := x_bd (op := o_rdIs 0) rfl rfl (fun _ => rfl)
theorem x_124_2309  : exG TB d 124 2309 (some v :: r9) st A = rg v (exG TB d 124 2310 (some v :: r9) (v :: st) A) := x_rg (op := o_aload 0 1) rfl rfl
theorem x_124_2310  : exG TB d 124 2310 (a0 :: a1 :: a2 :: a3 :: a4 :: some (.int i1) :: r9) st A = exG TB d 124 2312 (a0 :: a1 :: a2 :: a3 :: a4 :: some (.int i1) :: r9) (.int i1 :: st) A := x_nx (op := o_iload 5 2) rfl rfl
theorem x_124_2312  : exG TB d 124 2312 L st A = exG TB d 124 2313 L (.int (nI 2) :: st) A := x_nx (op := o_push 1 (.int 2)) rfl rfl
theorem x_124_2313  : exG TB d 124 2313 L (.int i2 :: .int i1 :: st) A = exG TB d 124 2314 L (.int (i1 + i2) :: st) A := x_nx (op := o_iop (fun x y => x + y)) rfl rfl
theorem x_124_2314  : exG TB d 124 2314 L (.int i1 :: .ref p :: st) A = ki (rdI 0 (gas A p) i1) d 124 2315 L st A := x_bd (op := o_rdIs 0) rfl rfl (fun _ => rfl)
theorem x_124_2315  : exG TB d 124 2315 L [b1, b0, .ref p] A = kw (sel (gc A p) [(30, 391)]) [.ref p, b0, b1] d 124 2318 L [] A := x_cvb (op := o_cv [(30, 391)] 2 3 false none) rfl rfl x_noh rfl
theorem x_124_2318  : exG TB d 124 2318 (a0 :: a1 :: a2 :: a3 :: a4 :: a5 :: a6 :: a7 :: r9) (.int i1 :: st) A = exG TB d 124 2320 (a0 :: a1 :: a2 :: a3 :: a4 :: a5 :: a6 :: some (.int i1) :: r9) st A := x_nx (op := o_istore 7 2) rfl rfl
theorem x_124_2320  : exG TB d 124 2320 (a0 :: a1 :: some v :: r9) st A = rg v (exG TB d 124 2321 (a0 :: a1 :: some v :: r9) (v :: st) A) := x_rg (op := o_aload 2 1) rfl rfl
theorem x_124_2321  : exG TB d 124 2321 L [.ref p] A = kw (sel (gc A p) [(30, 289)]) [.ref p] d 124 2324 L [] A := x_cvb (op := o_cv [(30, 289)] 0 3 false none) rfl rfl x_noh rfl
theorem x_124_2324  : exG TB d 124 2324 (a0 :: a1 :: a2 :: a3 :: a4 :: a5 :: some (.int i1) :: r9) st A = exG TB d 124 2326 (a0 :: a1 :: a2 :: a3 :: a4 :: a5 :: some (.int i1) :: r9) (.int i1 :: st) A := x_nx (op := o_iload 6 2) rfl rfl
theorem x_124_2326  : exG TB d 124 2326 L (.int i2 :: .int i1 :: st) A = if i1 = i2 then exG TB d 124 2331 L st A else exG TB d 124 2329 L st A := x_if (op := o_icmp (fun x y => decide (x = y)) 2331) rfl rfl rfl
theorem x_124_2329  : exG TB d 124 2329 L st A = exG TB d 124 2330 L (.int (nI 0) :: st) A := x_nx (op := o_push 1 (.int 0)) rfl rfl
theorem x_124_2330  : exG TB d 124 2330 L [v] A = ck (okv 5 v) (some (.inl (some v), A)) := x_outg (op := o_ret 5) rfl rfl
theorem x_124_2331  : exG TB d 124 2331 (a0 :: a1 :: a2 :: a3 :: a4 :: a5 :: some (.int i1) :: r9) st A = exG TB d 124 2333 (a0 :: a1 :: a2 :: a3 :: a4 :: a5 :: some (.int i1) :: r9) (.int i1 :: st) A := x_nx (op := o_iload 6 2) rfl rfl
theorem x_124_2333  : exG TB d 124 2333 L (.int i1 :: st) A = if ¬ i1 = nI 0 then exG TB d 124 2348 L st A else exG TB d 124 2336 L st A := x_if (op := o_if (fun x => decide (¬ x = 0)) 2348) rfl rfl rfl
theorem x_124_2336  : exG TB d 124 2336 (a0 :: a1 :: a2 :: some v :: r9) st A = rg v (exG TB d 124 2337 (a0 :: a1 :: a2 :: some v :: r9) (v :: st) A) := x_rg (op := o_aload 3 1) rfl rfl
theorem x_124_2337  : exG TB d 124 2337 L st A = exG TB d 124 2338 L (.int (nI 0) :: st) A := x_nx (op := o_push 1 (.int 0)) rfl rfl
theorem x_124_2338  : exG TB d 124 2338 L (.int i1 :: .ref p :: st) A = kj (rdJ (ga A p) i1) d 124 2339 L st A := x_bd (op := o_rdJ) rfl rfl (fun _ => rfl)
theorem x_124_2339  : exG TB d 124 2339 (a0 :: a1 :: a2 :: a3 :: a4 :: a5 :: a6 :: some (.int i1) :: r9) st A = exG TB d 124 2341 (a0 :: a1 :: a2 :: a3 :: a4 :: a5 :: a6 :: some (.int i1) :: r9) (.int i1 :: st) A := x_nx (op := o_iload 7 2) rfl rfl
theorem x_124_2341  : exG TB d 124 2341 L (.int i1 :: st) A = exG TB d 124 2342 L (.long i1.toInt64 :: st) A := x_nx (op := o_i2l) rfl rfl
theorem x_124_2342  : exG TB d 124 2342 L (.long l2 :: .long l1 :: st) A = exG TB d 124 2343 L (.int (lg_cmp l1 l2) :: st) A := x_nx (op := o_lcmp) rfl rfl
theorem x_124_2343  : exG TB d 124 2343 L (.int i1 :: st) A = if i1 = nI 0 then exG TB d 124 2348 L st A else exG TB d 124 2346 L st A := x_if (op := o_if (fun x => decide (x = 0)) 2348) rfl rfl rfl
theorem x_124_2346  : exG TB d 124 2346 L st A = exG TB d 124 2347 L (.int (nI 0) :: st) A := x_nx (op := o_push 1 (.int 0)) rfl rfl
theorem x_124_2347  : exG TB d 124 2347 L [v] A = ck (okv 5 v) (some (.inl (some v), A)) := x_outg (op := o_ret 5) rfl rfl
theorem x_124_2348  : exG TB d 124 2348 L st A = exG TB d 124 2693 L st A := x_nx (op := o_goto 2693) rfl rfl
theorem x_124_2351  : exG TB d 124 2351 (a0 :: some v :: r9) st A = rg v (exG TB d 124 2352 (a0 :: some v :: r9) (v :: st) A) := x_rg (op := o_aload 1 1) rfl rfl
theorem x_124_2352  : exG TB d 124 2352 (some v :: r9) st A = rg v (exG TB d 124 2353 (some v :: r9) (v :: st) A) := x_rg (op := o_aload 0 1) rfl rfl
theorem x_124_2353  : exG TB d 124 2353 (a0 :: a1 :: a2 :: a3 :: a4 :: some (.int i1) :: r9) st A = exG TB d 124 2355 (a0 :: a1 :: a2 :: a3 :: a4 :: some (.int i1) :: r9) (.int i1 :: st) A := x_nx (op := o_iload 5 2) rfl rfl
theorem x_124_2355  : exG TB d 124 2355 L st A = exG TB d 124 2356 L (.int (nI 1) :: st) A := x_nx (op := o_push 1 (.int 1)) rfl rfl
theorem x_124_2356  : exG TB d 124 2356 L (.int i2 :: .int i1 :: st) A = exG TB d 124 2357 L (.int (i1 + i2) :: st) A := x_nx (op := o_iop (fun x y => x + y)) rfl rfl
theorem x_124_2357  : exG TB d 124 2357 L (.int i1 :: .ref p :: st) A = ki (rdI 0 (gas A p) i1) d 124 2358 L st A := x_bd (op := o_rdIs 0) rfl rfl (fun _ => rfl)
theorem x_124_2358  : exG TB d 124 2358 (a0 :: a1 :: a2 :: some v :: r9) st A = rg v (exG TB d 124 2359 (a0 :: a1 :: a2 :: some v :: r9) (v :: st) A) := x_rg (op := o_aload 3 1) rfl rfl
theorem x_124_2359  : exG TB d 124 2359 L [b2, b1, b0] A = kc (evG TB d 155 [b0, b1, b2] A) d 124 2362 L [] := x_cv (op := o_cs 155 3 false none) rfl rfl x_noh rfl
theorem x_124_2362  : exG TB d 124 2362 (a0 :: a1 :: a2 :: a3 :: a4 :: a5 :: a6 :: r9) (.int i1 :: st) A = exG TB d 124 2364 (a0 :: a1 :: a2 :: a3 :: a4 :: a5 :: some (.int i1) :: r9) st A := x_nx (op := o_istore 6 2) rfl rfl
theorem x_124_2364  : exG TB d 124 2364 (a0 :: a1 :: some v :: r9) st A = rg v (exG TB d 124 2365 (a0 :: a1 :: some v :: r9) (v :: st) A) := x_rg (op := o_aload 2 1) rfl rfl
theorem x_124_2365  : exG TB d 124 2365 (some v :: r9) st A = rg v (exG TB d 124 2366 (some v :: r9) (v :: st) A) := x_rg (op := o_aload 0 1) rfl rfl
theorem x_124_2366  : exG TB d 124 2366 (a0 :: a1 :: a2 :: a3 :: a4 :: some (.int i1) :: r9) st A = exG TB d 124 2368 (a0 :: a1 :: a2 :: a3 :: a4 :: some (.int i1) :: r9) (.int i1 :: st) A := x_nx (op := o_iload 5 2) rfl rfl
theorem x_124_2368  : exG TB d 124 2368 L st A = exG TB d 124 2369 L (.int (nI 1) :: st) A := x_nx (op := o_push 1 (.int 1)) rfl rfl
theorem x_124_2369  : exG TB d 124 2369 L (.int i2 :: .int i1 :: st) A = exG TB d 124 2370 L (.int (i1 + i2) :: st) A := x_nx (op := o_iop (fun x y => x + y)) rfl rfl
theorem x_124_2370  : exG TB d 124 2370 L (.int i1 :: .ref p :: st) A = ki (rdI 0 (gas A p) i1) d 124 2371 L st A := x_bd (op := o_rdIs 0) rfl rfl (fun _ => rfl)
theorem x_124_2371  : exG TB d 124 2371 L [b0, .ref p] A = kw (sel (gc A p) [(30, 396)]) [.ref p, b0] d 124 2374 L [] A := x_cvb (op := o_cv [(30, 396)] 1 3 false none) rfl rfl x_noh rfl
theorem x_124_2374  : exG TB d 124 2374 (a0 :: a1 :: a2 :: a3 :: a4 :: a5 :: a6 :: a7 :: r9) (.int i1 :: st) A = exG TB d 124 2376 (a0 :: a1 :: a2 :: a3 :: a4 :: a5 :: a6 :: some (.int i1) :: r9) st A := x_nx (op := o_istore 7 2) rfl rfl
theorem x_124_2376  : exG TB d 124 2376 (a0 :: a1 :: some v :: r9) st A = rg v (exG TB d 124 2377 (a0 :: a1 :: some v :: r9) (v :: st) A) := x_rg (op := o_aload 2 1) rfl rfl
theorem x_124_2377  : exG TB d 124 2377 L [.ref p] A = kw (sel (gc A p) [(30, 289)]) [.ref p] d 124 2380 L [] A := x_cvb (op := o_cv [(30, 289)] 0 3 false none) rfl rfl x_noh rfl
theorem x_124_2380  : exG TB d 124 2380 (a0 :: a1 :: a2 :: a3 :: a4 :: a5 :: some (.int i1) :: r9) st A = exG TB d 124 2382 (a0 :: a1 :: a2 :: a3 :: a4 :: a5 :: some (.int i1) :: r9) (.int i1 :: st) A := x_nx (op := o_iload 6 2) rfl rfl
theorem x_124_2382  : exG TB d 124 2382 L (.int i2 :: .int i1 :: st) A = if i1 = i2 then exG TB d 124 2387 L st A else exG TB d 124 2385 L st A := x_if (op := o_icmp (fun x y => decide (x = y)) 2387) rfl rfl rfl
theorem x_124_2385  : exG TB d 124 2385 L st A = exG TB d 124 2386 L (.int (nI 0) :: st) A := x_nx (op := o_push 1 (.int 0)) rfl rfl
theorem x_124_2386  : exG TB d 124 2386 L [v] A = ck (okv 5 v) (some (.inl (some v), A)) := x_outg (op := o_ret 5) rfl rfl
theorem x_124_2387  : exG TB d 124 2387 (a0 :: a1 :: a2 :: a3 :: a4 :: a5 :: some (.int i1) :: r9) st A = exG TB d 124 2389 (a0 :: a1 :: a2 :: a3 :: a4 :: a5 :: some (.int i1) :: r9) (.int i1 :: st) A := x_nx (op := o_iload 6 2) rfl rfl
theorem x_124_2389  : exG TB d 124 2389 L (.int i1 :: st) A = if ¬ i1 = nI 0 then exG TB d 124 2404 L st A else exG TB d 124 2392 L st A := x_if (op := o_if (fun x => decide (¬ x = 0)) 2404) rfl rfl rfl
theorem x_124_2392  : exG TB d 124 2392 (a0 :: a1 :: a2 :: some v :: r9) st A = rg v (exG TB d 124 2393 (a0 :: a1 :: a2 :: some v :: r9) (v :: st) A) := x_rg (op := o_aload 3 1) rfl rfl
theorem x_124_2393  : exG TB d 124 2393 L st A = exG TB d 124 2394 L (.int (nI 0) :: st) A := x_nx (op := o_push 1 (.int 0)) rfl rfl
theorem x_124_2394  : exG TB d 124 2394 L (.int i1 :: .ref p :: st) A = kj (rdJ (ga A p) i1) d 124 2395 L st A := x_bd (op := o_rdJ) rfl rfl (fun _ => rfl)
theorem x_124_2395  : exG TB d 124 2395 (a0 :: a1 :: a2 :: a3 :: a4 :: a5 :: a6 :: some (.int i1) :: r9) st A = exG TB d 124 2397 (a0 :: a1 :: a2 :: a3 :: a4 :: a5 :: a6 :: some (.int i1) :: r9) (.int i1 :: st) A := x_nx (op := o_iload 7 2) rfl rfl
theorem x_124_2397  : exG TB d 124 2397 L (.int i1 :: st) A = exG TB d 124 2398 L (.long i1.toInt64 :: st) A := x_nx (op := o_i2l) rfl rfl
theorem x_124_2398  : exG TB d 124 2398 L (.long l2 :: .long l1 :: st) A = exG TB d 124 2399 L (.int (lg_cmp l1 l2) :: st) A := x_nx (op := o_lcmp) rfl rfl
theorem x_124_2399  : exG TB d 124 2399 L (.int i1 :: st) A = if i1 = nI 0 then exG TB d 124 2404 L st A else exG TB d 124 2402 L st A := x_if (op := o_if (fun x => decide (x = 0)) 2404) rfl rfl rfl
theorem x_124_2402  : exG TB d 124 2402 L st A = exG TB d 124 2403 L (.int (nI 0) :: st) A := x_nx (op := o_push 1 (.int 0)) rfl rfl
theorem x_124_2403  : exG TB d 124 2403 L [v] A = ck (okv 5 v) (some (.inl (some v), A)) := x_outg (op := o_ret 5) rfl rfl
theorem x_124_2404  : exG TB d 124 2404 L st A = exG TB d 124 2693 L st A := x_nx (op := o_goto 2693) rfl rfl
theorem x_124_2407  : exG TB d 124 2407 (a0 :: some v :: r9) st A = rg v (exG TB d 124 2408 (a0 :: some v :: r9) (v :: st) A) := x_rg (op := o_aload 1 1) rfl rfl
theorem x_124_2408  : exG TB d 124 2408 L [.ref p] A = kw (sel (gc A p) [(0, 161)]) [.ref p] d 124 2411 L [] A := x_cvb (op := o_cv [(0, 161)] 0 3 false none) rfl rfl x_noh rfl
theorem x_124_2411  : exG TB d 124 2411 (a0 :: a1 :: some v :: r9) st A = rg v (exG TB d 124 2412 (a0 :: a1 :: some v :: r9) (v :: st) A) := x_rg (op := o_aload 2 1) rfl rfl
theorem x_124_2412  : exG TB d 124 2412 L [.ref p, w0] A = kw (sel (gc A p) [(30, 397)]) [.ref p] d 124 2415 L [w0] A := x_cvb (op := o_cv [(30, 397)] 0 3 false none) rfl rfl x_noh rfl
theorem x_124_2415  : exG TB d 124 2415 L (.long l2 :: .long l1 :: st) A = exG TB d 124 2416 L (.int (lg_cmp l1 l2) :: st) A := x_nx (op := o_lcmp) rfl rfl
theorem x_124_2416  : exG TB d 124 2416 L (.int i1 :: st) A = if i1 = nI 0 then exG TB d 124 2693 L st A else exG TB d 124 2419 L st A := x_if (op := o_if (fun x => decide (x = 0)) 2693) rfl rfl rfl
theorem x_124_2419  : exG TB d 124 2419 L st A = exG TB d 124 2420 L (.int (nI 0) :: st) A := x_nx (op := o_push 1 (.int 0)) rfl rfl
theorem x_124_2420  : exG TB d 124 2420 L [v] A = ck (okv 5 v) (some (.inl (some v), A)) := x_outg (op := o_ret 5) rfl rfl
theorem x_124_2421  : exG TB d 124 2421 (a0 :: some v :: r9) st A = rg v (exG TB d 124 2422 (a0 :: some v :: r9) (v :: st) A) := x_rg (op := o_aload 1 1) rfl rfl
theorem x_124_2422  : exG TB d 124 2422 (some v :: r9) st A = rg v (exG TB d 124 2423 (some v :: r9) (v :: st) A) := x_rg (op := o_aload 0 1) rfl rfl
theorem x_124_2423  : exG TB d 124 2423 (a0 :: a1 :: a2 :: a3 :: a4 :: some (.int i1) :: r9) st A = exG TB d 124 2425 (a0 :: a1 :: a2 :: a3 :: a4 :: some (.int i1) :: r9) (.int i1 :: st) A := x_nx (op := o_iload 5 2) rfl rfl
theorem x_124_2425  : exG TB d 124 2425 L st A = exG TB d 124 2426 L (.int (nI 1) :: st) A := x_nx (op := o_push 1 (.int 1)) rfl rfl
theorem x_124_2426  : exG TB d 124 2426 L (.int i2 :: .int i1 :: st) A = exG TB d 124 2427 L (.int (i1 + i2) :: st) A := x_nx (op := o_iop (fun x y => x + y)) rfl rfl
theorem x_124_2427  : exG TB d 124 2427 L (.int i1 :: .ref p :: st) A = ki (rdI 0 (gas A p) i1) d 124 2428 L st A := x_bd (op := o_rdIs 0) rfl rfl (fun _ => rfl)
theorem x_124_2428  : exG TB d 124 2428 (some v :: r9) st A = rg v (exG TB d 124 2429 (some v :: r9) (v :: st) A) := x_rg (op := o_aload 0 1) rfl rfl
theorem x_124_2429  : exG TB d 124 2429 (a0 :: a1 :: a2 :: a3 :: a4 :: some (.int i1) :: r9) st A = exG TB d 124 2431 (a0 :: a1 :: a2 :: a3 :: a4 :: some (.int i1) :: r9) (.int i1 :: st) A := x_nx (op := o_iload 5 2) rfl rfl
theorem x_124_2431  : exG TB d 124 2431 L st A = exG TB d 124 2432 L (.int (nI 2) :: st) A := x_nx (op := o_push 1 (.int 2)) rfl rfl
theorem x_124_2432  : exG TB d 124 2432 L (.int i2 :: .int i1 :: st) A = exG TB d 124 2433 L (.int (i1 + i2) :: st) A := x_nx (op := o_iop (fun x y => x + y)) rfl rfl
theorem x_124_2433  : exG TB d 124 2433 L (.int i1 :: .ref p :: st) A = ki (rdI 0 (gas A p) i1) d 124 2434 L st A := x_bd (op := o_rdIs 0) rfl rfl (fun _ => rfl)
theorem x_124_2434  : exG TB d 124 2434 (a0 :: a1 :: a2 :: some v :: r9) st A = rg v (exG TB d 124 2435 (a0 :: a1 :: a2 :: some v :: r9) (v :: st) A) := x_rg (op := o_aload 3 1) rfl rfl
theorem x_124_2435  : exG TB d 124 2435 L [b3, b2, b1, b0] A = kc (evG TB d 156 [b0, b1, b2, b3] A) d 124 2438 L [] := x_cv (op := o_cs 156 4 false none) rfl rfl x_noh rfl
theorem x_124_2438  : exG TB d 124 2438 (a0 :: a1 :: a2 :: a3 :: a4 :: a5 :: a6 :: r9) (.int i1 :: st) A = exG TB d 124 2440 (a0 :: a1 :: a2 :: a3 :: a4 :: a5 :: some (.int i1) :: r9) st A := x_nx (op := o_istore 6 2) rfl rfl
theorem x_124_2440  : exG TB d 124 2440 (a0 :: a1 :: some v :: r9) st A = rg v (exG TB d 124 2441 (a0 :: a1 :: some v :: r9) (v :: st) A) := x_rg (op := o_aload 2 1) rfl rfl
theorem x_124_2441  : exG TB d 124 2441 (some v :: r9) st A = rg v (exG TB d 124 2442 (some v :: r9) (v :: st) A) := x_rg (op := o_aload 0 1) rfl rfl
theorem x_124_2442  : exG TB d 124 2442 (a0 :: a1 :: a2 :: a3 :: a4 :: some (.int i1) :: r9) st A = exG TB d 124 2444 (a0 :: a1 :: a2 :: a3 :: a4 :: some (.int i1) :: r9) (.int i1 :: st) A := x_nx (op := o_iload 5 2) rfl rfl
theorem x_124_2444  : exG TB d 124 2444 L st A = exG TB d 124 2445 L (.int (nI 1) :: st) A := x_nx (op := o_push 1 (.int 1)) rfl rfl
theorem x_124_2445  : exG TB d 124 2445 L (.int i2 :: .int i1 :: st) A = exG TB d 124 2446 L (.int (i1 + i2) :: st) A := x_nx (op := o_iop (fun x y => x + y)) rfl rfl
theorem x_124_2446  : exG TB d 124 2446 L (.int i1 :: .ref p :: st) A = ki (rdI 0 (gas A p) i1) d 124 2447 L st A := x_bd (op := o_rdIs 0) rfl rfl (fun _ => rfl)
theorem x_124_2447  : exG TB d 124 2447 (some v :: r9) st A = rg v (exG TB d 124 2448 (some v :: r9) (v :: st) A) := x_rg (op := o_aload 0 1) rfl rfl
theorem x_124_2448  : exG TB d 124 2448 (a0 :: a1 :: a2 :: a3 :: a4 :: some (.int i1) :: r9) st A = exG TB d 124 2450 (a0 :: a1 :: a2 :: a3 :: a4 :: some (.int i1) :: r9) (.int i1 :: st) A := x_nx (op := o_iload 5 2) rfl rfl
theorem x_124_2450  : exG TB d 124 2450 L st A = exG TB d 124 2451 L (.int (nI 2) :: st) A := x_nx (op := o_push 1 (.int 2)) rfl rfl
theorem x_124_2451  : exG TB d 124 2451 L (.int i2 :: .int i1 :: st) A = exG TB d 124 2452 L (.int (i1 + i2) :: st) A := x_nx (op := o_iop (fun x y => x + y)) rfl rfl
theorem x_124_2452  : exG TB d 124 2452 L (.int i1 :: .ref p :: st) A = ki (rdI 0 (gas A p) i1) d 124 2453 L st A := x_bd (op := o_rdIs 0) rfl rfl (fun _ => rfl)
theorem x_124_2453  : exG TB d 124 2453 L [b1, b0, .ref p] A = kw (sel (gc A p) [(30, 399)]) [.ref p, b0, b1] d 124 2456 L [] A := x_cvb (op := o_cv [(30, 399)] 2 3 false none) rfl rfl x_noh rfl
theorem x_124_2456  : exG TB d 124 2456 (a0 :: a1 :: a2 :: a3 :: a4 :: a5 :: a6 :: a7 :: r9) (.int i1 :: st) A = exG TB d 124 2458 (a0 :: a1 :: a2 :: a3 :: a4 :: a5 :: a6 :: some (.int i1) :: r9) st A := x_nx (op := o_istore 7 2) rfl rfl
theorem x_124_2458  : exG TB d 124 2458 (a0 :: a1 :: some v :: r9) st A = rg v (exG TB d 124 2459 (a0 :: a1 :: some v :: r9) (v :: st) A) := x_rg (op := o_aload 2 1) rfl rfl
theorem x_124_2459  : exG TB d 124 2459 L [.ref p] A = kw (sel (gc A p) [(30, 289)]) [.ref p] d 124 2462 L [] A := x_cvb (op := o_cv [(30, 289)] 0 3 false none) rfl rfl x_noh rfl
theorem x_124_2462  : exG TB d 124 2462 (a0 :: a1 :: a2 :: a3 :: a4 :: a5 :: some (.int i1) :: r9) st A = exG TB d 124 2464 (a0 :: a1 :: a2 :: a3 :: a4 :: a5 :: some (.int i1) :: r9) (.int i1 :: st) A := x_nx (op := o_iload 6 2) rfl rfl
theorem x_124_2464  : exG TB d 124 2464 L (.int i2 :: .int i1 :: st) A = if i1 = i2 then exG TB d 124 2469 L st A else exG TB d 124 2467 L st A := x_if (op := o_icmp (fun x y => decide (x = y)) 2469) rfl rfl rfl
theorem x_124_2467  : exG TB d 124 2467 L st A = exG TB d 124 2468 L (.int (nI 0) :: st) A := x_nx (op := o_push 1 (.int 0)) rfl rfl
theorem x_124_2468  : exG TB d 124 2468 L [v] A = ck (okv 5 v) (some (.inl (some v), A)) := x_outg (op := o_ret 5) rfl rfl
theorem x_124_2469  : exG TB d 124 2469 (a0 :: a1 :: a2 :: a3 :: a4 :: a5 :: some (.int i1) :: r9) st A = exG TB d 124 2471 (a0 :: a1 :: a2 :: a3 :: a4 :: a5 :: some (.int i1) :: r9) (.int i1 :: st) A := x_nx (op := o_iload 6 2) rfl rfl
theorem x_124_2471  : exG TB d 124 2471 L (.int i1 :: st) A = if ¬ i1 = nI 0 then exG TB d 124 2486 L st A else exG TB d 124 2474 L st A := x_if (op := o_if (fun x => decide (¬ x = 0)) 2486) rfl rfl rfl
theorem x_124_2474  : exG TB d 124 2474 (a0 :: a1 :: a2 :: some v :: r9) st A = rg v (exG TB d 124 2475 (a0 :: a1 :: a2 :: some v :: r9) (v :: st) A) := x_rg (op := o_aload 3 1) rfl rfl
theorem x_124_2475  : exG TB d 124 2475 L st A = exG TB d 124 2476 L (.int (nI 0) :: st) A := x_nx (op := o_push 1 (.int 0)) rfl rfl
theorem x_124_2476  : exG TB d 124 2476 L (.int i1 :: .ref p :: st) A = kj (rdJ (ga A p) i1) d 124 2477 L st A := x_bd (op := o_rdJ) rfl rfl (fun _ => rfl)
theorem x_124_2477  : exG TB d 124 2477 (a0 :: a1 :: a2 :: a3 :: a4 :: a5 :: a6 :: some (.int i1) :: r9) st A = exG TB d 124 2479 (a0 :: a1 :: a2 :: a3 :: a4 :: a5 :: a6 :: some (.int i1) :: r9) (.int i1 :: st) A := x_nx (op := o_iload 7 2) rfl rfl
theorem x_124_2479  : exG TB d 124 2479 L (.int i1 :: st) A = exG TB d 124 2480 L (.long i1.toInt64 :: st) A := x_nx (op := o_i2l) rfl rfl
theorem x_124_2480  : exG TB d 124 2480 L (.long l2 :: .long l1 :: st) A = exG TB d 124 2481 L (.int (lg_cmp l1 l2) :: st) A := x_nx (op := o_lcmp) rfl rfl
theorem x_124_2481  : exG TB d 124 2481 L (.int i1 :: st) A = if i1 = nI 0 then exG TB d 124 2486 L st A else exG TB d 124 2484 L st A := x_if (op := o_if (fun x => decide (x = 0)) 2486) rfl rfl rfl
theorem x_124_2484  : exG TB d 124 2484 L st A = exG TB d 124 2485 L (.int (nI 0) :: st) A := x_nx (op := o_push 1 (.int 0)) rfl rfl
theorem x_124_2485  : exG TB d 124 2485 L [v] A = ck (okv 5 v) (some (.inl (some v), A)) := x_outg (op := o_ret 5) rfl rfl
theorem x_124_2486  : exG TB d 124 2486 L st A = exG TB d 124 2693 L st A := x_nx (op := o_goto 2693) rfl rfl
theorem x_124_2489  : exG TB d 124 2489 (a0 :: some v :: r9) st A = rg v (exG TB d 124 2490 (a0 :: some v :: r9) (v :: st) A) := x_rg (op := o_aload 1 1) rfl rfl
theorem x_124_2490  : exG TB d 124 2490 (some v :: r9) st A = rg v (exG TB d 124 2491 (some v :: r9) (v :: st) A) := x_rg (op := o_aload 0 1) rfl rfl
theorem x_124_2491  : exG TB d 124 2491 (a0 :: a1 :: a2 :: a3 :: a4 :: some (.int i1) :: r9) st A = exG TB d 124 2493 (a0 :: a1 :: a2 :: a3 :: a4 :: some (.int i1) :: r9) (.int i1 :: st) A := x_nx (op := o_iload 5 2) rfl rfl
theorem x_124_2493  : exG TB d 124 2493 L st A = exG TB d 124 2494 L (.int (nI 1) :: st) A := x_nx (op := o_push 1 (.int 1)) rfl rfl
theorem x_124_2494  : exG TB d 124 2494 L (.int i2 :: .int i1 :: st) A = exG TB d 124 2495 L (.int (i1 + i2) :: st) A := x_nx (op := o_iop (fun x y => x + y)) rfl rfl
theorem x_124_2495  : exG TB d 124 2495 L (.int i1 :: .ref p :: st) A = ki (rdI 0 (gas A p) i1) d 124 2496 L st A := x_bd (op := o_rdIs 0) rfl rfl (fun _ => rfl)
theorem x_124_2496  : exG TB d 124 2496 (a0 :: a1 :: a2 :: a3 :: some v :: r9) st A = rg v (exG TB d 124 2498 (a0 :: a1 :: a2 :: a3 :: some v :: r9) (v :: st) A) := x_rg (op := o_aload 4 2) rfl rfl
theorem x_124_2498  : exG TB d 124 2498 L [b2, b1, b0] A = kc (evG TB d 157 [b0, b1, b2] A) d 124 2501 L [] := x_cv (op := o_cs 157 3 false none) rfl rfl x_noh rfl
theorem x_124_2501  : exG TB d 124 2501 (a0 :: a1 :: a2 :: a3 :: a4 :: a5 :: a6 :: r9) (.int i1 :: st) A = exG TB d 124 2503 (a0 :: a1 :: a2 :: a3 :: a4 :: a5 :: some (.int i1) :: r9) st A := x_nx (op := o_istore 6 2) rfl rfl
theorem x_124_2503  : exG TB d 124 2503 (a0 :: a1 :: some v :: r9) st A = rg v (exG TB d 124 2504 (a0 :: a1 :: some v :: r9) (v :: st) A) := x_rg (op := o_aload 2 1) rfl rfl
theorem x_124_2504  : exG TB d 124 2504 (some v :: r9) st A = rg v (exG TB d 124 2505 (some v :: r9) (v :: st) A) := x_rg (op := o_aload 0 1) rfl rfl
theorem x_124_2505  : exG TB d 124 2505 (a0 :: a1 :: a2 :: a3 :: a4 :: some (.int i1) :: r9) st A = exG TB d 124 2507 (a0 :: a1 :: a2 :: a3 :: a4 :: some (.int i1) :: r9) (.int i1 :: st) A := x_nx (op := o_iload 5 2) rfl rfl
theorem x_124_2507  : exG TB d 124 2507 L st A = exG TB d 124 2508 L (.int (nI 1) :: st) A := x_nx (op := o_push 1 (.int 1)) rfl rfl
theorem x_124_2508  : exG TB d 124 2508 L (.int i2 :: .int i1 :: st) A = exG TB d 124 2509 L (.int (i1 + i2) :: st) A := x_nx (op := o_iop (fun x y => x + y)) rfl rfl
theorem x_124_2509  : exG TB d 124 2509 L (.int i1 :: .ref p :: st) A = ki (rdI 0 (gas A p) i1) d 124 2510 L st A := x_bd (op := o_rdIs 0) rfl rfl (fun _ => rfl)
theorem x_124_2510  : exG TB d 124 2510 L [b0, .ref p] A = kw (sel (gc A p) [(30, 402)]) [.ref p, b0] d 124 2513 L [] A := x_cvb (op := o_cv [(30, 402)] 1 3 false none) rfl rfl x_noh rfl
theorem x_124_2513  : exG TB d 124 2513 (a0 :: a1 :: a2 :: a3 :: a4 :: a5 :: a6 :: a7 :: r9) (.float f1 :: st) A = exG TB d 124 2515 (a0 :: a1 :: a2 :: a3 :: a4 :: a5 :: a6 :: some (.float f1) :: r9) st A := x_nx (op := o_fstore 7 2) rfl rfl
theorem x_124_2515  : exG TB d 124 2515 (a0 :: a1 :: some v :: r9) st A = rg v (exG TB d 124 2516 (a0 :: a1 :: some v :: r9) (v :: st) A) := x_rg (op := o_aload 2 1) rfl rfl
theorem x_124_2516  : exG TB d 124 2516 L [.ref p] A = kw (sel (gc A p) [(30, 289)]) [.ref p] d 124 2519 L [] A := x_cvb (op := o_cv [(30, 289)] 0 3 false none) rfl rfl x_noh rfl
theorem x_124_2519  : exG TB d 124 2519 (a0 :: a1 :: a2 :: a3 :: a4 :: a5 :: some (.int i1) :: r9) st A = exG TB d 124 2521 (a0 :: a1 :: a2 :: a3 :: a4 :: a5 :: some (.int i1) :: r9) (.int i1 :: st) A := x_nx (op := o_iload 6 2) rfl rfl
theorem x_124_2521  : exG TB d 124 2521 L (.int i2 :: .int i1 :: st) A = if i1 = i2 then exG TB d 124 2526 L st A else exG TB d 124 2524 L st A := x_if (op := o_icmp (fun x y => decide (x = y)) 2526) rfl rfl rfl
theorem x_124_2524  : exG TB d 124 2524 L st A = exG TB d 124 2525 L (.int (nI 0) :: st) A := x_nx (op := o_push 1 (.int 0)) rfl rfl
theorem x_124_2525  : exG TB d 124 2525 L [v] A = ck (okv 5 v) (some (.inl (some v), A)) := x_outg (op := o_ret 5) rfl rfl
theorem x_124_2526  : exG TB d 124 2526 (a0 :: a1 :: a2 :: a3 :: a4 :: a5 :: some (.int i1) :: r9) st A = exG TB d 124 2528 (a0 :: a1 :: a2 :: a3 :: a4 :: a5 :: some (.int i1) :: r9) (.int i1 :: st) A := x_nx (op := o_iload 6 2) rfl rfl
theorem x_124_2528  : exG TB d 124 2528 L (.int i1 :: st) A = if ¬ i1 = nI 0 then exG TB d 124 2564 L st A else exG TB d 124 2531 L st A := x_if (op := o_if (fun x => decide (¬ x = 0)) 2564) rfl rfl rfl
theorem x_124_2531  : exG TB d 124 2531 (a0 :: a1 :: a2 :: a3 :: some v :: r9) st A = rg v (exG TB d 124 2533 (a0 :: a1 :: a2 :: a3 :: some v :: r9) (v :: st) A) := x_rg (op := o_aload 4 2) rfl rfl
theorem x_124_2533  : exG TB d 124 2533 L st A = exG TB d 124 2534 L (.int (nI 0) :: st) A := x_nx (op := o_push 1 (.int 0)) rfl rfl
theorem x_124_2534  : exG TB d 124 2534 L (.int i1 :: .ref p :: st) A = kd (rdD (ga A p) i1) d 124 2535 L st A := x_bd (op := o_rdD) rfl rfl (fun _ => rfl)
theorem x_124_2535  : exG TB d 124 2535 (a0 :: a1 :: a2 :: a3 :: a4 :: a5 :: a6 :: some (.float f1) :: r9) st A = exG TB d 124 2537 (a0 :: a1 :: a2 :: a3 :: a4 :: a5 :: a6 :: some (.float f1) :: r9) (.float f1 :: st) A := x_nx (op := o_fload 7 2) rfl rfl
theorem x_124_2537  : exG TB d 124 2537 L (.float f1 :: st) A = ck (b_n64 (FP.f2d f1)) (exG TB d 124 2538 L (.double (FP.f2d f1) :: st) A) := x_gd (op := o_f2d) rfl rfl
theorem x_124_2538  : exG TB d 124 2538 L (.double d2 :: .double d1 :: st) A = exG TB d 124 2539 L (.int (Op.cmpValue (FP.dcmp d1 d2) .l) :: st) A := x_nx (op := o_dcmp .l) rfl rfl
theorem x_124_2539  : exG TB d 124 2539 L (.int i1 :: st) A = if i1 = nI 0 then exG TB d 124 2564 L st A else exG TB d 124 2542 L st A := x_if (op := o_if (fun x => decide (x = 0)) 2564) rfl rfl rfl
theorem x_124_2542  : exG TB d 124 2542 (a0 :: a1 :: a2 :: a3 :: some v :: r9) st A = rg v (exG TB d 124 2544 (a0 :: a1 :: a2 :: a3 :: some v :: r9) (v :: st) A) := x_rg (op := o_aload 4 2) rfl rfl
theorem x_124_2544  : exG TB d 124 2544 L st A = exG TB d 124 2545 L (.int (nI 0) :: st) A := x_nx (op := o_push 1 (.int 0)) rfl rfl
theorem x_124_2545  : exG TB d 124 2545 L (.int i1 :: .ref p :: st) A = kd (rdD (ga A p) i1) d 124 2546 L st A := x_bd (op := o_rdD) rfl rfl (fun _ => rfl)
theorem x_124_2546  : exG TB d 124 2546 (a0 :: a1 :: a2 :: a3 :: some v :: r9) st A = rg v (exG TB d 124 2548 (a0 :: a1 :: a2 :: a3 :: some v :: r9) (v :: st) A) := x_rg (op := o_aload 4 2) rfl rfl
theorem x_124_2548  : exG TB d 124 2548 L st A = exG TB d 124 2549 L (.int (nI 0) :: st) A := x_nx (op := o_push 1 (.int 0)) rfl rfl
theorem x_124_2549  : exG TB d 124 2549 L (.int i1 :: .ref p :: st) A = kd (rdD (ga A p) i1) d 124 2550 L st A := x_bd (op := o_rdD) rfl rfl (fun _ => rfl)
theorem x_124_2550  : exG TB d 124 2550 L (.double d2 :: .double d1 :: st) A = exG TB d 124 2551 L (.int (Op.cmpValue (FP.dcmp d1 d2) .l) :: st) A := x_nx (op := o_dcmp .l) rfl rfl
theorem x_124_2551  : exG TB d 124 2551 L (.int i1 :: st) A = if i1 = nI 0 then exG TB d 124 2562 L st A else exG TB d 124 2554 L st A := x_if (op := o_if (fun x => decide (x = 0)) 2562) rfl rfl rfl
theorem x_124_2554  : exG TB d 124 2554 (a0 :: a1 :: a2 :: a3 :: a4 :: a5 :: a6 :: some (.float f1) :: r9) st A = exG TB d 124 2556 (a0 :: a1 :: a2 :: a3 :: a4 :: a5 :: a6 :: some (.float f1) :: r9) (.float f1 :: st) A := x_nx (op := o_fload 7 2) rfl rfl
theorem x_124_2556  : exG TB d 124 2556 (a0 :: a1 :: a2 :: a3 :: a4 :: a5 :: a6 :: some (.float f1) :: r9) st A = exG TB d 124 2558 (a0 :: a1 :: a2 :: a3 :: a4 :: a5 :: a6 :: some (.float f1) :: r9) (.float f1 :: st) A := x_nx (op := o_fload 7 2) rfl rfl
theorem x_124_2558  : exG TB d 124 2558 L (.float f2 :: .float f1 :: st) A = exG TB d 124 2559 L (.int (Op.cmpValue (FP.fcmp f1 f2) .l) :: st) A := x_nx (op := o_fcmp .l) rfl rfl
theorem x_124_2559  : exG TB d 124 2559 L (.int i1 :: st) A = if ¬ i1 = nI 0 then exG TB d 124 2564 L st A else exG TB d 124 2562 L st A := x_if (op := o_if (fun x => decide (¬ x = 0)) 2564) rfl rfl rfl
theorem x_124_2562  : exG TB d 124 2562 L st A = exG TB d 124 2563 L (.int (nI 0) :: st) A := x_nx (op := o_push 1 (.int 0)) rfl rfl
theorem x_124_2563  : exG TB d 124 2563 L [v] A = ck (okv 5 v) (some (.inl (some v), A)) := x_outg (op := o_ret 5) rfl rfl
theorem x_124_2564  : exG TB d 124 2564 L st A = exG TB d 124 2693 L st A := x_nx (op := o_goto 2693) rfl rfl
theorem x_124_2567  : exG TB d 124 2567 (a0 :: some v :: r9) st A = rg v (exG TB d 124 2568 (a0 :: some v :: r9) (v :: st) A) := x_rg (op := o_aload 1 1) rfl rfl
theorem x_124_2568  : exG TB d 124 2568 L [.ref p] A = kw (sel (gc A p) [(0, 162)]) [.ref p] d 124 2571 L [] A := x_cvb (op := o_cv [(0, 162)] 0 3 false none) rfl rfl x_noh rfl
theorem x_124_2571  : exG TB d 124 2571 (a0 :: a1 :: some v :: r9) st A = rg v (exG TB d 124 2572 (a0 :: a1 :: some v :: r9) (v :: st) A) := x_rg (op := o_aload 2 1) rfl rfl
theorem x_124_2572  : exG TB d 124 2572 L [.ref p, w0] A = kw (sel (gc A p) [(30, 403)]) [.ref p] d 124 2575 L [w0] A := x_cvb (op := o_cv [(30, 403)] 0 3 false none) rfl rfl x_noh rfl
theorem x_124_2575  : exG TB d 124 2575 L (.int i2 :: .int i1 :: st) A = if i1 = i2 then exG TB d 124 2693 L st A else exG TB d 124 2578 L st A := x_if (op := o_icmp (fun x y => decide (x = y)) 2693) rfl rfl rfl
theorem x_124_2578  : exG TB d 124 2578 L st A = exG TB d 124 2579 L (.int (nI 0) :: st) A := x_nx (op := o_push 1 (.int 0)) rfl rfl
theorem x_124_2579  : exG TB d 124 2579 L [v] A = ck (okv 5 v) (some (.inl (some v), A)) := x_outg (op := o_ret 5) rfl rfl
theorem x_124_2580  : exG TB d 124 2580 (a0 :: some v :: r9) st A = rg v (exG TB d 124 2581 (a0 :: some v :: r9) (v :: st) A) := x_rg (op := o_aload 1 1) rfl rfl
theorem x_124_2581  : exG TB d 124 2581 L [.ref p] A = kw (sel (gc A p) [(0, 163)]) [.ref p] d 124 2584 L [] A := x_cvb (op := o_cv [(0, 163)] 0 3 false none) rfl rfl x_noh rfl
theorem x_124_2584  : exG TB d 124 2584 (a0 :: a1 :: a2 :: a3 :: a4 :: a5 :: a6 :: a7 :: r9) (.double d1 :: st) A = exG TB d 124 2586 (a0 :: a1 :: a2 :: a3 :: a4 :: a5 :: some (.double d1) :: none :: r9) st A := x_nx (op := o_dstore 6 2) rfl rfl
theorem x_124_2586  : exG TB d 124 2586 (a0 :: a1 :: some v :: r9) st A = rg v (exG TB d 124 2587 (a0 :: a1 :: some v :: r9) (v :: st) A) := x_rg (op := o_aload 2 1) rfl rfl
theorem x_124_2587  : exG TB d 124 2587 L [.ref p] A = kw (sel (gc A p) [(30, 404)]) [.ref p] d 124 2590 L [] A := x_cvb (op := o_cv [(30, 404)] 0 3 false none) rfl rfl x_noh rfl
theorem x_124_2590  : exG TB d 124 2590 (a0 :: a1 :: a2 :: a3 :: a4 :: a5 :: a6 :: a7 :: a8 :: a9 :: r9) (.double d1 :: st) A = exG TB d 124 2592 (a0 :: a1 :: a2 :: a3 :: a4 :: a5 :: a6 :: a7 :: some (.double d1) :: none :: r9) st A := x_nx (op := o_dstore 8 2) rfl rfl
theorem x_124_2592  : exG TB d 124 2592 (a0 :: a1 :: a2 :: a3 :: a4 :: a5 :: some (.double d1) :: none :: r9) st A = exG TB d 124 2594 (a0 :: a1 :: a2 :: a3 :: a4 :: a5 :: some (.double d1) :: none :: r9) (.double d1 :: st) A := x_nx (op := o_dload 6 2) rfl rfl
theorem x_124_2594  : exG TB d 124 2594 (a0 :: a1 :: a2 :: a3 :: a4 :: a5 :: a6 :: a7 :: some (.double d1) :: none :: r9) st A = exG TB d 124 2596 (a0 :: a1 :: a2 :: a3 :: a4 :: a5 :: a6 :: a7 :: some (.double d1) :: none :: r9) (.double d1 :: st) A := x_nx (op := o_dload 8 2) rfl rfl
theorem x_124_2596  : exG TB d 124 2596 L (.double d2 :: .double d1 :: st) A = exG TB d 124 2597 L (.int (Op.cmpValue (FP.dcmp d1 d2) .l) :: st) A := x_nx (op := o_dcmp .l) rfl rfl
theorem x_124_2597  : exG TB d 124 2597 L (.int i1 :: st) A = if i1 = nI 0 then exG TB d 124 2618 L st A else exG TB d 124 2600 L st A := x_if (op := o_if (fun x => decide (x = 0)) 2618) rfl rfl rfl
theorem x_124_2600  : exG TB d 124 2600 (a0 :: a1 :: a2 :: a3 :: a4 :: a5 :: some (.double d1) :: none :: r9) st A = exG TB d 124 2602 (a0 :: a1 :: a2 :: a3 :: a4 :: a5 :: some (.double d1) :: none :: r9) (.double d1 :: st) A := x_nx (op := o_dload 6 2) rfl rfl
theorem x_124_2602  : exG TB d 124 2602 (a0 :: a1 :: a2 :: a3 :: a4 :: a5 :: some (.double d1) :: none :: r9) st A = exG TB d 124 2604 (a0 :: a1 :: a2 :: a3 :: a4 :: a5 :: some (.double d1) :: none :: r9) (.double d1 :: st) A := x_nx (op := o_dload 6 2) rfl rfl
theorem x_124_2604  : exG TB d 124 2604 L (.double d2 :: .double d1 :: st) A = exG TB d 124 2605 L (.int (Op.cmpValue (FP.dcmp d1 d2) .l) :: st) A := x_nx (op := o_dcmp .l) rfl rfl
theorem x_124_2605  : exG TB d 124 2605 L (.int i1 :: st) A = if i1 = nI 0 then exG TB d 124 2616 L st A else exG TB d 124 2608 L st A := x_if (op := o_if (fun x => decide (x = 0)) 2616) rfl rfl rfl
theorem x_124_2608  : exG TB d 124 2608 (a0 :: a1 :: a2 :: a3 :: a4 :: a5 :: a6 :: a7 :: some (.double d1) :: none :: r9) st A = exG TB d 124 2610 (a0 :: a1 :: a2 :: a3 :: a4 :: a5 :: a6 :: a7 :: some (.double d1) :: none :: r9) (.double d1 :: st) A := x_nx (op := o_dload 8 2) rfl rfl
theorem x_124_2610  : exG TB d 124 2610 (a0 :: a1 :: a2 :: a3 :: a4 :: a5 :: a6 :: a7 :: some (.double d1) :: none :: r9) st A = exG TB d 124 2612 (a0 :: a1 :: a2 :: a3 :: a4 :: a5 :: a6 :: a7 :: some (.double d1) :: none :: r9) (.double d1 :: st) A := x_nx (op := o_dload 8 2) rfl rfl
theorem x_124_2612  : exG TB d 124 2612 L (.double d2 :: .double d1 :: st) A = exG TB d 124 2613 L (.int (Op.cmpValue (FP.dcmp d1 d2) .l) :: st) A := x_nx (op := o_dcmp .l) rfl rfl
theorem x_124_2613  : exG TB d 124 2613 L (.int i1 :: st) A = if ¬ i1 = nI 0 then exG TB d 124 2618 L st A else exG TB d 124 2616 L st A := x_if (op := o_if (fun x => decide (¬ x = 0)) 2618) rfl rfl rfl
theorem x_124_2616  : exG TB d 124 2616 L st A = exG TB d 124 2617 L (.int (nI 0) :: st) A := x_nx (op := o_push 1 (.int 0)) rfl rfl
theorem x_124_2617  : exG TB d 124 2617 L [v] A = ck (okv 5 v) (some (.inl (some v), A)) := x_outg (op := o_ret 5) rfl rfl
theorem x_124_2618  : exG TB d 124 2618 L st A = exG TB d 124 2693 L st A := x_nx (op := o_goto 2693) rfl rfl
theorem x_124_2621  : exG TB d 124 2621 (a0 :: some v :: r9) st A = rg v (exG TB d 124 2622 (a0 :: some v :: r9) (v :: st) A) := x_rg (op := o_aload 1 1) rfl rfl
theorem x_124_2622  : exG TB d 124 2622 (some v :: r9) st A = rg v (exG TB d 124 2623 (some v :: r9) (v :: st) A) := x_rg (op := o_aload 0 1) rfl rfl
theorem x_124_2623  : exG TB d 124 2623 (a0 :: a1 :: a2 :: a3 :: a4 :: some (.int i1) :: r9) st A = exG TB d 124 2625 (a0 :: a1 :: a2 :: a3 :: a4 :: some (.int i1) :: r9) (.int i1 :: st) A := x_nx (op := o_iload 5 2) rfl rfl
theorem x_124_2625  : exG TB d 124 2625 L st A = exG TB d 124 2626 L (.int (nI 1) :: st) A := x_nx (op := o_push 1 (.int 1)) rfl rfl
theorem x_124_2626  : exG TB d 124 2626 L (.int i2 :: .int i1 :: st) A = exG TB d 124 2627 L (.int (i1 + i2) :: st) A := x_nx (op := o_iop (fun x y => x + y)) rfl rfl
theorem x_124_2627  : exG TB d 124 2627 L (.int i1 :: .ref p :: st) A = ki (rdI 0 (gas A p) i1) d 124 2628 L st A := x_bd (op := o_rdIs 0) rfl rfl (fun _ => rfl)
theorem x_124_2628  : exG TB d 124 2628 L [b1, b0] A = kc (evG TB d 158 [b0, b1] A) d 124 2631 L [] := x_cv (op := o_cs 158 2 false none) rfl rfl x_noh rfl
theorem x_124_2631  : exG TB d 124 2631 (a0 :: a1 :: a2 :: a3 :: a4 :: a5 :: a6 :: r9) (.int i1 :: st) A = exG TB d 124 2633 (a0 :: a1 :: a2 :: a3 :: a4 :: a5 :: some (.int i1) :: r9) st A := x_nx (op := o_istore 6 2) rfl rfl
theorem x_124_2633  : exG TB d 124 2633 (a0 :: a1 :: some v :: r9) st A = rg v (exG TB d 124 2634 (a0 :: a1 :: some v :: r9) (v :: st) A) := x_rg (op := o_aload 2 1) rfl rfl
theorem x_124_2634  : exG TB d 124 2634 (some v :: r9) st A = rg v (exG TB d 124 2635 (some v :: r9) (v :: st) A) := x_rg (op := o_aload 0 1) rfl rfl
theorem x_124_2635  : exG TB d 124 2635 (a0 :: a1 :: a2 :: a3 :: a4 :: some (.int i1) :: r9) st A = exG TB d 124 2637 (a0 :: a1 :: a2 :: a3 :: a4 :: some (.int i1) :: r9) (.int i1 :: st) A := x_nx (op := o_iload 5 2) rfl rfl
theorem x_124_2637  : exG TB d 124 2637 L st A = exG TB d 124 2638 L (.int (nI 1) :: st) A := x_nx (op := o_push 1 (.int 1)) rfl rfl
theorem x_124_2638  : exG TB d 124 2638 L (.int i2 :: .int i1 :: st) A = exG TB d 124 2639 L (.int (i1 + i2) :: st) A := x_nx (op := o_iop (fun x y => x + y)) rfl rfl
theorem x_124_2639  : exG TB d 124 2639 L (.int i1 :: .ref p :: st) A = ki (rdI 0 (gas A p) i1) d 124 2640 L st A := x_bd (op := o_rdIs 0) rfl rfl (fun _ => rfl)
theorem x_124_2640  : exG TB d 124 2640 L [b0, .ref p] A = kw0 (sel (gc A p) [(30, 405)]) [.ref p, b0] d 124 2643 L [] A := x_c0b (op := o_cv [(30, 405)] 1 3 true none) rfl rfl x_noh rfl
theorem x_124_2643  : exG TB d 124 2643 (a0 :: a1 :: some v :: r9) st A = rg v (exG TB d 124 2644 (a0 :: a1 :: some v :: r9) (v :: st) A) := x_rg (op := o_aload 2 1) rfl rfl
theorem x_124_2644  : exG TB d 124 2644 L [.ref p] A = kw (sel (gc A p) [(30, 289)]) [.ref p] d 124 2647 L [] A := x_cvb (op := o_cv [(30, 289)] 0 3 false none) rfl rfl x_noh rfl
theorem x_124_2647  : exG TB d 124 2647 (a0 :: a1 :: a2 :: a3 :: a4 :: a5 :: some (.int i1) :: r9) st A = exG TB d 124 2649 (a0 :: a1 :: a2 :: a3 :: a4 :: a5 :: some (.int i1) :: r9) (.int i1 :: st) A := x_nx (op := o_iload 6 2) rfl rfl
theorem x_124_2649  : exG TB d 124 2649 L (.int i2 :: .int i1 :: st) A = if i1 = i2 then exG TB d 124 2654 L st A else exG TB d 124 2652 L st A := x_if (op := o_icmp (fun x y => decide (x = y)) 2654) rfl rfl rfl
theorem x_124_2652  : exG TB d 124 2652 L st A = exG TB d 124 2653 L (.int (nI 0) :: st) A := x_nx (op := o_push 1 (.int 0)) rfl rfl
theorem x_124_2653  : exG TB d 124 2653 L [v] A = ck (okv 5 v) (some (.inl (some v), A)) := x_outg (op := o_ret 5) rfl rfl
theorem x_124_2654  : exG TB d 124 2654 L st A = exG TB d 124 2693 L st A := x_nx (op := o_goto 2693) rfl rfl
theorem x_124_2657  : exG TB d 124 2657 (a0 :: some v :: r9) st A = rg v (exG TB d 124 2658 (a0 :: some v :: r9) (v :: st) A) := x_rg (op := o_aload 1 1) rfl rfl
theorem x_124_2658  : exG TB d 124 2658 (some v :: r9) st A = rg v (exG TB d 124 2659 (some v :: r9) (v :: st) A) := x_rg (op := o_aload 0 1) rfl rfl
theorem x_124_2659  : exG TB d 124 2659 (a0 :: a1 :: a2 :: a3 :: a4 :: some (.int i1) :: r9) st A = exG TB d 124 2661 (a0 :: a1 :: a2 :: a3 :: a4 :: some (.int i1) :: r9) (.int i1 :: st) A := x_nx (op := o_iload 5 2) rfl rfl
theorem x_124_2661  : exG TB d 124 2661 L st A = exG TB d 124 2662 L (.int (nI 1) :: st) A := x_nx (op := o_push 1 (.int 1)) rfl rfl
theorem x_124_2662  : exG TB d 124 2662 L (.int i2 :: .int i1 :: st) A = exG TB d 124 2663 L (.int (i1 + i2) :: st) A := x_nx (op := o_iop (fun x y => x + y)) rfl rfl
theorem x_124_2663  : exG TB d 124 2663 L (.int i1 :: .ref p :: st) A = ki (rdI 0 (gas A p) i1) d 124 2664 L st A := x_bd (op := o_rdIs 0) rfl rfl (fun _ => rfl)
theorem x_124_2664  : exG TB d 124 2664 L [b1, b0] A = kc (evG TB d 159 [b0, b1] A) d 124 2667 L [] := x_cv (op := o_cs 159 2 false none) rfl rfl x_noh rfl
theorem x_124_2667  : exG TB d 124 2667 (a0 :: a1 :: a2 :: a3 :: a4 :: a5 :: a6 :: r9) (.int i1 :: st) A = exG TB d 124 2669 (a0 :: a1 :: a2 :: a3 :: a4 :: a5 :: some (.int i1) :: r9) st A := x_nx (op := o_istore 6 2) rfl rfl
theorem x_124_2669  : exG TB d 124 2669 (a0 :: a1 :: some v :: r9) st A = rg v (exG TB d 124 2670 (a0 :: a1 :: some v :: r9) (v :: st) A) := x_rg (op := o_aload 2 1) rfl rfl
theorem x_124_2670  : exG TB d 124 2670 (some v :: r9) st A = rg v (exG TB d 124 2671 (some v :: r9) (v :: st) A) := x_rg (op := o_aload 0 1) rfl rfl
theorem x_124_2671  : exG TB d 124 2671 (a0 :: a1 :: a2 :: a3 :: a4 :: some (.int i1) :: r9) st A = exG TB d 124 2673 (a0 :: a1 :: a2 :: a3 :: a4 :: some (.int i1) :: r9) (.int i1 :: st) A := x_nx (op := o_iload 5 2) rfl rfl
theorem x_124_2673  : exG TB d 124 2673 L st A = exG TB d 124 2674 L (.int (nI 1) :: st) A := x_nx (op := o_push 1 (.int 1)) rfl rfl
theorem x_124_2674  : exG TB d 124 2674 L (.int i2 :: .int i1 :: st) A = exG TB d 124 2675 L (.int (i1 + i2) :: st) A := x_nx (op := o_iop (fun x y => x + y)) rfl rfl
theorem x_124_2675  : exG TB d 124 2675 L (.int i1 :: .ref p :: st) A = ki (rdI 0 (gas A p) i1) d 124 2676 L st A := x_bd (op := o_rdIs 0) rfl rfl (fun _ => rfl)
theorem x_124_2676  : exG TB d 124 2676 L [b0, .ref p] A = kw0 (sel (gc A p) [(30, 406)]) [.ref p, b0] d 124 2679 L [] A := x_c0b (op := o_cv [(30, 406)] 1 3 true none) rfl rfl x_noh rfl
theorem x_124_2679  : exG TB d 124 2679 (a0 :: a1 :: some v :: r9) st A = rg v (exG TB d 124 2680 (a0 :: a1 :: some v :: r9) (v :: st) A) := x_rg (op := o_aload 2 1) rfl rfl
theorem x_124_2680  : exG TB d 124 2680 L [.ref p] A = kw (sel (gc A p) [(30, 289)]) [.ref p] d 124 2683 L [] A := x_cvb (op := o_cv [(30, 289)] 0 3 false none) rfl rfl x_noh rfl
theorem x_124_2683  : exG TB d 124 2683 (a0 :: a1 :: a2 :: a3 :: a4 :: a5 :: some (.int i1) :: r9) st A = exG TB d 124 2685 (a0 :: a1 :: a2 :: a3 :: a4 :: a5 :: some (.int i1) :: r9) (.int i1 :: st) A := x_nx (op := o_iload 6 2) rfl rfl
theorem x_124_2685  : exG TB d 124 2685 L (.int i2 :: .int i1 :: st) A = if i1 = i2 then exG TB d 124 2690 L st A else exG TB d 124 2688 L st A := x_if (op := o_icmp (fun x y => decide (x = y)) 2690) rfl rfl rfl
theorem x_124_2688  : exG TB d 124 2688 L st A = exG TB d 124 2689 L (.int (nI 0) :: st) A := x_nx (op := o_push 1 (.int 0)) rfl rfl
theorem x_124_2689  : exG TB d 124 2689 L [v] A = ck (okv 5 v) (some (.inl (some v), A)) := x_outg (op := o_ret 5) rfl rfl
theorem x_124_2690  : exG TB d 124 2690 L st A = exG TB d 124 2693 L st A := x_nx (op := o_goto 2693) rfl rfl
theorem x_124_2693  : exG TB d 124 2693 (a0 :: a1 :: a2 :: a3 :: a4 :: some (.int i1) :: r9) st A = exG TB d 124 2696 (a0 :: a1 :: a2 :: a3 :: a4 :: some (.int (i1 + (nI 5))) :: r9) st A := x_nx (op := o_iinc 5 5) rfl rfl
theorem x_124_2696  : exG TB d 124 2696 L st A = exG TB d 124 28 L st A := x_nx (op := o_goto 28) rfl rfl
theorem x_124_2699  : exG TB d 124 2699 L st A = exG TB d 124 2700 L (.int (nI 1) :: st) A := x_nx (op := o_push 1 (.int 1)) rfl rfl
theorem x_124_2700  : exG TB d 124 2700 L [v] A = ck (okv 5 v) (some (.inl (some v), A)) := x_outg (op := o_ret 5) rfl rfl
end
