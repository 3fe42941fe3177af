set_option maxRecDepth 100000
/-! each op is what its instruction does -/
def dkwX4_isWord_3 : List UInt8 := [3, 172]
abbrev dktX4_isWord_3 : List UInt8 := dkwX4_isWord_3 ++ []
def dkwX4_isWord_2 : List UInt8 := [20, 0, 123, 101, 65, 132, 4, 1, 167, 255, 226, 42, 180, 0, 107, 32, 148, 154, 0, 7, 4, 167, 0, 4]
abbrev dktX4_isWord_2 : List UInt8 := dkwX4_isWord_2 ++ dktX4_isWord_3
def dkwX4_isWord_1 : List UInt8 := [54, 4, 21, 4, 43, 182, 0, 129, 162, 0, 27, 20, 0, 121, 32, 105, 43, 21, 4, 182, 0, 135, 133, 97]
abbrev dktX4_isWord_1 : List UInt8 := dkwX4_isWord_1 ++ dktX4_isWord_2
def dkwX4_isWord_0 : List UInt8 := [42, 180, 0, 114, 5, 160, 0, 14, 42, 180, 0, 104, 43, 182, 0, 129, 159, 0, 5, 3, 172, 9, 65, 3]
abbrev dktX4_isWord_0 : List UInt8 := dkwX4_isWord_0 ++ dktX4_isWord_1
theorem dksX4_isWord_0 : cX4_isWord.data.toList.drop 0 = dktX4_isWord_0 := by decide +kernel
theorem dksX4_isWord_1 : cX4_isWord.data.toList.drop 24 = dktX4_isWord_1 := dk_seg dksX4_isWord_0 24 rfl rfl
theorem dksX4_isWord_2 : cX4_isWord.data.toList.drop 48 = dktX4_isWord_2 := dk_seg dksX4_isWord_1 24 rfl rfl
theorem dksX4_isWord_3 : cX4_isWord.data.toList.drop 72 = dktX4_isWord_3 := dk_seg dksX4_isWord_2 24 rfl rfl
theorem dX4_isWord_0 : decode cX4_isWord 0 = .ok (.aload_n 0, 1) := dk_42 (dk_at dksX4_isWord_0 0 rfl rfl)
theorem dX4_isWord_1 : decode cX4_isWord 1 = .ok (.getfield 114, 3) := dk_180 0 114 (dk_at dksX4_isWord_0 1 rfl rfl)
theorem dX4_isWord_4 : decode cX4_isWord 4 = .ok (.iconst 2, 1) := dk_5 (dk_at dksX4_isWord_0 4 rfl rfl)
theorem dX4_isWord_5 : decode cX4_isWord 5 = .ok (.if_icmp .ne 14, 3) := dk_160 0 14 (dk_at dksX4_isWord_0 5 rfl rfl)
theorem dX4_isWord_8 : decode cX4_isWord 8 = .ok (.aload_n 0, 1) := dk_42 (dk_at dksX4_isWord_0 8 rfl rfl)
theorem dX4_isWord_9 : decode cX4_isWord 9 = .ok (.getfield 104, 3) := dk_180 0 104 (dk_at dksX4_isWord_0 9 rfl rfl)
theorem dX4_isWord_12 : decode cX4_isWord 12 = .ok (.aload_n 1, 1) := dk_43 (dk_at dksX4_isWord_0 12 rfl rfl)
theorem dX4_isWord_13 : decode cX4_isWord 13 = .ok (.invokevirtual 129, 3) := dk_182 0 129 (dk_at dksX4_isWord_0 13 rfl rfl)
theorem dX4_isWord_16 : decode cX4_isWord 16 = .ok (.if_icmp .eq 5, 3) := dk_159 0 5 (dk_at dksX4_isWord_0 16 rfl rfl)
theorem dX4_isWord_19 : decode cX4_isWord 19 = .ok (.iconst 0, 1) := dk_3 (dk_at dksX4_isWord_0 19 rfl rfl)
theorem dX4_isWord_20 : decode cX4_isWord 20 = .ok (.ireturn, 1) := dk_172 (dk_at dksX4_isWord_0 20 rfl rfl)
theorem dX4_isWord_21 : decode cX4_isWord 21 = .ok (.lconst 0, 1) := dk_9 (dk_at dksX4_isWord_0 21 rfl rfl)
theorem dX4_isWord_22 : decode cX4_isWord 22 = .ok (.lstore_n 2, 1) := dk_65 (dk_at dksX4_isWord_0 22 rfl rfl)
theorem dX4_isWord_23 : decode cX4_isWord 23 = .ok (.iconst 0, 1) := dk_3 (dk_at dksX4_isWord_0 23 rfl rfl)
theorem dX4_isWord_24 : decode cX4_isWord 24 = .ok (.istore 4, 2) := dk_54 4 (dk_at dksX4_isWord_1 0 rfl rfl)
theorem dX4_isWord_26 : decode cX4_isWord 26 = .ok (.iload 4, 2) := dk_21 4 (dk_at dksX4_isWord_1 2 rfl rfl)
theorem dX4_isWord_28 : decode cX4_isWord 28 = .ok (.aload_n 1, 1) := dk_43 (dk_at dksX4_isWord_1 4 rfl rfl)
theorem dX4_isWord_29 : decode cX4_isWord 29 = .ok (.invokevirtual 129, 3) := dk_182 0 129 (dk_at dksX4_isWord_1 5 rfl rfl)
theorem dX4_isWord_32 : decode cX4_isWord 32 = .ok (.if_icmp .ge 27, 3) := dk_162 0 27 (dk_at dksX4_isWord_1 8 rfl rfl)
theorem dX4_isWord_35 : decode cX4_isWord 35 = .ok (.ldc2_w 121, 3) := dk_20 0 121 (dk_at dksX4_isWord_1 11 rfl rfl)
theorem dX4_isWord_38 : decode cX4_isWord 38 = .ok (.lload_n 2, 1) := dk_32 (dk_at dksX4_isWord_1 14 rfl rfl)
theorem dX4_isWord_39 : decode cX4_isWord 39 = .ok (.lmul, 1) := dk_105 (dk_at dksX4_isWord_1 15 rfl rfl)
theorem dX4_isWord_40 : decode cX4_isWord 40 = .ok (.aload_n 1, 1) := dk_43 (dk_at dksX4_isWord_1 16 rfl rfl)
theorem dX4_isWord_41 : decode cX4_isWord 41 = .ok (.iload 4, 2) := dk_21 4 (dk_at dksX4_isWord_1 17 rfl rfl)
theorem dX4_isWord_43 : decode cX4_isWord 43 = .ok (.invokevirtual 135, 3) := dk_182 0 135 (dk_at dksX4_isWord_1 19 rfl rfl)
theorem dX4_isWord_46 : decode cX4_isWord 46 = .ok (.i2l, 1) := dk_133 (dk_at dksX4_isWord_1 22 rfl rfl)
theorem dX4_isWord_47 : decode cX4_isWord 47 = .ok (.ladd, 1) := dk_97 (dk_at dksX4_isWord_1 23 rfl rfl)
theorem dX4_isWord_48 : decode cX4_isWord 48 = .ok (.ldc2_w 123, 3) := dk_20 0 123 (dk_at dksX4_isWord_2 0 rfl rfl)
theorem dX4_isWord_51 : decode cX4_isWord 51 = .ok (.lsub, 1) := dk_101 (dk_at dksX4_isWord_2 3 rfl rfl)
theorem dX4_isWord_52 : decode cX4_isWord 52 = .ok (.lstore_n 2, 1) := dk_65 (dk_at dksX4_isWord_2 4 rfl rfl)
theorem dX4_isWord_53 : decode cX4_isWord 53 = .ok (.iinc 4 1, 3) := dk_132 4 1 (dk_at dksX4_isWord_2 5 rfl rfl)
theorem dX4_isWord_56 : decode cX4_isWord 56 = .ok (.goto (-30), 3) := dk_167 255 226 (dk_at dksX4_isWord_2 8 rfl rfl)
theorem dX4_isWord_59 : decode cX4_isWord 59 = .ok (.aload_n 0, 1) := dk_42 (dk_at dksX4_isWord_2 11 rfl rfl)
theorem dX4_isWord_60 : decode cX4_isWord 60 = .ok (.getfield 107, 3) := dk_180 0 107 (dk_at dksX4_isWord_2 12 rfl rfl)
theorem dX4_isWord_63 : decode cX4_isWord 63 = .ok (.lload_n 2, 1) := dk_32 (dk_at dksX4_isWord_2 15 rfl rfl)
theorem dX4_isWord_64 : decode cX4_isWord 64 = .ok (.lcmp, 1) := dk_148 (dk_at dksX4_isWord_2 16 rfl rfl)
theorem dX4_isWord_65 : decode cX4_isWord 65 = .ok (.ifCond .ne 7, 3) := dk_154 0 7 (dk_at dksX4_isWord_2 17 rfl rfl)
theorem dX4_isWord_68 : decode cX4_isWord 68 = .ok (.iconst 1, 1) := dk_4 (dk_at dksX4_isWord_2 20 rfl rfl)
theorem dX4_isWord_69 : decode cX4_isWord 69 = .ok (.goto 4, 3) := dk_167 0 4 (dk_at dksX4_isWord_2 21 rfl rfl)
theorem dX4_isWord_72 : decode cX4_isWord 72 = .ok (.iconst 0, 1) := dk_3 (dk_at dksX4_isWord_3 0 rfl rfl)
theorem dX4_isWord_73 : decode cX4_isWord 73 = .ok (.ireturn, 1) := dk_172 (dk_at dksX4_isWord_3 1 rfl rfl)
theorem c_302_0 : LkP (OkP 302) [(0, o_aload 0 1), (1, o_get 160), (4, o_push 1 (.int 2)), (5, o_icmp (fun x y => decide (¬ x = y)) 19), (8, o_aload 0 1), (9, o_get 161), (12, o_aload 1 1), (13, o_cvs [(5, 115)] 0 3 false), (16, o_icmp (fun x y => decide (x = y)) 21), (19, o_push 1 (.int 0)), (20, o_ret 5), (21, o_push 1 (.long 0)), (22, o_lstore 2 1), (23, o_push 1 (.int 0)), (24, o_istore 4 2), (26, o_iload 4 2), (28, o_aload 1 1), (29, o_cvs [(5, 115)] 0 3 false), (32, o_icmp (fun x y => decide (y ≤ x)) 59), (35, o_push 3 (.long 27)), (38, o_lload 2 1), (39, o_lop (fun x y => x * y)), (40, o_aload 1 1), (41, o_iload 4 2), (43, o_cvs [(5, 123)] 1 3 false), (46, o_i2l), (47, o_lop (fun x y => x + y)), (48, o_push 3 (.long 96)), (51, o_lop (fun x y => x - y)), (52, o_lstore 2 1), (53, o_iinc 4 1), (56, o_goto 26), (59, o_aload 0 1), (60, o_get 165), (63, o_lload 2 1)] := lkp_c (P := OkP 302) ⟨(PuOK.ok (ok_aload_n dX4_isWord_0 rfl)), m_aload⟩ (
  lkp_c (P := OkP 302) ⟨ok_get ⟨"TollRoadModel", q3092, Or.inl rfl⟩ dX4_isWord_1, m_get⟩ (
  lkp_c (P := OkP 302) ⟨(PuOK.ok (ok_iconst dX4_isWord_4 rfl)), m_push⟩ (
  lkp_c (P := OkP 302) ⟨(PuOK.ok (ok_icmp_ne dX4_isWord_5 rfl)), m_icmp⟩ (
  lkp_c (P := OkP 302) ⟨(PuOK.ok (ok_aload_n dX4_isWord_8 rfl)), m_aload⟩ (
  lkp_c (P := OkP 302) ⟨ok_get ⟨"TollRoadModel", q3093, Or.inl rfl⟩ dX4_isWord_9, m_get⟩ (
  lkp_c (P := OkP 302) ⟨(PuOK.ok (ok_aload_n dX4_isWord_12 rfl)), m_aload⟩ (
  lkp_c (P := OkP 302) ⟨ok_cvs (List.forall_mem_cons.mpr ⟨tg_V (ci := 5) (r := CLr 5) (y := 115) rfl ⟨rfl, by decide⟩ rfl q3254 q411 q412 q127 q413 ⟨cn_5.1, cn_5.2, pd_13⟩ dX4_isWord_13, (List.forall_mem_nil _)⟩) hd_no, m_cvs⟩ (
  lkp_c (P := OkP 302) ⟨(PuOK.ok (ok_icmp_eq dX4_isWord_16 rfl)), m_icmp⟩ (
  lkp_c (P := OkP 302) ⟨(PuOK.ok (ok_iconst dX4_isWord_19 rfl)), m_push⟩ (
  lkp_c (P := OkP 302) ⟨ok_iret rfl rfl (by decide) dX4_isWord_20, m_ret⟩ (
  lkp_c (P := OkP 302) ⟨(PuOK.ok (ok_lconst dX4_isWord_21 rfl)), m_push⟩ (
  lkp_c (P := OkP 302) ⟨(PuOK.ok (ok_lstore_n dX4_isWord_22 rfl)), m_lstore⟩ (
  lkp_c (P := OkP 302) ⟨(PuOK.ok (ok_iconst dX4_isWord_23 rfl)), m_push⟩ (
  lkp_c (P := OkP 302) ⟨(PuOK.ok (ok_istore dX4_isWord_24)), m_istore⟩ (
  lkp_c (P := OkP 302) ⟨(PuOK.ok (ok_iload dX4_isWord_26)), m_iload⟩ (
  lkp_c (P := OkP 302) ⟨(PuOK.ok (ok_aload_n dX4_isWord_28 rfl)), m_aload⟩ (
  lkp_c (P := OkP 302) ⟨ok_cvs (List.forall_mem_cons.mpr ⟨tg_V (ci := 5) (r := CLr 5) (y := 115) rfl ⟨rfl, by decide⟩ rfl q3254 q411 q412 q127 q413 ⟨cn_5.1, cn_5.2, pd_13⟩ dX4_isWord_29, (List.forall_mem_nil _)⟩) hd_no, m_cvs⟩ (
  lkp_c (P := OkP 302) ⟨(PuOK.ok (ok_icmp_ge dX4_isWord_32 rfl)), m_icmp⟩ (
  lkp_c (P := OkP 302) ⟨(PuOK.ok (ok_ldc2 q3235 dX4_isWord_35)), m_push⟩ (
  lkp_c (P := OkP 302) ⟨(PuOK.ok (ok_lload_n dX4_isWord_38 rfl)), m_lload⟩ (
  lkp_c (P := OkP 302) ⟨(PuOK.ok (ok_lmul dX4_isWord_39)), m_lop⟩ (
  lkp_c (P := OkP 302) ⟨(PuOK.ok (ok_aload_n dX4_isWord_40 rfl)), m_aload⟩ (
  lkp_c (P := OkP 302) ⟨(PuOK.ok (ok_iload dX4_isWord_41)), m_iload⟩ (
  lkp_c (P := OkP 302) ⟨ok_cvs (List.forall_mem_cons.mpr ⟨tg_V (ci := 5) (r := CLr 5) (y := 123) rfl ⟨rfl, by decide⟩ rfl q3255 q3256 q3257 q127 q3258 ⟨cn_5.1, cn_5.2, pd_125⟩ dX4_isWord_43, (List.forall_mem_nil _)⟩) hd_no, m_cvs⟩ (
  lkp_c (P := OkP 302) ⟨(PuOK.ok (ok_i2l dX4_isWord_46)), m_i2l⟩ (
  lkp_c (P := OkP 302) ⟨(PuOK.ok (ok_ladd dX4_isWord_47)), m_lop⟩ (
  lkp_c (P := OkP 302) ⟨(PuOK.ok (ok_ldc2 q3236 dX4_isWord_48)), m_push⟩ (
  lkp_c (P := OkP 302) ⟨(PuOK.ok (ok_lsub dX4_isWord_51)), m_lop⟩ (
  lkp_c (P := OkP 302) ⟨(PuOK.ok (ok_lstore_n dX4_isWord_52 rfl)), m_lstore⟩ (
  lkp_c (P := OkP 302) ⟨(PuOK.ok (ok_iinc dX4_isWord_53 rfl)), m_iinc⟩ (
  lkp_c (P := OkP 302) ⟨(PuOK.ok (ok_goto dX4_isWord_56 rfl)), m_goto⟩ (
  lkp_c (P := OkP 302) ⟨(PuOK.ok (ok_aload_n dX4_isWord_59 rfl)), m_aload⟩ (
  lkp_c (P := OkP 302) ⟨ok_get ⟨"TollRoadModel", q3097, Or.inl rfl⟩ dX4_isWord_60, m_get⟩ (
  lkp_c (P := OkP 302) ⟨(PuOK.ok (ok_lload_n dX4_isWord_63 rfl)), m_lload⟩ (
  trivial)))))))))))))))))))))))))))))))))))
theorem c_302_1 : LkP (OkP 302) [(64, o_lcmp), (65, o_if (fun x => decide (¬ x = 0)) 72), (68, o_push 1 (.int 1)), (69, o_goto 73), (72, o_push 1 (.int 0)), (73, o_ret 5)] := lkp_c (P := OkP 302) ⟨(PuOK.ok (ok_lcmp dX4_isWord_64)), m_lcmp⟩ (
  lkp_c (P := OkP 302) ⟨(PuOK.ok (ok_if_ne dX4_isWord_65 rfl)), m_if⟩ (
  lkp_c (P := OkP 302) ⟨(PuOK.ok (ok_iconst dX4_isWord_68 rfl)), m_push⟩ (
  lkp_c (P := OkP 302) ⟨(PuOK.ok (ok_goto dX4_isWord_69 rfl)), m_goto⟩ (
  lkp_c (P := OkP 302) ⟨(PuOK.ok (ok_iconst dX4_isWord_72 rfl)), m_push⟩ (
  lkp_c (P := OkP 302) ⟨ok_iret rfl rfl (by decide) dX4_isWord_73, m_ret⟩ (
  trivial))))))
theorem mt_302 : MtOK TB NT IT 302 := ⟨by decide +kernel, rfl, (fun h => by cases h), Or.inl ⟨rfl, rfl⟩, rfl, by decide, lk2_all (P := OkP 302) ⟨c_302_0, c_302_1, trivial⟩⟩
def dkwX4_parseGantry_2 : List UInt8 := [177]
abbrev dktX4_parseGantry_2 : List UInt8 := dkwX4_parseGantry_2 ++ []
def dkwX4_parseGantry_1 : List UInt8 := [182, 0, 161, 42, 3, 16, 99, 182, 0, 164, 60, 42, 182, 0, 142, 153, 0, 9, 42, 27, 182, 0, 168, 61]
abbrev dktX4_parseGantry_1 : List UInt8 := dkwX4_parseGantry_1 ++ dktX4_parseGantry_2
def dkwX4_parseGantry_0 : List UInt8 := [42, 42, 180, 0, 7, 16, 8, 46, 16, 12, 162, 0, 7, 4, 167, 0, 4, 3, 6, 182, 0, 153, 42]
abbrev dktX4_parseGantry_0 : List UInt8 := dkwX4_parseGantry_0 ++ dktX4_parseGantry_1
theorem dksX4_parseGantry_0 : cX4_parseGantry.data.toList.drop 0 = dktX4_parseGantry_0 := by decide +kernel
theorem dksX4_parseGantry_1 : cX4_parseGantry.data.toList.drop 23 = dktX4_parseGantry_1 := dk_seg dksX4_parseGantry_0 23 rfl rfl
theorem dksX4_parseGantry_2 : cX4_parseGantry.data.toList.drop 47 = dktX4_parseGantry_2 := dk_seg dksX4_parseGantry_1 24 rfl rfl
theorem dX4_parseGantry_0 : decode cX4_parseGantry 0 = .ok (.aload_n 0, 1) := dk_42 (dk_at dksX4_parseGantry_0 0 rfl rfl)
theorem dX4_parseGantry_1 : decode cX4_parseGantry 1 = .ok (.aload_n 0, 1) := dk_42 (dk_at dksX4_parseGantry_0 1 rfl rfl)
theorem dX4_parseGantry_2 : decode cX4_parseGantry 2 = .ok (.getfield 7, 3) := dk_180 0 7 (dk_at dksX4_parseGantry_0 2 rfl rfl)
theorem dX4_parseGantry_5 : decode cX4_parseGantry 5 = .ok (.bipush 8, 2) := dk_16 8 (dk_at dksX4_parseGantry_0 5 rfl rfl)
theorem dX4_parseGantry_7 : decode cX4_parseGantry 7 = .ok (.iaload, 1) := dk_46 (dk_at dksX4_parseGantry_0 7 rfl rfl)
theorem dX4_parseGantry_8 : decode cX4_parseGantry 8 = .ok (.bipush 12, 2) := dk_16 12 (dk_at dksX4_parseGantry_0 8 rfl rfl)
theorem dX4_parseGantry_10 : decode cX4_parseGantry 10 = .ok (.if_icmp .ge 7, 3) := dk_162 0 7 (dk_at dksX4_parseGantry_0 10 rfl rfl)
theorem dX4_parseGantry_13 : decode cX4_parseGantry 13 = .ok (.iconst 1, 1) := dk_4 (dk_at dksX4_parseGantry_0 13 rfl rfl)
theorem dX4_parseGantry_14 : decode cX4_parseGantry 14 = .ok (.goto 4, 3) := dk_167 0 4 (dk_at dksX4_parseGantry_0 14 rfl rfl)
theorem dX4_parseGantry_17 : decode cX4_parseGantry 17 = .ok (.iconst 0, 1) := dk_3 (dk_at dksX4_parseGantry_0 17 rfl rfl)
theorem dX4_parseGantry_18 : decode cX4_parseGantry 18 = .ok (.iconst 3, 1) := dk_6 (dk_at dksX4_parseGantry_0 18 rfl rfl)
theorem dX4_parseGantry_19 : decode cX4_parseGantry 19 = .ok (.invokevirtual 153, 3) := dk_182 0 153 (dk_at dksX4_parseGantry_0 19 rfl rfl)
theorem dX4_parseGantry_22 : decode cX4_parseGantry 22 = .ok (.aload_n 0, 1) := dk_42 (dk_at dksX4_parseGantry_0 22 rfl rfl)
theorem dX4_parseGantry_23 : decode cX4_parseGantry 23 = .ok (.invokevirtual 161, 3) := dk_182 0 161 (dk_at dksX4_parseGantry_1 0 rfl rfl)
theorem dX4_parseGantry_26 : decode cX4_parseGantry 26 = .ok (.aload_n 0, 1) := dk_42 (dk_at dksX4_parseGantry_1 3 rfl rfl)
theorem dX4_parseGantry_27 : decode cX4_parseGantry 27 = .ok (.iconst 0, 1) := dk_3 (dk_at dksX4_parseGantry_1 4 rfl rfl)
theorem dX4_parseGantry_28 : decode cX4_parseGantry 28 = .ok (.bipush 99, 2) := dk_16 99 (dk_at dksX4_parseGantry_1 5 rfl rfl)
theorem dX4_parseGantry_30 : decode cX4_parseGantry 30 = .ok (.invokevirtual 164, 3) := dk_182 0 164 (dk_at dksX4_parseGantry_1 7 rfl rfl)
theorem dX4_parseGantry_33 : decode cX4_parseGantry 33 = .ok (.istore_n 1, 1) := dk_60 (dk_at dksX4_parseGantry_1 10 rfl rfl)
theorem dX4_parseGantry_34 : decode cX4_parseGantry 34 = .ok (.aload_n 0, 1) := dk_42 (dk_at dksX4_parseGantry_1 11 rfl rfl)
theorem dX4_parseGantry_35 : decode cX4_parseGantry 35 = .ok (.invokevirtual 142, 3) := dk_182 0 142 (dk_at dksX4_parseGantry_1 12 rfl rfl)
theorem dX4_parseGantry_38 : decode cX4_parseGantry 38 = .ok (.ifCond .eq 9, 3) := dk_153 0 9 (dk_at dksX4_parseGantry_1 15 rfl rfl)
theorem dX4_parseGantry_41 : decode cX4_parseGantry 41 = .ok (.aload_n 0, 1) := dk_42 (dk_at dksX4_parseGantry_1 18 rfl rfl)
theorem dX4_parseGantry_42 : decode cX4_parseGantry 42 = .ok (.iload_n 1, 1) := dk_27 (dk_at dksX4_parseGantry_1 19 rfl rfl)
theorem dX4_parseGantry_43 : decode cX4_parseGantry 43 = .ok (.invokevirtual 168, 3) := dk_182 0 168 (dk_at dksX4_parseGantry_1 20 rfl rfl)
theorem dX4_parseGantry_46 : decode cX4_parseGantry 46 = .ok (.istore_n 2, 1) := dk_61 (dk_at dksX4_parseGantry_1 23 rfl rfl)
theorem dX4_parseGantry_47 : decode cX4_parseGantry 47 = .ok (.return_, 1) := dk_177 (dk_at dksX4_parseGantry_2 0 rfl rfl)
theorem c_303_0 : LkP (OkP 303) [(0, o_aload 0 1), (1, o_aload 0 1), (2, o_get 148), (5, o_push 2 (.int 8)), (7, o_rdI 0), (8, o_push 2 (.int 12)), (10, o_icmp (fun x y => decide (y ≤ x)) 17), (13, o_push 1 (.int 1)), (14, o_goto 18), (17, o_push 1 (.int 0)), (18, o_push 1 (.int 3)), (19, o_cv [(30, 304)] 2 3 true none), (22, o_aload 0 1), (23, o_cv [(30, 305)] 0 3 true none), (26, o_aload 0 1), (27, o_push 1 (.int 0)), (28, o_push 2 (.int 99)), (30, o_cv [(30, 306)] 2 3 false none), (33, o_istore 1 1), (34, o_aload 0 1), (35, o_cv [(30, 300)] 0 3 false none), (38, o_if (fun x => decide (x = 0)) 47), (41, o_aload 0 1), (42, o_iload 1 1), (43, o_cv [(30, 308)] 1 3 false none), (46, o_istore 2 1), (47, o_vret)] := lkp_c (P := OkP 303) ⟨(PuOK.ok (ok_aload_n dX4_parseGantry_0 rfl)), m_aload⟩ (
  lkp_c (P := OkP 303) ⟨(PuOK.ok (ok_aload_n dX4_parseGantry_1 rfl)), m_aload⟩ (
  lkp_c (P := OkP 303) ⟨ok_get ⟨"TollRoadModel", q3080, Or.inl rfl⟩ dX4_parseGantry_2, m_get⟩ (
  lkp_c (P := OkP 303) ⟨(PuOK.ok (ok_bipush dX4_parseGantry_5 rfl)), m_push⟩ (
  lkp_c (P := OkP 303) ⟨ok_iald dX4_parseGantry_7, m_rdI⟩ (
  lkp_c (P := OkP 303) ⟨(PuOK.ok (ok_bipush dX4_parseGantry_8 rfl)), m_push⟩ (
  lkp_c (P := OkP 303) ⟨(PuOK.ok (ok_icmp_ge dX4_parseGantry_10 rfl)), m_icmp⟩ (
  lkp_c (P := OkP 303) ⟨(PuOK.ok (ok_iconst dX4_parseGantry_13 rfl)), m_push⟩ (
  lkp_c (P := OkP 303) ⟨(PuOK.ok (ok_goto dX4_parseGantry_14 rfl)), m_goto⟩ (
  lkp_c (P := OkP 303) ⟨(PuOK.ok (ok_iconst dX4_parseGantry_17 rfl)), m_push⟩ (
  lkp_c (P := OkP 303) ⟨(PuOK.ok (ok_iconst dX4_parseGantry_18 rfl)), m_push⟩ (
  lkp_c (P := OkP 303) ⟨ok_cv (List.forall_mem_cons.mpr ⟨tg_V (ci := 30) (r := CLr 30) (y := 304) rfl ⟨rfl, by decide⟩ rfl q3270 q3272 qs49 q139 q3273 ⟨cn_34.1, cn_34.2, pd_124⟩ dX4_parseGantry_19, (List.forall_mem_nil _)⟩) hd_no, m_cv⟩ (
  lkp_c (P := OkP 303) ⟨(PuOK.ok (ok_aload_n dX4_parseGantry_22 rfl)), m_aload⟩ (
  lkp_c (P := OkP 303) ⟨ok_cv (List.forall_mem_cons.mpr ⟨tg_V (ci := 30) (r := CLr 30) (y := 305) rfl ⟨rfl, by decide⟩ rfl q3274 q3276 qs50 q139 q3277 ⟨cn_34.1, cn_34.2, pd_0⟩ dX4_parseGantry_23, (List.forall_mem_nil _)⟩) hd_no, m_cv⟩ (
  lkp_c (P := OkP 303) ⟨(PuOK.ok (ok_aload_n dX4_parseGantry_26 rfl)), m_aload⟩ (
  lkp_c (P := OkP 303) ⟨(PuOK.ok (ok_iconst dX4_parseGantry_27 rfl)), m_push⟩ (
  lkp_c (P := OkP 303) ⟨(PuOK.ok (ok_bipush dX4_parseGantry_28 rfl)), m_push⟩ (
  lkp_c (P := OkP 303) ⟨ok_cv (List.forall_mem_cons.mpr ⟨tg_V (ci := 30) (r := CLr 30) (y := 306) rfl ⟨rfl, by decide⟩ rfl q3278 q3280 qs51 q139 q3281 ⟨cn_34.1, cn_34.2, pd_1⟩ dX4_parseGantry_30, (List.forall_mem_nil _)⟩) hd_no, m_cv⟩ (
  lkp_c (P := OkP 303) ⟨(PuOK.ok (ok_istore_n dX4_parseGantry_33 rfl)), m_istore⟩ (
  lkp_c (P := OkP 303) ⟨(PuOK.ok (ok_aload_n dX4_parseGantry_34 rfl)), m_aload⟩ (
  lkp_c (P := OkP 303) ⟨ok_cv (List.forall_mem_cons.mpr ⟨tg_V (ci := 30) (r := CLr 30) (y := 300) rfl ⟨rfl, by decide⟩ rfl q3241 q3243 qs45 q139 q3244 ⟨cn_34.1, cn_34.2, pd_50⟩ dX4_parseGantry_35, (List.forall_mem_nil _)⟩) hd_no, m_cv⟩ (
  lkp_c (P := OkP 303) ⟨(PuOK.ok (ok_if_eq dX4_parseGantry_38 rfl)), m_if⟩ (
  lkp_c (P := OkP 303) ⟨(PuOK.ok (ok_aload_n dX4_parseGantry_41 rfl)), m_aload⟩ (
  lkp_c (P := OkP 303) ⟨(PuOK.ok (ok_iload_n dX4_parseGantry_42 rfl)), m_iload⟩ (
  lkp_c (P := OkP 303) ⟨ok_cv (List.forall_mem_cons.mpr ⟨tg_V (ci := 30) (r := CLr 30) (y := 308) rfl ⟨rfl, by decide⟩ rfl q3286 q3288 qs53 q139 q3289 ⟨cn_34.1, cn_34.2, pd_48⟩ dX4_parseGantry_43, (List.forall_mem_nil _)⟩) hd_no, m_cv⟩ (
  lkp_c (P := OkP 303) ⟨(PuOK.ok (ok_istore_n dX4_parseGantry_46 rfl)), m_istore⟩ (
  lkp_c (P := OkP 303) ⟨ok_vret rfl dX4_parseGantry_47, m_vret⟩ (
  trivial)))))))))))))))))))))))))))
theorem mt_303 : MtOK TB NT IT 303 := ⟨by decide +kernel, rfl, (fun h => by cases h), Or.inl ⟨rfl, rfl⟩, rfl, by decide, lk2_all (P := OkP 303) ⟨c_303_0, trivial⟩⟩
def dkwX4_require_1 : List UInt8 := [177]
abbrev dktX4_require_1 : List UInt8 := dkwX4_require_1 ++ []
def dkwX4_require_0 : List UInt8 := [27, 154, 0, 23, 42, 180, 0, 139, 154, 0, 16, 42, 28, 181, 0, 139, 42, 42, 180, 0, 101, 181, 0, 35]
abbrev dktX4_require_0 : List UInt8 := dkwX4_require_0 ++ dktX4_require_1
theorem dksX4_require_0 : cX4_require.data.toList.drop 0 = dktX4_require_0 := by decide +kernel
theorem dksX4_require_1 : cX4_require.data.toList.drop 24 = dktX4_require_1 := dk_seg dksX4_require_0 24 rfl rfl
theorem dX4_require_0 : decode cX4_require 0 = .ok (.iload_n 1, 1) := dk_27 (dk_at dksX4_require_0 0 rfl rfl)
theorem dX4_require_1 : decode cX4_require 1 = .ok (.ifCond .ne 23, 3) := dk_154 0 23 (dk_at dksX4_require_0 1 rfl rfl)
theorem dX4_require_4 : decode cX4_require 4 = .ok (.aload_n 0, 1) := dk_42 (dk_at dksX4_require_0 4 rfl rfl)
theorem dX4_require_5 : decode cX4_require 5 = .ok (.getfield 139, 3) := dk_180 0 139 (dk_at dksX4_require_0 5 rfl rfl)
theorem dX4_require_8 : decode cX4_require 8 = .ok (.ifCond .ne 16, 3) := dk_154 0 16 (dk_at dksX4_require_0 8 rfl rfl)
theorem dX4_require_11 : decode cX4_require 11 = .ok (.aload_n 0, 1) := dk_42 (dk_at dksX4_require_0 11 rfl rfl)
theorem dX4_require_12 : decode cX4_require 12 = .ok (.iload_n 2, 1) := dk_28 (dk_at dksX4_require_0 12 rfl rfl)
theorem dX4_require_13 : decode cX4_require 13 = .ok (.putfield 139, 3) := dk_181 0 139 (dk_at dksX4_require_0 13 rfl rfl)
theorem dX4_require_16 : decode cX4_require 16 = .ok (.aload_n 0, 1) := dk_42 (dk_at dksX4_require_0 16 rfl rfl)
theorem dX4_require_17 : decode cX4_require 17 = .ok (.aload_n 0, 1) := dk_42 (dk_at dksX4_require_0 17 rfl rfl)
theorem dX4_require_18 : decode cX4_require 18 = .ok (.getfield 101, 3) := dk_180 0 101 (dk_at dksX4_require_0 18 rfl rfl)
theorem dX4_require_21 : decode cX4_require 21 = .ok (.putfield 35, 3) := dk_181 0 35 (dk_at dksX4_require_0 21 rfl rfl)
theorem dX4_require_24 : decode cX4_require 24 = .ok (.return_, 1) := dk_177 (dk_at dksX4_require_1 0 rfl rfl)
theorem c_304_0 : LkP (OkP 304) [(0, o_iload 1 1), (1, o_if (fun x => decide (¬ x = 0)) 24), (4, o_aload 0 1), (5, o_get 163), (8, o_if (fun x => decide (¬ x = 0)) 24), (11, o_aload 0 1), (12, o_iload 2 1), (13, o_put 163 1), (16, o_aload 0 1), (17, o_aload 0 1), (18, o_get 159), (21, o_put 164 1), (24, o_vret)] := lkp_c (P := OkP 304) ⟨(PuOK.ok (ok_iload_n dX4_require_0 rfl)), m_iload⟩ (
  lkp_c (P := OkP 304) ⟨(PuOK.ok (ok_if_ne dX4_require_1 rfl)), m_if⟩ (
  lkp_c (P := OkP 304) ⟨(PuOK.ok (ok_aload_n dX4_require_4 rfl)), m_aload⟩ (
  lkp_c (P := OkP 304) ⟨ok_get ⟨"TollRoadModel", q3095, Or.inl rfl⟩ dX4_require_5, m_get⟩ (
  lkp_c (P := OkP 304) ⟨(PuOK.ok (ok_if_ne dX4_require_8 rfl)), m_if⟩ (
  lkp_c (P := OkP 304) ⟨(PuOK.ok (ok_aload_n dX4_require_11 rfl)), m_aload⟩ (
  lkp_c (P := OkP 304) ⟨(PuOK.ok (ok_iload_n dX4_require_12 rfl)), m_iload⟩ (
  lkp_c (P := OkP 304) ⟨ok_put ⟨"TollRoadModel", q3095, Or.inl rfl⟩ rfl fd_163 rfl dX4_require_13, m_put⟩ (
  lkp_c (P := OkP 304) ⟨(PuOK.ok (ok_aload_n dX4_require_16 rfl)), m_aload⟩ (
  lkp_c (P := OkP 304) ⟨(PuOK.ok (ok_aload_n dX4_require_17 rfl)), m_aload⟩ (
  lkp_c (P := OkP 304) ⟨ok_get ⟨"TollRoadModel", q3091, Or.inl rfl⟩ dX4_require_18, m_get⟩ (
  lkp_c (P := OkP 304) ⟨ok_put ⟨"TollRoadModel", q3096, Or.inl rfl⟩ rfl fd_164 rfl dX4_require_21, m_put⟩ (
  lkp_c (P := OkP 304) ⟨ok_vret rfl dX4_require_24, m_vret⟩ (
  trivial)))))))))))))
theorem mt_304 : MtOK TB NT IT 304 := ⟨by decide +kernel, rfl, (fun h => by cases h), Or.inl ⟨rfl, rfl⟩, rfl, by decide, lk2_all (P := OkP 304) ⟨c_304_0, trivial⟩⟩
def dkwX4_advance_0 : List UInt8 := [42, 182, 0, 142, 153, 0, 7, 42, 182, 0, 146, 177]
abbrev dktX4_advance_0 : List UInt8 := dkwX4_advance_0 ++ []
theorem dksX4_advance_0 : cX4_advance.data.toList.drop 0 = dktX4_advance_0 := by decide +kernel
theorem dX4_advance_0 : decode cX4_advance 0 = .ok (.aload_n 0, 1) := dk_42 (dk_at dksX4_advance_0 0 rfl rfl)
theorem dX4_advance_1 : decode cX4_advance 1 = .ok (.invokevirtual 142, 3) := dk_182 0 142 (dk_at dksX4_advance_0 1 rfl rfl)
theorem dX4_advance_4 : decode cX4_advance 4 = .ok (.ifCond .eq 7, 3) := dk_153 0 7 (dk_at dksX4_advance_0 4 rfl rfl)
theorem dX4_advance_7 : decode cX4_advance 7 = .ok (.aload_n 0, 1) := dk_42 (dk_at dksX4_advance_0 7 rfl rfl)
theorem dX4_advance_8 : decode cX4_advance 8 = .ok (.invokevirtual 146, 3) := dk_182 0 146 (dk_at dksX4_advance_0 8 rfl rfl)
theorem dX4_advance_11 : decode cX4_advance 11 = .ok (.return_, 1) := dk_177 (dk_at dksX4_advance_0 11 rfl rfl)
theorem c_305_0 : LkP (OkP 305) [(0, o_aload 0 1), (1, o_cv [(30, 300)] 0 3 false none), (4, o_if (fun x => decide (x = 0)) 11), (7, o_aload 0 1), (8, o_cv [(30, 296)] 0 3 true none), (11, o_vret)] := lkp_c (P := OkP 305) ⟨(PuOK.ok (ok_aload_n dX4_advance_0 rfl)), m_aload⟩ (
  lkp_c (P := OkP 305) ⟨ok_cv (List.forall_mem_cons.mpr ⟨tg_V (ci := 30) (r := CLr 30) (y := 300) rfl ⟨rfl, by decide⟩ rfl q3241 q3243 qs45 q139 q3244 ⟨cn_34.1, cn_34.2, pd_50⟩ dX4_advance_1, (List.forall_mem_nil _)⟩) hd_no, m_cv⟩ (
  lkp_c (P := OkP 305) ⟨(PuOK.ok (ok_if_eq dX4_advance_4 rfl)), m_if⟩ (
  lkp_c (P := OkP 305) ⟨(PuOK.ok (ok_aload_n dX4_advance_7 rfl)), m_aload⟩ (
  lkp_c (P := OkP 305) ⟨ok_cv (List.forall_mem_cons.mpr ⟨tg_V (ci := 30) (r := CLr 30) (y := 296) rfl ⟨rfl, by decide⟩ rfl q3224 q3226 qs43 q139 q3227 ⟨cn_34.1, cn_34.2, pd_0⟩ dX4_advance_8, (List.forall_mem_nil _)⟩) hd_no, m_cv⟩ (
  lkp_c (P := OkP 305) ⟨ok_vret rfl dX4_advance_11, m_vret⟩ (
  trivial))))))
theorem mt_305 : MtOK TB NT IT 305 := ⟨by decide +kernel, rfl, (fun h => by cases h), Or.inl ⟨rfl, rfl⟩, rfl, by decide, lk2_all (P := OkP 305) ⟨c_305_0, trivial⟩⟩
def dkwX4_parseNumber_0 : List UInt8 := [42, 27, 28, 182, 0, 157, 42, 180, 0, 111, 62, 42, 182, 0, 161, 29, 172]
abbrev dktX4_parseNumber_0 : List UInt8 := dkwX4_parseNumber_0 ++ []
theorem dksX4_parseNumber_0 : cX4_parseNumber.data.toList.drop 0 = dktX4_parseNumber_0 := by decide +kernel
theorem dX4_parseNumber_0 : decode cX4_parseNumber 0 = .ok (.aload_n 0, 1) := dk_42 (dk_at dksX4_parseNumber_0 0 rfl rfl)
theorem dX4_parseNumber_1 : decode cX4_parseNumber 1 = .ok (.iload_n 1, 1) := dk_27 (dk_at dksX4_parseNumber_0 1 rfl rfl)
theorem dX4_parseNumber_2 : decode cX4_parseNumber 2 = .ok (.iload_n 2, 1) := dk_28 (dk_at dksX4_parseNumber_0 2 rfl rfl)
theorem dX4_parseNumber_3 : decode cX4_parseNumber 3 = .ok (.invokevirtual 157, 3) := dk_182 0 157 (dk_at dksX4_parseNumber_0 3 rfl rfl)
theorem dX4_parseNumber_6 : decode cX4_parseNumber 6 = .ok (.aload_n 0, 1) := dk_42 (dk_at dksX4_parseNumber_0 6 rfl rfl)
theorem dX4_parseNumber_7 : decode cX4_parseNumber 7 = .ok (.getfield 111, 3) := dk_180 0 111 (dk_at dksX4_parseNumber_0 7 rfl rfl)
theorem dX4_parseNumber_10 : decode cX4_parseNumber 10 = .ok (.istore_n 3, 1) := dk_62 (dk_at dksX4_parseNumber_0 10 rfl rfl)
theorem dX4_parseNumber_11 : decode cX4_parseNumber 11 = .ok (.aload_n 0, 1) := dk_42 (dk_at dksX4_parseNumber_0 11 rfl rfl)
theorem dX4_parseNumber_12 : decode cX4_parseNumber 12 = .ok (.invokevirtual 161, 3) := dk_182 0 161 (dk_at dksX4_parseNumber_0 12 rfl rfl)
theorem dX4_parseNumber_15 : decode cX4_parseNumber 15 = .ok (.iload_n 3, 1) := dk_29 (dk_at dksX4_parseNumber_0 15 rfl rfl)
theorem dX4_parseNumber_16 : decode cX4_parseNumber 16 = .ok (.ireturn, 1) := dk_172 (dk_at dksX4_parseNumber_0 16 rfl rfl)
theorem c_306_0 : LkP (OkP 306) [(0, o_aload 0 1), (1, o_iload 1 1), (2, o_iload 2 1), (3, o_cv [(30, 307)] 2 3 true none), (6, o_aload 0 1), (7, o_get 162), (10, o_istore 3 1), (11, o_aload 0 1), (12, o_cv [(30, 305)] 0 3 true none), (15, o_iload 3 1), (16, o_ret 1)] := lkp_c (P := OkP 306) ⟨(PuOK.ok (ok_aload_n dX4_parseNumber_0 rfl)), m_aload⟩ (
  lkp_c (P := OkP 306) ⟨(PuOK.ok (ok_iload_n dX4_parseNumber_1 rfl)), m_iload⟩ (
  lkp_c (P := OkP 306) ⟨(PuOK.ok (ok_iload_n dX4_parseNumber_2 rfl)), m_iload⟩ (
  lkp_c (P := OkP 306) ⟨ok_cv (List.forall_mem_cons.mpr ⟨tg_V (ci := 30) (r := CLr 30) (y := 307) rfl ⟨rfl, by decide⟩ rfl q3282 q3284 qs52 q139 q3285 ⟨cn_34.1, cn_34.2, pd_5⟩ dX4_parseNumber_3, (List.forall_mem_nil _)⟩) hd_no, m_cv⟩ (
  lkp_c (P := OkP 306) ⟨(PuOK.ok (ok_aload_n dX4_parseNumber_6 rfl)), m_aload⟩ (
  lkp_c (P := OkP 306) ⟨ok_get ⟨"TollRoadModel", q3094, Or.inl rfl⟩ dX4_parseNumber_7, m_get⟩ (
  lkp_c (P := OkP 306) ⟨(PuOK.ok (ok_istore_n dX4_parseNumber_10 rfl)), m_istore⟩ (
  lkp_c (P := OkP 306) ⟨(PuOK.ok (ok_aload_n dX4_parseNumber_11 rfl)), m_aload⟩ (
  lkp_c (P := OkP 306) ⟨ok_cv (List.forall_mem_cons.mpr ⟨tg_V (ci := 30) (r := CLr 30) (y := 305) rfl ⟨rfl, by decide⟩ rfl q3274 q3276 qs50 q139 q3277 ⟨cn_34.1, cn_34.2, pd_0⟩ dX4_parseNumber_12, (List.forall_mem_nil _)⟩) hd_no, m_cv⟩ (
  lkp_c (P := OkP 306) ⟨(PuOK.ok (ok_iload_n dX4_parseNumber_15 rfl)), m_iload⟩ (
  lkp_c (P := OkP 306) ⟨ok_iret rfl rfl (by decide) dX4_parseNumber_16, m_ret⟩ (
  trivial)))))))))))
theorem mt_306 : MtOK TB NT IT 306 := ⟨by decide +kernel, rfl, (fun h => by cases h), Or.inl ⟨rfl, rfl⟩, rfl, by decide, lk2_all (P := OkP 306) ⟨c_306_0, trivial⟩⟩
def dkwX4_look_1 : List UInt8 := [28, 184, 0, 91, 5, 182, 0, 153, 177]
abbrev dktX4_look_1 : List UInt8 := dkwX4_look_1 ++ []
def dkwX4_look_0 : List UInt8 := [42, 42, 180, 0, 114, 6, 160, 0, 7, 4, 167, 0, 4, 3, 4, 182, 0, 153, 42, 42, 180, 0, 111, 27]
abbrev dktX4_look_0 : List UInt8 := dkwX4_look_0 ++ dktX4_look_1
theorem dksX4_look_0 : cX4_look.data.toList.drop 0 = dktX4_look_0 := by decide +kernel
theorem dksX4_look_1 : cX4_look.data.toList.drop 24 = dktX4_look_1 := dk_seg dksX4_look_0 24 rfl rfl
theorem dX4_look_0 : decode cX4_look 0 = .ok (.aload_n 0, 1) := dk_42 (dk_at dksX4_look_0 0 rfl rfl)
theorem dX4_look_1 : decode cX4_look 1 = .ok (.aload_n 0, 1) := dk_42 (dk_at dksX4_look_0 1 rfl rfl)
theorem dX4_look_2 : decode cX4_look 2 = .ok (.getfield 114, 3) := dk_180 0 114 (dk_at dksX4_look_0 2 rfl rfl)
theorem dX4_look_5 : decode cX4_look 5 = .ok (.iconst 3, 1) := dk_6 (dk_at dksX4_look_0 5 rfl rfl)
theorem dX4_look_6 : decode cX4_look 6 = .ok (.if_icmp .ne 7, 3) := dk_160 0 7 (dk_at dksX4_look_0 6 rfl rfl)
theorem dX4_look_9 : decode cX4_look 9 = .ok (.iconst 1, 1) := dk_4 (dk_at dksX4_look_0 9 rfl rfl)
theorem dX4_look_10 : decode cX4_look 10 = .ok (.goto 4, 3) := dk_167 0 4 (dk_at dksX4_look_0 10 rfl rfl)
theorem dX4_look_13 : decode cX4_look 13 = .ok (.iconst 0, 1) := dk_3 (dk_at dksX4_look_0 13 rfl rfl)
theorem dX4_look_14 : decode cX4_look 14 = .ok (.iconst 1, 1) := dk_4 (dk_at dksX4_look_0 14 rfl rfl)
theorem dX4_look_15 : decode cX4_look 15 = .ok (.invokevirtual 153, 3) := dk_182 0 153 (dk_at dksX4_look_0 15 rfl rfl)
theorem dX4_look_18 : decode cX4_look 18 = .ok (.aload_n 0, 1) := dk_42 (dk_at dksX4_look_0 18 rfl rfl)
theorem dX4_look_19 : decode cX4_look 19 = .ok (.aload_n 0, 1) := dk_42 (dk_at dksX4_look_0 19 rfl rfl)
theorem dX4_look_20 : decode cX4_look 20 = .ok (.getfield 111, 3) := dk_180 0 111 (dk_at dksX4_look_0 20 rfl rfl)
theorem dX4_look_23 : decode cX4_look 23 = .ok (.iload_n 1, 1) := dk_27 (dk_at dksX4_look_0 23 rfl rfl)
theorem dX4_look_24 : decode cX4_look 24 = .ok (.iload_n 2, 1) := dk_28 (dk_at dksX4_look_1 0 rfl rfl)
theorem dX4_look_25 : decode cX4_look 25 = .ok (.invokestatic 91, 3) := dk_184 0 91 (dk_at dksX4_look_1 1 rfl rfl)
theorem dX4_look_28 : decode cX4_look 28 = .ok (.iconst 2, 1) := dk_5 (dk_at dksX4_look_1 4 rfl rfl)
theorem dX4_look_29 : decode cX4_look 29 = .ok (.invokevirtual 153, 3) := dk_182 0 153 (dk_at dksX4_look_1 5 rfl rfl)
theorem dX4_look_32 : decode cX4_look 32 = .ok (.return_, 1) := dk_177 (dk_at dksX4_look_1 8 rfl rfl)
theorem c_307_0 : LkP (OkP 307) [(0, o_aload 0 1), (1, o_aload 0 1), (2, o_get 160), (5, o_push 1 (.int 3)), (6, o_icmp (fun x y => decide (¬ x = y)) 13), (9, o_push 1 (.int 1)), (10, o_goto 14), (13, o_push 1 (.int 0)), (14, o_push 1 (.int 1)), (15, o_cv [(30, 304)] 2 3 true none), (18, o_aload 0 1), (19, o_aload 0 1), (20, o_get 162), (23, o_iload 1 1), (24, o_iload 2 1), (25, o_cs 293 3 false none), (28, o_push 1 (.int 2)), (29, o_cv [(30, 304)] 2 3 true none), (32, o_vret)] := lkp_c (P := OkP 307) ⟨(PuOK.ok (ok_aload_n dX4_look_0 rfl)), m_aload⟩ (
  lkp_c (P := OkP 307) ⟨(PuOK.ok (ok_aload_n dX4_look_1 rfl)), m_aload⟩ (
  lkp_c (P := OkP 307) ⟨ok_get ⟨"TollRoadModel", q3092, Or.inl rfl⟩ dX4_look_2, m_get⟩ (
  lkp_c (P := OkP 307) ⟨(PuOK.ok (ok_iconst dX4_look_5 rfl)), m_push⟩ (
  lkp_c (P := OkP 307) ⟨(PuOK.ok (ok_icmp_ne dX4_look_6 rfl)), m_icmp⟩ (
  lkp_c (P := OkP 307) ⟨(PuOK.ok (ok_iconst dX4_look_9 rfl)), m_push⟩ (
  lkp_c (P := OkP 307) ⟨(PuOK.ok (ok_goto dX4_look_10 rfl)), m_goto⟩ (
  lkp_c (P := OkP 307) ⟨(PuOK.ok (ok_iconst dX4_look_13 rfl)), m_push⟩ (
  lkp_c (P := OkP 307) ⟨(PuOK.ok (ok_iconst dX4_look_14 rfl)), m_push⟩ (
  lkp_c (P := OkP 307) ⟨ok_cv (List.forall_mem_cons.mpr ⟨tg_V (ci := 30) (r := CLr 30) (y := 304) rfl ⟨rfl, by decide⟩ rfl q3270 q3272 qs49 q139 q3273 ⟨cn_34.1, cn_34.2, pd_124⟩ dX4_look_15, (List.forall_mem_nil _)⟩) hd_no, m_cv⟩ (
  lkp_c (P := OkP 307) ⟨(PuOK.ok (ok_aload_n dX4_look_18 rfl)), m_aload⟩ (
  lkp_c (P := OkP 307) ⟨(PuOK.ok (ok_aload_n dX4_look_19 rfl)), m_aload⟩ (
  lkp_c (P := OkP 307) ⟨ok_get ⟨"TollRoadModel", q3094, Or.inl rfl⟩ dX4_look_20, m_get⟩ (
  lkp_c (P := OkP 307) ⟨(PuOK.ok (ok_iload_n dX4_look_23 rfl)), m_iload⟩ (
  lkp_c (P := OkP 307) ⟨(PuOK.ok (ok_iload_n dX4_look_24 rfl)), m_iload⟩ (
  lkp_c (P := OkP 307) ⟨ok_cs (tg_S ⟨rfl, by decide⟩ q3214 q3215 q139 q3216 ⟨cn_34.1, cn_34.2, pd_121⟩ dX4_look_25) hd_no, m_cs⟩ (
  lkp_c (P := OkP 307) ⟨(PuOK.ok (ok_iconst dX4_look_28 rfl)), m_push⟩ (
  lkp_c (P := OkP 307) ⟨ok_cv (List.forall_mem_cons.mpr ⟨tg_V (ci := 30) (r := CLr 30) (y := 304) rfl ⟨rfl, by decide⟩ rfl q3270 q3272 qs49 q139 q3273 ⟨cn_34.1, cn_34.2, pd_124⟩ dX4_look_29, (List.forall_mem_nil _)⟩) hd_no, m_cv⟩ (
  lkp_c (P := OkP 307) ⟨ok_vret rfl dX4_look_32, m_vret⟩ (
  trivial)))))))))))))))))))
theorem mt_307 : MtOK TB NT IT 307 := ⟨by decide +kernel, rfl, (fun h => by cases h), Or.inl ⟨rfl, rfl⟩, rfl, by decide, lk2_all (P := OkP 307) ⟨c_307_0, trivial⟩⟩
def dkwX4_appendGantry_1 : List UInt8 := [4, 96, 79, 42, 180, 0, 7, 16, 8, 46, 4, 100, 172]
abbrev dktX4_appendGantry_1 : List UInt8 := dkwX4_appendGantry_1 ++ []
def dkwX4_appendGantry_0 : List UInt8 := [42, 180, 0, 7, 16, 15, 42, 180, 0, 7, 16, 8, 46, 96, 27, 79, 42, 180, 0, 7, 16, 8, 92, 46]
abbrev dktX4_appendGantry_0 : List UInt8 := dkwX4_appendGantry_0 ++ dktX4_appendGantry_1
theorem dksX4_appendGantry_0 : cX4_appendGantry.data.toList.drop 0 = dktX4_appendGantry_0 := by decide +kernel
theorem dksX4_appendGantry_1 : cX4_appendGantry.data.toList.drop 24 = dktX4_appendGantry_1 := dk_seg dksX4_appendGantry_0 24 rfl rfl
theorem dX4_appendGantry_0 : decode cX4_appendGantry 0 = .ok (.aload_n 0, 1) := dk_42 (dk_at dksX4_appendGantry_0 0 rfl rfl)
theorem dX4_appendGantry_1 : decode cX4_appendGantry 1 = .ok (.getfield 7, 3) := dk_180 0 7 (dk_at dksX4_appendGantry_0 1 rfl rfl)
theorem dX4_appendGantry_4 : decode cX4_appendGantry 4 = .ok (.bipush 15, 2) := dk_16 15 (dk_at dksX4_appendGantry_0 4 rfl rfl)
theorem dX4_appendGantry_6 : decode cX4_appendGantry 6 = .ok (.aload_n 0, 1) := dk_42 (dk_at dksX4_appendGantry_0 6 rfl rfl)
theorem dX4_appendGantry_7 : decode cX4_appendGantry 7 = .ok (.getfield 7, 3) := dk_180 0 7 (dk_at dksX4_appendGantry_0 7 rfl rfl)
theorem dX4_appendGantry_10 : decode cX4_appendGantry 10 = .ok (.bipush 8, 2) := dk_16 8 (dk_at dksX4_appendGantry_0 10 rfl rfl)
theorem dX4_appendGantry_12 : decode cX4_appendGantry 12 = .ok (.iaload, 1) := dk_46 (dk_at dksX4_appendGantry_0 12 rfl rfl)
theorem dX4_appendGantry_13 : decode cX4_appendGantry 13 = .ok (.iadd, 1) := dk_96 (dk_at dksX4_appendGantry_0 13 rfl rfl)
theorem dX4_appendGantry_14 : decode cX4_appendGantry 14 = .ok (.iload_n 1, 1) := dk_27 (dk_at dksX4_appendGantry_0 14 rfl rfl)
theorem dX4_appendGantry_15 : decode cX4_appendGantry 15 = .ok (.iastore, 1) := dk_79 (dk_at dksX4_appendGantry_0 15 rfl rfl)
theorem dX4_appendGantry_16 : decode cX4_appendGantry 16 = .ok (.aload_n 0, 1) := dk_42 (dk_at dksX4_appendGantry_0 16 rfl rfl)
theorem dX4_appendGantry_17 : decode cX4_appendGantry 17 = .ok (.getfield 7, 3) := dk_180 0 7 (dk_at dksX4_appendGantry_0 17 rfl rfl)
theorem dX4_appendGantry_20 : decode cX4_appendGantry 20 = .ok (.bipush 8, 2) := dk_16 8 (dk_at dksX4_appendGantry_0 20 rfl rfl)
theorem dX4_appendGantry_22 : decode cX4_appendGantry 22 = .ok (.dup2, 1) := dk_92 (dk_at dksX4_appendGantry_0 22 rfl rfl)
theorem dX4_appendGantry_23 : decode cX4_appendGantry 23 = .ok (.iaload, 1) := dk_46 (dk_at dksX4_appendGantry_0 23 rfl rfl)
theorem dX4_appendGantry_24 : decode cX4_appendGantry 24 = .ok (.iconst 1, 1) := dk_4 (dk_at dksX4_appendGantry_1 0 rfl rfl)
theorem dX4_appendGantry_25 : decode cX4_appendGantry 25 = .ok (.iadd, 1) := dk_96 (dk_at dksX4_appendGantry_1 1 rfl rfl)
theorem dX4_appendGantry_26 : decode cX4_appendGantry 26 = .ok (.iastore, 1) := dk_79 (dk_at dksX4_appendGantry_1 2 rfl rfl)
theorem dX4_appendGantry_27 : decode cX4_appendGantry 27 = .ok (.aload_n 0, 1) := dk_42 (dk_at dksX4_appendGantry_1 3 rfl rfl)
theorem dX4_appendGantry_28 : decode cX4_appendGantry 28 = .ok (.getfield 7, 3) := dk_180 0 7 (dk_at dksX4_appendGantry_1 4 rfl rfl)
theorem dX4_appendGantry_31 : decode cX4_appendGantry 31 = .ok (.bipush 8, 2) := dk_16 8 (dk_at dksX4_appendGantry_1 7 rfl rfl)
theorem dX4_appendGantry_33 : decode cX4_appendGantry 33 = .ok (.iaload, 1) := dk_46 (dk_at dksX4_appendGantry_1 9 rfl rfl)
theorem dX4_appendGantry_34 : decode cX4_appendGantry 34 = .ok (.iconst 1, 1) := dk_4 (dk_at dksX4_appendGantry_1 10 rfl rfl)
theorem dX4_appendGantry_35 : decode cX4_appendGantry 35 = .ok (.isub, 1) := dk_100 (dk_at dksX4_appendGantry_1 11 rfl rfl)
theorem dX4_appendGantry_36 : decode cX4_appendGantry 36 = .ok (.ireturn, 1) := dk_172 (dk_at dksX4_appendGantry_1 12 rfl rfl)
theorem c_308_0 : LkP (OkP 308) [(0, o_aload 0 1), (1, o_get 148), (4, o_push 2 (.int 15)), (6, o_aload 0 1), (7, o_get 148), (10, o_push 2 (.int 8)), (12, o_rdI 0), (13, o_iop (fun x y => x + y)), (14, o_iload 1 1), (15, o_wrI 0), (16, o_aload 0 1), (17, o_get 148), (20, o_push 2 (.int 8)), (22, o_dup2), (23, o_rdI 0), (24, o_push 1 (.int 1)), (25, o_iop (fun x y => x + y)), (26, o_wrI 0), (27, o_aload 0 1), (28, o_get 148), (31, o_push 2 (.int 8)), (33, o_rdI 0), (34, o_push 1 (.int 1)), (35, o_iop (fun x y => x - y)), (36, o_ret 1)] := lkp_c (P := OkP 308) ⟨(PuOK.ok (ok_aload_n dX4_appendGantry_0 rfl)), m_aload⟩ (
  lkp_c (P := OkP 308) ⟨ok_get ⟨"TollRoadModel", q3080, Or.inl rfl⟩ dX4_appendGantry_1, m_get⟩ (
  lkp_c (P := OkP 308) ⟨(PuOK.ok (ok_bipush dX4_appendGantry_4 rfl)), m_push⟩ (
  lkp_c (P := OkP 308) ⟨(PuOK.ok (ok_aload_n dX4_appendGantry_6 rfl)), m_aload⟩ (
  lkp_c (P := OkP 308) ⟨ok_get ⟨"TollRoadModel", q3080, Or.inl rfl⟩ dX4_appendGantry_7, m_get⟩ (
  lkp_c (P := OkP 308) ⟨(PuOK.ok (ok_bipush dX4_appendGantry_10 rfl)), m_push⟩ (
  lkp_c (P := OkP 308) ⟨ok_iald dX4_appendGantry_12, m_rdI⟩ (
  lkp_c (P := OkP 308) ⟨(PuOK.ok (ok_iadd dX4_appendGantry_13)), m_iop⟩ (
  lkp_c (P := OkP 308) ⟨(PuOK.ok (ok_iload_n dX4_appendGantry_14 rfl)), m_iload⟩ (
  lkp_c (P := OkP 308) ⟨ok_iast dX4_appendGantry_15, m_wrI⟩ (
  lkp_c (P := OkP 308) ⟨(PuOK.ok (ok_aload_n dX4_appendGantry_16 rfl)), m_aload⟩ (
  lkp_c (P := OkP 308) ⟨ok_get ⟨"TollRoadModel", q3080, Or.inl rfl⟩ dX4_appendGantry_17, m_get⟩ (
  lkp_c (P := OkP 308) ⟨(PuOK.ok (ok_bipush dX4_appendGantry_20 rfl)), m_push⟩ (
  lkp_c (P := OkP 308) ⟨(PuOK.ok (ok_dup2 dX4_appendGantry_22)), m_dup2⟩ (
  lkp_c (P := OkP 308) ⟨ok_iald dX4_appendGantry_23, m_rdI⟩ (
  lkp_c (P := OkP 308) ⟨(PuOK.ok (ok_iconst dX4_appendGantry_24 rfl)), m_push⟩ (
  lkp_c (P := OkP 308) ⟨(PuOK.ok (ok_iadd dX4_appendGantry_25)), m_iop⟩ (
  lkp_c (P := OkP 308) ⟨ok_iast dX4_appendGantry_26, m_wrI⟩ (
  lkp_c (P := OkP 308) ⟨(PuOK.ok (ok_aload_n dX4_appendGantry_27 rfl)), m_aload⟩ (
  lkp_c (P := OkP 308) ⟨ok_get ⟨"TollRoadModel", q3080, Or.inl rfl⟩ dX4_appendGantry_28, m_get⟩ (
  lkp_c (P := OkP 308) ⟨(PuOK.ok (ok_bipush dX4_appendGantry_31 rfl)), m_push⟩ (
  lkp_c (P := OkP 308) ⟨ok_iald dX4_appendGantry_33, m_rdI⟩ (
  lkp_c (P := OkP 308) ⟨(PuOK.ok (ok_iconst dX4_appendGantry_34 rfl)), m_push⟩ (
  lkp_c (P := OkP 308) ⟨(PuOK.ok (ok_isub dX4_appendGantry_35)), m_iop⟩ (
  lkp_c (P := OkP 308) ⟨ok_iret rfl rfl (by decide) dX4_appendGantry_36, m_ret⟩ (
  trivial)))))))))))))))))))))))))
theorem mt_308 : MtOK TB NT IT 308 := ⟨by decide +kernel, rfl, (fun h => by cases h), Or.inl ⟨rfl, rfl⟩, rfl, by decide, lk2_all (P := OkP 308) ⟨c_308_0, trivial⟩⟩
def dkwX4_parseRoad_5 : List UInt8 := [29, 21, 4, 182, 0, 174, 54, 5, 177]
abbrev dktX4_parseRoad_5 : List UInt8 := dkwX4_parseRoad_5 ++ []
def dkwX4_parseRoad_4 : List UInt8 := [182, 0, 164, 62, 42, 3, 17, 3, 231, 182, 0, 164, 54, 4, 42, 182, 0, 142, 153, 0, 14, 42, 27, 28]
abbrev dktX4_parseRoad_4 : List UInt8 := dkwX4_parseRoad_4 ++ dktX4_parseRoad_5
def dkwX4_parseRoad_3 : List UInt8 := [182, 0, 171, 2, 160, 0, 7, 4, 167, 0, 4, 3, 7, 182, 0, 153, 42, 182, 0, 161, 42, 4, 16, 60]
abbrev dktX4_parseRoad_3 : List UInt8 := dkwX4_parseRoad_3 ++ dktX4_parseRoad_4
def dkwX4_parseRoad_2 : List UInt8 := [16, 8, 46, 4, 100, 182, 0, 157, 42, 180, 0, 111, 61, 42, 28, 27, 159, 0, 17, 42, 27, 28]
abbrev dktX4_parseRoad_2 : List UInt8 := dkwX4_parseRoad_2 ++ dktX4_parseRoad_3
def dkwX4_parseRoad_1 : List UInt8 := [182, 0, 161, 42, 3, 42, 180, 0, 7, 16, 8, 46, 4, 100, 182, 0, 164, 60, 42, 3, 42, 180, 0, 7]
abbrev dktX4_parseRoad_1 : List UInt8 := dkwX4_parseRoad_1 ++ dktX4_parseRoad_2
def dkwX4_parseRoad_0 : List UInt8 := [42, 42, 180, 0, 7, 16, 9, 46, 16, 40, 162, 0, 7, 4, 167, 0, 4, 3, 6, 182, 0, 153, 42]
abbrev dktX4_parseRoad_0 : List UInt8 := dkwX4_parseRoad_0 ++ dktX4_parseRoad_1
theorem dksX4_parseRoad_0 : cX4_parseRoad.data.toList.drop 0 = dktX4_parseRoad_0 := by decide +kernel
theorem dksX4_parseRoad_1 : cX4_parseRoad.data.toList.drop 23 = dktX4_parseRoad_1 := dk_seg dksX4_parseRoad_0 23 rfl rfl
theorem dksX4_parseRoad_2 : cX4_parseRoad.data.toList.drop 47 = dktX4_parseRoad_2 := dk_seg dksX4_parseRoad_1 24 rfl rfl
theorem dksX4_parseRoad_3 : cX4_parseRoad.data.toList.drop 69 = dktX4_parseRoad_3 := dk_seg dksX4_parseRoad_2 22 rfl rfl
theorem dksX4_parseRoad_4 : cX4_parseRoad.data.toList.drop 93 = dktX4_parseRoad_4 := dk_seg dksX4_parseRoad_3 24 rfl rfl
theorem dksX4_parseRoad_5 : cX4_parseRoad.data.toList.drop 117 = dktX4_parseRoad_5 := dk_seg dksX4_parseRoad_4 24 rfl rfl
theorem dX4_parseRoad_0 : decode cX4_parseRoad 0 = .ok (.aload_n 0, 1) := dk_42 (dk_at dksX4_parseRoad_0 0 rfl rfl)
theorem dX4_parseRoad_1 : decode cX4_parseRoad 1 = .ok (.aload_n 0, 1) := dk_42 (dk_at dksX4_parseRoad_0 1 rfl rfl)
theorem dX4_parseRoad_2 : decode cX4_parseRoad 2 = .ok (.getfield 7, 3) := dk_180 0 7 (dk_at dksX4_parseRoad_0 2 rfl rfl)
theorem dX4_parseRoad_5 : decode cX4_parseRoad 5 = .ok (.bipush 9, 2) := dk_16 9 (dk_at dksX4_parseRoad_0 5 rfl rfl)
theorem dX4_parseRoad_7 : decode cX4_parseRoad 7 = .ok (.iaload, 1) := dk_46 (dk_at dksX4_parseRoad_0 7 rfl rfl)
theorem dX4_parseRoad_8 : decode cX4_parseRoad 8 = .ok (.bipush 40, 2) := dk_16 40 (dk_at dksX4_parseRoad_0 8 rfl rfl)
theorem dX4_parseRoad_10 : decode cX4_parseRoad 10 = .ok (.if_icmp .ge 7, 3) := dk_162 0 7 (dk_at dksX4_parseRoad_0 10 rfl rfl)
theorem dX4_parseRoad_13 : decode cX4_parseRoad 13 = .ok (.iconst 1, 1) := dk_4 (dk_at dksX4_parseRoad_0 13 rfl rfl)
theorem dX4_parseRoad_14 : decode cX4_parseRoad 14 = .ok (.goto 4, 3) := dk_167 0 4 (dk_at dksX4_parseRoad_0 14 rfl rfl)
theorem dX4_parseRoad_17 : decode cX4_parseRoad 17 = .ok (.iconst 0, 1) := dk_3 (dk_at dksX4_parseRoad_0 17 rfl rfl)
theorem dX4_parseRoad_18 : decode cX4_parseRoad 18 = .ok (.iconst 3, 1) := dk_6 (dk_at dksX4_parseRoad_0 18 rfl rfl)
theorem dX4_parseRoad_19 : decode cX4_parseRoad 19 = .ok (.invokevirtual 153, 3) := dk_182 0 153 (dk_at dksX4_parseRoad_0 19 rfl rfl)
theorem dX4_parseRoad_22 : decode cX4_parseRoad 22 = .ok (.aload_n 0, 1) := dk_42 (dk_at dksX4_parseRoad_0 22 rfl rfl)
theorem dX4_parseRoad_23 : decode cX4_parseRoad 23 = .ok (.invokevirtual 161, 3) := dk_182 0 161 (dk_at dksX4_parseRoad_1 0 rfl rfl)
theorem dX4_parseRoad_26 : decode cX4_parseRoad 26 = .ok (.aload_n 0, 1) := dk_42 (dk_at dksX4_parseRoad_1 3 rfl rfl)
theorem dX4_parseRoad_27 : decode cX4_parseRoad 27 = .ok (.iconst 0, 1) := dk_3 (dk_at dksX4_parseRoad_1 4 rfl rfl)
theorem dX4_parseRoad_28 : decode cX4_parseRoad 28 = .ok (.aload_n 0, 1) := dk_42 (dk_at dksX4_parseRoad_1 5 rfl rfl)
theorem dX4_parseRoad_29 : decode cX4_parseRoad 29 = .ok (.getfield 7, 3) := dk_180 0 7 (dk_at dksX4_parseRoad_1 6 rfl rfl)
theorem dX4_parseRoad_32 : decode cX4_parseRoad 32 = .ok (.bipush 8, 2) := dk_16 8 (dk_at dksX4_parseRoad_1 9 rfl rfl)
theorem dX4_parseRoad_34 : decode cX4_parseRoad 34 = .ok (.iaload, 1) := dk_46 (dk_at dksX4_parseRoad_1 11 rfl rfl)
theorem dX4_parseRoad_35 : decode cX4_parseRoad 35 = .ok (.iconst 1, 1) := dk_4 (dk_at dksX4_parseRoad_1 12 rfl rfl)
theorem dX4_parseRoad_36 : decode cX4_parseRoad 36 = .ok (.isub, 1) := dk_100 (dk_at dksX4_parseRoad_1 13 rfl rfl)
theorem dX4_parseRoad_37 : decode cX4_parseRoad 37 = .ok (.invokevirtual 164, 3) := dk_182 0 164 (dk_at dksX4_parseRoad_1 14 rfl rfl)
theorem dX4_parseRoad_40 : decode cX4_parseRoad 40 = .ok (.istore_n 1, 1) := dk_60 (dk_at dksX4_parseRoad_1 17 rfl rfl)
theorem dX4_parseRoad_41 : decode cX4_parseRoad 41 = .ok (.aload_n 0, 1) := dk_42 (dk_at dksX4_parseRoad_1 18 rfl rfl)
theorem dX4_parseRoad_42 : decode cX4_parseRoad 42 = .ok (.iconst 0, 1) := dk_3 (dk_at dksX4_parseRoad_1 19 rfl rfl)
theorem dX4_parseRoad_43 : decode cX4_parseRoad 43 = .ok (.aload_n 0, 1) := dk_42 (dk_at dksX4_parseRoad_1 20 rfl rfl)
theorem dX4_parseRoad_44 : decode cX4_parseRoad 44 = .ok (.getfield 7, 3) := dk_180 0 7 (dk_at dksX4_parseRoad_1 21 rfl rfl)
theorem dX4_parseRoad_47 : decode cX4_parseRoad 47 = .ok (.bipush 8, 2) := dk_16 8 (dk_at dksX4_parseRoad_2 0 rfl rfl)
theorem dX4_parseRoad_49 : decode cX4_parseRoad 49 = .ok (.iaload, 1) := dk_46 (dk_at dksX4_parseRoad_2 2 rfl rfl)
theorem dX4_parseRoad_50 : decode cX4_parseRoad 50 = .ok (.iconst 1, 1) := dk_4 (dk_at dksX4_parseRoad_2 3 rfl rfl)
theorem dX4_parseRoad_51 : decode cX4_parseRoad 51 = .ok (.isub, 1) := dk_100 (dk_at dksX4_parseRoad_2 4 rfl rfl)
theorem dX4_parseRoad_52 : decode cX4_parseRoad 52 = .ok (.invokevirtual 157, 3) := dk_182 0 157 (dk_at dksX4_parseRoad_2 5 rfl rfl)
theorem dX4_parseRoad_55 : decode cX4_parseRoad 55 = .ok (.aload_n 0, 1) := dk_42 (dk_at dksX4_parseRoad_2 8 rfl rfl)
theorem dX4_parseRoad_56 : decode cX4_parseRoad 56 = .ok (.getfield 111, 3) := dk_180 0 111 (dk_at dksX4_parseRoad_2 9 rfl rfl)
theorem dX4_parseRoad_59 : decode cX4_parseRoad 59 = .ok (.istore_n 2, 1) := dk_61 (dk_at dksX4_parseRoad_2 12 rfl rfl)
theorem dX4_parseRoad_60 : decode cX4_parseRoad 60 = .ok (.aload_n 0, 1) := dk_42 (dk_at dksX4_parseRoad_2 13 rfl rfl)
theorem dX4_parseRoad_61 : decode cX4_parseRoad 61 = .ok (.iload_n 2, 1) := dk_28 (dk_at dksX4_parseRoad_2 14 rfl rfl)
theorem dX4_parseRoad_62 : decode cX4_parseRoad 62 = .ok (.iload_n 1, 1) := dk_27 (dk_at dksX4_parseRoad_2 15 rfl rfl)
theorem dX4_parseRoad_63 : decode cX4_parseRoad 63 = .ok (.if_icmp .eq 17, 3) := dk_159 0 17 (dk_at dksX4_parseRoad_2 16 rfl rfl)
theorem dX4_parseRoad_66 : decode cX4_parseRoad 66 = .ok (.aload_n 0, 1) := dk_42 (dk_at dksX4_parseRoad_2 19 rfl rfl)
theorem dX4_parseRoad_67 : decode cX4_parseRoad 67 = .ok (.iload_n 1, 1) := dk_27 (dk_at dksX4_parseRoad_2 20 rfl rfl)
theorem dX4_parseRoad_68 : decode cX4_parseRoad 68 = .ok (.iload_n 2, 1) := dk_28 (dk_at dksX4_parseRoad_2 21 rfl rfl)
theorem dX4_parseRoad_69 : decode cX4_parseRoad 69 = .ok (.invokevirtual 171, 3) := dk_182 0 171 (dk_at dksX4_parseRoad_3 0 rfl rfl)
theorem dX4_parseRoad_72 : decode cX4_parseRoad 72 = .ok (.iconst (-1), 1) := dk_2 (dk_at dksX4_parseRoad_3 3 rfl rfl)
theorem dX4_parseRoad_73 : decode cX4_parseRoad 73 = .ok (.if_icmp .ne 7, 3) := dk_160 0 7 (dk_at dksX4_parseRoad_3 4 rfl rfl)
theorem dX4_parseRoad_76 : decode cX4_parseRoad 76 = .ok (.iconst 1, 1) := dk_4 (dk_at dksX4_parseRoad_3 7 rfl rfl)
theorem dX4_parseRoad_77 : decode cX4_parseRoad 77 = .ok (.goto 4, 3) := dk_167 0 4 (dk_at dksX4_parseRoad_3 8 rfl rfl)
theorem dX4_parseRoad_80 : decode cX4_parseRoad 80 = .ok (.iconst 0, 1) := dk_3 (dk_at dksX4_parseRoad_3 11 rfl rfl)
theorem dX4_parseRoad_81 : decode cX4_parseRoad 81 = .ok (.iconst 4, 1) := dk_7 (dk_at dksX4_parseRoad_3 12 rfl rfl)
theorem dX4_parseRoad_82 : decode cX4_parseRoad 82 = .ok (.invokevirtual 153, 3) := dk_182 0 153 (dk_at dksX4_parseRoad_3 13 rfl rfl)
theorem dX4_parseRoad_85 : decode cX4_parseRoad 85 = .ok (.aload_n 0, 1) := dk_42 (dk_at dksX4_parseRoad_3 16 rfl rfl)
theorem dX4_parseRoad_86 : decode cX4_parseRoad 86 = .ok (.invokevirtual 161, 3) := dk_182 0 161 (dk_at dksX4_parseRoad_3 17 rfl rfl)
theorem dX4_parseRoad_89 : decode cX4_parseRoad 89 = .ok (.aload_n 0, 1) := dk_42 (dk_at dksX4_parseRoad_3 20 rfl rfl)
theorem dX4_parseRoad_90 : decode cX4_parseRoad 90 = .ok (.iconst 1, 1) := dk_4 (dk_at dksX4_parseRoad_3 21 rfl rfl)
theorem dX4_parseRoad_91 : decode cX4_parseRoad 91 = .ok (.bipush 60, 2) := dk_16 60 (dk_at dksX4_parseRoad_3 22 rfl rfl)
theorem dX4_parseRoad_93 : decode cX4_parseRoad 93 = .ok (.invokevirtual 164, 3) := dk_182 0 164 (dk_at dksX4_parseRoad_4 0 rfl rfl)
theorem dX4_parseRoad_96 : decode cX4_parseRoad 96 = .ok (.istore_n 3, 1) := dk_62 (dk_at dksX4_parseRoad_4 3 rfl rfl)
theorem dX4_parseRoad_97 : decode cX4_parseRoad 97 = .ok (.aload_n 0, 1) := dk_42 (dk_at dksX4_parseRoad_4 4 rfl rfl)
theorem dX4_parseRoad_98 : decode cX4_parseRoad 98 = .ok (.iconst 0, 1) := dk_3 (dk_at dksX4_parseRoad_4 5 rfl rfl)
theorem dX4_parseRoad_99 : decode cX4_parseRoad 99 = .ok (.sipush 999, 3) := dk_17 3 231 (dk_at dksX4_parseRoad_4 6 rfl rfl)
theorem dX4_parseRoad_102 : decode cX4_parseRoad 102 = .ok (.invokevirtual 164, 3) := dk_182 0 164 (dk_at dksX4_parseRoad_4 9 rfl rfl)
theorem dX4_parseRoad_105 : decode cX4_parseRoad 105 = .ok (.istore 4, 2) := dk_54 4 (dk_at dksX4_parseRoad_4 12 rfl rfl)
theorem dX4_parseRoad_107 : decode cX4_parseRoad 107 = .ok (.aload_n 0, 1) := dk_42 (dk_at dksX4_parseRoad_4 14 rfl rfl)
theorem dX4_parseRoad_108 : decode cX4_parseRoad 108 = .ok (.invokevirtual 142, 3) := dk_182 0 142 (dk_at dksX4_parseRoad_4 15 rfl rfl)
theorem dX4_parseRoad_111 : decode cX4_parseRoad 111 = .ok (.ifCond .eq 14, 3) := dk_153 0 14 (dk_at dksX4_parseRoad_4 18 rfl rfl)
theorem dX4_parseRoad_114 : decode cX4_parseRoad 114 = .ok (.aload_n 0, 1) := dk_42 (dk_at dksX4_parseRoad_4 21 rfl rfl)
theorem dX4_parseRoad_115 : decode cX4_parseRoad 115 = .ok (.iload_n 1, 1) := dk_27 (dk_at dksX4_parseRoad_4 22 rfl rfl)
theorem dX4_parseRoad_116 : decode cX4_parseRoad 116 = .ok (.iload_n 2, 1) := dk_28 (dk_at dksX4_parseRoad_4 23 rfl rfl)
theorem dX4_parseRoad_117 : decode cX4_parseRoad 117 = .ok (.iload_n 3, 1) := dk_29 (dk_at dksX4_parseRoad_5 0 rfl rfl)
theorem dX4_parseRoad_118 : decode cX4_parseRoad 118 = .ok (.iload 4, 2) := dk_21 4 (dk_at dksX4_parseRoad_5 1 rfl rfl)
theorem dX4_parseRoad_120 : decode cX4_parseRoad 120 = .ok (.invokevirtual 174, 3) := dk_182 0 174 (dk_at dksX4_parseRoad_5 3 rfl rfl)
theorem dX4_parseRoad_123 : decode cX4_parseRoad 123 = .ok (.istore 5, 2) := dk_54 5 (dk_at dksX4_parseRoad_5 6 rfl rfl)
theorem dX4_parseRoad_125 : decode cX4_parseRoad 125 = .ok (.return_, 1) := dk_177 (dk_at dksX4_parseRoad_5 8 rfl rfl)
theorem c_309_0 : LkP (OkP 309) [(0, o_aload 0 1), (1, o_aload 0 1), (2, o_get 148), (5, o_push 2 (.int 9)), (7, o_rdI 0), (8, o_push 2 (.int 40)), (10, o_icmp (fun x y => decide (y ≤ x)) 17), (13, o_push 1 (.int 1)), (14, o_goto 18), (17, o_push 1 (.int 0)), (18, o_push 1 (.int 3)), (19, o_cv [(30, 304)] 2 3 true none), (22, o_aload 0 1), (23, o_cv [(30, 305)] 0 3 true none), (26, o_aload 0 1), (27, o_push 1 (.int 0)), (28, o_aload 0 1), (29, o_get 148), (32, o_push 2 (.int 8)), (34, o_rdI 0), (35, o_push 1 (.int 1)), (36, o_iop (fun x y => x - y)), (37, o_cv [(30, 306)] 2 3 false none), (40, o_istore 1 1), (41, o_aload 0 1), (42, o_push 1 (.int 0)), (43, o_aload 0 1), (44, o_get 148), (47, o_push 2 (.int 8)), (49, o_rdI 0), (50, o_push 1 (.int 1)), (51, o_iop (fun x y => x - y)), (52, o_cv [(30, 307)] 2 3 true none), (55, o_aload 0 1), (56, o_get 162), (59, o_istore 2 1), (60, o_aload 0 1), (61, o_iload 2 1), (62, o_iload 1 1), (63, o_icmp (fun x y => decide (x = y)) 80)] := lkp_c (P := OkP 309) ⟨(PuOK.ok (ok_aload_n dX4_parseRoad_0 rfl)), m_aload⟩ (
  lkp_c (P := OkP 309) ⟨(PuOK.ok (ok_aload_n dX4_parseRoad_1 rfl)), m_aload⟩ (
  lkp_c (P := OkP 309) ⟨ok_get ⟨"TollRoadModel", q3080, Or.inl rfl⟩ dX4_parseRoad_2, m_get⟩ (
  lkp_c (P := OkP 309) ⟨(PuOK.ok (ok_bipush dX4_parseRoad_5 rfl)), m_push⟩ (
  lkp_c (P := OkP 309) ⟨ok_iald dX4_parseRoad_7, m_rdI⟩ (
  lkp_c (P := OkP 309) ⟨(PuOK.ok (ok_bipush dX4_parseRoad_8 rfl)), m_push⟩ (
  lkp_c (P := OkP 309) ⟨(PuOK.ok (ok_icmp_ge dX4_parseRoad_10 rfl)), m_icmp⟩ (
  lkp_c (P := OkP 309) ⟨(PuOK.ok (ok_iconst dX4_parseRoad_13 rfl)), m_push⟩ (
  lkp_c (P := OkP 309) ⟨(PuOK.ok (ok_goto dX4_parseRoad_14 rfl)), m_goto⟩ (
  lkp_c (P := OkP 309) ⟨(PuOK.ok (ok_iconst dX4_parseRoad_17 rfl)), m_push⟩ (
  lkp_c (P := OkP 309) ⟨(PuOK.ok (ok_iconst dX4_parseRoad_18 rfl)), m_push⟩ (
  lkp_c (P := OkP 309) ⟨ok_cv (List.forall_mem_cons.mpr ⟨tg_V (ci := 30) (r := CLr 30) (y := 304) rfl ⟨rfl, by decide⟩ rfl q3270 q3272 qs49 q139 q3273 ⟨cn_34.1, cn_34.2, pd_124⟩ dX4_parseRoad_19, (List.forall_mem_nil _)⟩) hd_no, m_cv⟩ (
  lkp_c (P := OkP 309) ⟨(PuOK.ok (ok_aload_n dX4_parseRoad_22 rfl)), m_aload⟩ (
  lkp_c (P := OkP 309) ⟨ok_cv (List.forall_mem_cons.mpr ⟨tg_V (ci := 30) (r := CLr 30) (y := 305) rfl ⟨rfl, by decide⟩ rfl q3274 q3276 qs50 q139 q3277 ⟨cn_34.1, cn_34.2, pd_0⟩ dX4_parseRoad_23, (List.forall_mem_nil _)⟩) hd_no, m_cv⟩ (
  lkp_c (P := OkP 309) ⟨(PuOK.ok (ok_aload_n dX4_parseRoad_26 rfl)), m_aload⟩ (
  lkp_c (P := OkP 309) ⟨(PuOK.ok (ok_iconst dX4_parseRoad_27 rfl)), m_push⟩ (
  lkp_c (P := OkP 309) ⟨(PuOK.ok (ok_aload_n dX4_parseRoad_28 rfl)), m_aload⟩ (
  lkp_c (P := OkP 309) ⟨ok_get ⟨"TollRoadModel", q3080, Or.inl rfl⟩ dX4_parseRoad_29, m_get⟩ (
  lkp_c (P := OkP 309) ⟨(PuOK.ok (ok_bipush dX4_parseRoad_32 rfl)), m_push⟩ (
  lkp_c (P := OkP 309) ⟨ok_iald dX4_parseRoad_34, m_rdI⟩ (
  lkp_c (P := OkP 309) ⟨(PuOK.ok (ok_iconst dX4_parseRoad_35 rfl)), m_push⟩ (
  lkp_c (P := OkP 309) ⟨(PuOK.ok (ok_isub dX4_parseRoad_36)), m_iop⟩ (
  lkp_c (P := OkP 309) ⟨ok_cv (List.forall_mem_cons.mpr ⟨tg_V (ci := 30) (r := CLr 30) (y := 306) rfl ⟨rfl, by decide⟩ rfl q3278 q3280 qs51 q139 q3281 ⟨cn_34.1, cn_34.2, pd_1⟩ dX4_parseRoad_37, (List.forall_mem_nil _)⟩) hd_no, m_cv⟩ (
  lkp_c (P := OkP 309) ⟨(PuOK.ok (ok_istore_n dX4_parseRoad_40 rfl)), m_istore⟩ (
  lkp_c (P := OkP 309) ⟨(PuOK.ok (ok_aload_n dX4_parseRoad_41 rfl)), m_aload⟩ (
  lkp_c (P := OkP 309) ⟨(PuOK.ok (ok_iconst dX4_parseRoad_42 rfl)), m_push⟩ (
  lkp_c (P := OkP 309) ⟨(PuOK.ok (ok_aload_n dX4_parseRoad_43 rfl)), m_aload⟩ (
  lkp_c (P := OkP 309) ⟨ok_get ⟨"TollRoadModel", q3080, Or.inl rfl⟩ dX4_parseRoad_44, m_get⟩ (
  lkp_c (P := OkP 309) ⟨(PuOK.ok (ok_bipush dX4_parseRoad_47 rfl)), m_push⟩ (
  lkp_c (P := OkP 309) ⟨ok_iald dX4_parseRoad_49, m_rdI⟩ (
  lkp_c (P := OkP 309) ⟨(PuOK.ok (ok_iconst dX4_parseRoad_50 rfl)), m_push⟩ (
  lkp_c (P := OkP 309) ⟨(PuOK.ok (ok_isub dX4_parseRoad_51)), m_iop⟩ (
  lkp_c (P := OkP 309) ⟨ok_cv (List.forall_mem_cons.mpr ⟨tg_V (ci := 30) (r := CLr 30) (y := 307) rfl ⟨rfl, by decide⟩ rfl q3282 q3284 qs52 q139 q3285 ⟨cn_34.1, cn_34.2, pd_5⟩ dX4_parseRoad_52, (List.forall_mem_nil _)⟩) hd_no, m_cv⟩ (
  lkp_c (P := OkP 309) ⟨(PuOK.ok (ok_aload_n dX4_parseRoad_55 rfl)), m_aload⟩ (
  lkp_c (P := OkP 309) ⟨ok_get ⟨"TollRoadModel", q3094, Or.inl rfl⟩ dX4_parseRoad_56, m_get⟩ (
  lkp_c (P := OkP 309) ⟨(PuOK.ok (ok_istore_n dX4_parseRoad_59 rfl)), m_istore⟩ (
  lkp_c (P := OkP 309) ⟨(PuOK.ok (ok_aload_n dX4_parseRoad_60 rfl)), m_aload⟩ (
  lkp_c (P := OkP 309) ⟨(PuOK.ok (ok_iload_n dX4_parseRoad_61 rfl)), m_iload⟩ (
  lkp_c (P := OkP 309) ⟨(PuOK.ok (ok_iload_n dX4_parseRoad_62 rfl)), m_iload⟩ (
  lkp_c (P := OkP 309) ⟨(PuOK.ok (ok_icmp_eq dX4_parseRoad_63 rfl)), m_icmp⟩ (
  trivial))))))))))))))))))))))))))))))))))))))))
theorem c_309_1 : LkP (OkP 309) [(66, o_aload 0 1), (67, o_iload 1 1), (68, o_iload 2 1), (69, o_cv [(30, 310)] 2 3 false none), (72, o_push 1 (.int (-1))), (73, o_icmp (fun x y => decide (¬ x = y)) 80), (76, o_push 1 (.int 1)), (77, o_goto 81), (80, o_push 1 (.int 0)), (81, o_push 1 (.int 4)), (82, o_cv [(30, 304)] 2 3 true none), (85, o_aload 0 1), (86, o_cv [(30, 305)] 0 3 true none), (89, o_aload 0 1), (90, o_push 1 (.int 1)), (91, o_push 2 (.int 60)), (93, o_cv [(30, 306)] 2 3 false none), (96, o_istore 3 1), (97, o_aload 0 1), (98, o_push 1 (.int 0)), (99, o_push 3 (.int 999)), (102, o_cv [(30, 306)] 2 3 false none), (105, o_istore 4 2), (107, o_aload 0 1), (108, o_cv [(30, 300)] 0 3 false none), (111, o_if (fun x => decide (x = 0)) 125), (114, o_aload 0 1), (115, o_iload 1 1), (116, o_iload 2 1), (117, o_iload 3 1), (118, o_iload 4 2), (120, o_cv [(30, 311)] 4 3 false none), (123, o_istore 5 2), (125, o_vret)] := lkp_c (P := OkP 309) ⟨(PuOK.ok (ok_aload_n dX4_parseRoad_66 rfl)), m_aload⟩ (
  lkp_c (P := OkP 309) ⟨(PuOK.ok (ok_iload_n dX4_parseRoad_67 rfl)), m_iload⟩ (
  lkp_c (P := OkP 309) ⟨(PuOK.ok (ok_iload_n dX4_parseRoad_68 rfl)), m_iload⟩ (
  lkp_c (P := OkP 309) ⟨ok_cv (List.forall_mem_cons.mpr ⟨tg_V (ci := 30) (r := CLr 30) (y := 310) rfl ⟨rfl, by decide⟩ rfl q3295 q3297 qs55 q139 q3298 ⟨cn_34.1, cn_34.2, pd_1⟩ dX4_parseRoad_69, (List.forall_mem_nil _)⟩) hd_no, m_cv⟩ (
  lkp_c (P := OkP 309) ⟨(PuOK.ok (ok_iconst dX4_parseRoad_72 rfl)), m_push⟩ (
  lkp_c (P := OkP 309) ⟨(PuOK.ok (ok_icmp_ne dX4_parseRoad_73 rfl)), m_icmp⟩ (
  lkp_c (P := OkP 309) ⟨(PuOK.ok (ok_iconst dX4_parseRoad_76 rfl)), m_push⟩ (
  lkp_c (P := OkP 309) ⟨(PuOK.ok (ok_goto dX4_parseRoad_77 rfl)), m_goto⟩ (
  lkp_c (P := OkP 309) ⟨(PuOK.ok (ok_iconst dX4_parseRoad_80 rfl)), m_push⟩ (
  lkp_c (P := OkP 309) ⟨(PuOK.ok (ok_iconst dX4_parseRoad_81 rfl)), m_push⟩ (
  lkp_c (P := OkP 309) ⟨ok_cv (List.forall_mem_cons.mpr ⟨tg_V (ci := 30) (r := CLr 30) (y := 304) rfl ⟨rfl, by decide⟩ rfl q3270 q3272 qs49 q139 q3273 ⟨cn_34.1, cn_34.2, pd_124⟩ dX4_parseRoad_82, (List.forall_mem_nil _)⟩) hd_no, m_cv⟩ (
  lkp_c (P := OkP 309) ⟨(PuOK.ok (ok_aload_n dX4_parseRoad_85 rfl)), m_aload⟩ (
  lkp_c (P := OkP 309) ⟨ok_cv (List.forall_mem_cons.mpr ⟨tg_V (ci := 30) (r := CLr 30) (y := 305) rfl ⟨rfl, by decide⟩ rfl q3274 q3276 qs50 q139 q3277 ⟨cn_34.1, cn_34.2, pd_0⟩ dX4_parseRoad_86, (List.forall_mem_nil _)⟩) hd_no, m_cv⟩ (
  lkp_c (P := OkP 309) ⟨(PuOK.ok (ok_aload_n dX4_parseRoad_89 rfl)), m_aload⟩ (
  lkp_c (P := OkP 309) ⟨(PuOK.ok (ok_iconst dX4_parseRoad_90 rfl)), m_push⟩ (
  lkp_c (P := OkP 309) ⟨(PuOK.ok (ok_bipush dX4_parseRoad_91 rfl)), m_push⟩ (
  lkp_c (P := OkP 309) ⟨ok_cv (List.forall_mem_cons.mpr ⟨tg_V (ci := 30) (r := CLr 30) (y := 306) rfl ⟨rfl, by decide⟩ rfl q3278 q3280 qs51 q139 q3281 ⟨cn_34.1, cn_34.2, pd_1⟩ dX4_parseRoad_93, (List.forall_mem_nil _)⟩) hd_no, m_cv⟩ (
  lkp_c (P := OkP 309) ⟨(PuOK.ok (ok_istore_n dX4_parseRoad_96 rfl)), m_istore⟩ (
  lkp_c (P := OkP 309) ⟨(PuOK.ok (ok_aload_n dX4_parseRoad_97 rfl)), m_aload⟩ (
  lkp_c (P := OkP 309) ⟨(PuOK.ok (ok_iconst dX4_parseRoad_98 rfl)), m_push⟩ (
  lkp_c (P := OkP 309) ⟨(PuOK.ok (ok_sipush dX4_parseRoad_99 rfl)), m_push⟩ (
  lkp_c (P := OkP 309) ⟨ok_cv (List.forall_mem_cons.mpr ⟨tg_V (ci := 30) (r := CLr 30) (y := 306) rfl ⟨rfl, by decide⟩ rfl q3278 q3280 qs51 q139 q3281 ⟨cn_34.1, cn_34.2, pd_1⟩ dX4_parseRoad_102, (List.forall_mem_nil _)⟩) hd_no, m_cv⟩ (
  lkp_c (P := OkP 309) ⟨(PuOK.ok (ok_istore dX4_parseRoad_105)), m_istore⟩ (
  lkp_c (P := OkP 309) ⟨(PuOK.ok (ok_aload_n dX4_parseRoad_107 rfl)), m_aload⟩ (
  lkp_c (P := OkP 309) ⟨ok_cv (List.forall_mem_cons.mpr ⟨tg_V (ci := 30) (r := CLr 30) (y := 300) rfl ⟨rfl, by decide⟩ rfl q3241 q3243 qs45 q139 q3244 ⟨cn_34.1, cn_34.2, pd_50⟩ dX4_parseRoad_108, (List.forall_mem_nil _)⟩) hd_no, m_cv⟩ (
  lkp_c (P := OkP 309) ⟨(PuOK.ok (ok_if_eq dX4_parseRoad_111 rfl)), m_if⟩ (
  lkp_c (P := OkP 309) ⟨(PuOK.ok (ok_aload_n dX4_parseRoad_114 rfl)), m_aload⟩ (
  lkp_c (P := OkP 309) ⟨(PuOK.ok (ok_iload_n dX4_parseRoad_115 rfl)), m_iload⟩ (
  lkp_c (P := OkP 309) ⟨(PuOK.ok (ok_iload_n dX4_parseRoad_116 rfl)), m_iload⟩ (
  lkp_c (P := OkP 309) ⟨(PuOK.ok (ok_iload_n dX4_parseRoad_117 rfl)), m_iload⟩ (
  lkp_c (P := OkP 309) ⟨(PuOK.ok (ok_iload dX4_parseRoad_118)), m_iload⟩ (
  lkp_c (P := OkP 309) ⟨ok_cv (List.forall_mem_cons.mpr ⟨tg_V (ci := 30) (r := CLr 30) (y := 311) rfl ⟨rfl, by decide⟩ rfl q3299 q3301 qs56 q139 q3302 ⟨cn_34.1, cn_34.2, pd_62⟩ dX4_parseRoad_120, (List.forall_mem_nil _)⟩) hd_no, m_cv⟩ (
  lkp_c (P := OkP 309) ⟨(PuOK.ok (ok_istore dX4_parseRoad_123)), m_istore⟩ (
  lkp_c (P := OkP 309) ⟨ok_vret rfl dX4_parseRoad_125, m_vret⟩ (
  trivial))))))))))))))))))))))))))))))))))
theorem mt_309 : MtOK TB NT IT 309 := ⟨by decide +kernel, rfl, (fun h => by cases h), Or.inl ⟨rfl, rfl⟩, rfl, by decide, lk2_all (P := OkP 309) ⟨c_309_0, c_309_1, trivial⟩⟩
def dkwX4_roadFrom_2 : List UInt8 := [132, 3, 1, 167, 255, 208, 2, 172]
abbrev dktX4_roadFrom_2 : List UInt8 := dkwX4_roadFrom_2 ++ []
def dkwX4_roadFrom_1 : List UInt8 := [27, 160, 0, 22, 42, 180, 0, 7, 16, 27, 7, 29, 104, 96, 4, 96, 46, 28, 160, 0, 5, 29, 172]
abbrev dktX4_roadFrom_1 : List UInt8 := dkwX4_roadFrom_1 ++ dktX4_roadFrom_2
def dkwX4_roadFrom_0 : List UInt8 := [3, 62, 29, 42, 180, 0, 7, 16, 9, 46, 162, 0, 43, 42, 180, 0, 7, 16, 27, 7, 29, 104, 96, 46]
abbrev dktX4_roadFrom_0 : List UInt8 := dkwX4_roadFrom_0 ++ dktX4_roadFrom_1
theorem dksX4_roadFrom_0 : cX4_roadFrom.data.toList.drop 0 = dktX4_roadFrom_0 := by decide +kernel
theorem dksX4_roadFrom_1 : cX4_roadFrom.data.toList.drop 24 = dktX4_roadFrom_1 := dk_seg dksX4_roadFrom_0 24 rfl rfl
theorem dksX4_roadFrom_2 : cX4_roadFrom.data.toList.drop 47 = dktX4_roadFrom_2 := dk_seg dksX4_roadFrom_1 23 rfl rfl
theorem dX4_roadFrom_0 : decode cX4_roadFrom 0 = .ok (.iconst 0, 1) := dk_3 (dk_at dksX4_roadFrom_0 0 rfl rfl)
theorem dX4_roadFrom_1 : decode cX4_roadFrom 1 = .ok (.istore_n 3, 1) := dk_62 (dk_at dksX4_roadFrom_0 1 rfl rfl)
theorem dX4_roadFrom_2 : decode cX4_roadFrom 2 = .ok (.iload_n 3, 1) := dk_29 (dk_at dksX4_roadFrom_0 2 rfl rfl)
theorem dX4_roadFrom_3 : decode cX4_roadFrom 3 = .ok (.aload_n 0, 1) := dk_42 (dk_at dksX4_roadFrom_0 3 rfl rfl)
theorem dX4_roadFrom_4 : decode cX4_roadFrom 4 = .ok (.getfield 7, 3) := dk_180 0 7 (dk_at dksX4_roadFrom_0 4 rfl rfl)
theorem dX4_roadFrom_7 : decode cX4_roadFrom 7 = .ok (.bipush 9, 2) := dk_16 9 (dk_at dksX4_roadFrom_0 7 rfl rfl)
theorem dX4_roadFrom_9 : decode cX4_roadFrom 9 = .ok (.iaload, 1) := dk_46 (dk_at dksX4_roadFrom_0 9 rfl rfl)
theorem dX4_roadFrom_10 : decode cX4_roadFrom 10 = .ok (.if_icmp .ge 43, 3) := dk_162 0 43 (dk_at dksX4_roadFrom_0 10 rfl rfl)
theorem dX4_roadFrom_13 : decode cX4_roadFrom 13 = .ok (.aload_n 0, 1) := dk_42 (dk_at dksX4_roadFrom_0 13 rfl rfl)
theorem dX4_roadFrom_14 : decode cX4_roadFrom 14 = .ok (.getfield 7, 3) := dk_180 0 7 (dk_at dksX4_roadFrom_0 14 rfl rfl)
theorem dX4_roadFrom_17 : decode cX4_roadFrom 17 = .ok (.bipush 27, 2) := dk_16 27 (dk_at dksX4_roadFrom_0 17 rfl rfl)
theorem dX4_roadFrom_19 : decode cX4_roadFrom 19 = .ok (.iconst 4, 1) := dk_7 (dk_at dksX4_roadFrom_0 19 rfl rfl)
theorem dX4_roadFrom_20 : decode cX4_roadFrom 20 = .ok (.iload_n 3, 1) := dk_29 (dk_at dksX4_roadFrom_0 20 rfl rfl)
theorem dX4_roadFrom_21 : decode cX4_roadFrom 21 = .ok (.imul, 1) := dk_104 (dk_at dksX4_roadFrom_0 21 rfl rfl)
theorem dX4_roadFrom_22 : decode cX4_roadFrom 22 = .ok (.iadd, 1) := dk_96 (dk_at dksX4_roadFrom_0 22 rfl rfl)
theorem dX4_roadFrom_23 : decode cX4_roadFrom 23 = .ok (.iaload, 1) := dk_46 (dk_at dksX4_roadFrom_0 23 rfl rfl)
theorem dX4_roadFrom_24 : decode cX4_roadFrom 24 = .ok (.iload_n 1, 1) := dk_27 (dk_at dksX4_roadFrom_1 0 rfl rfl)
theorem dX4_roadFrom_25 : decode cX4_roadFrom 25 = .ok (.if_icmp .ne 22, 3) := dk_160 0 22 (dk_at dksX4_roadFrom_1 1 rfl rfl)
theorem dX4_roadFrom_28 : decode cX4_roadFrom 28 = .ok (.aload_n 0, 1) := dk_42 (dk_at dksX4_roadFrom_1 4 rfl rfl)
theorem dX4_roadFrom_29 : decode cX4_roadFrom 29 = .ok (.getfield 7, 3) := dk_180 0 7 (dk_at dksX4_roadFrom_1 5 rfl rfl)
theorem dX4_roadFrom_32 : decode cX4_roadFrom 32 = .ok (.bipush 27, 2) := dk_16 27 (dk_at dksX4_roadFrom_1 8 rfl rfl)
theorem dX4_roadFrom_34 : decode cX4_roadFrom 34 = .ok (.iconst 4, 1) := dk_7 (dk_at dksX4_roadFrom_1 10 rfl rfl)
theorem dX4_roadFrom_35 : decode cX4_roadFrom 35 = .ok (.iload_n 3, 1) := dk_29 (dk_at dksX4_roadFrom_1 11 rfl rfl)
theorem dX4_roadFrom_36 : decode cX4_roadFrom 36 = .ok (.imul, 1) := dk_104 (dk_at dksX4_roadFrom_1 12 rfl rfl)
theorem dX4_roadFrom_37 : decode cX4_roadFrom 37 = .ok (.iadd, 1) := dk_96 (dk_at dksX4_roadFrom_1 13 rfl rfl)
theorem dX4_roadFrom_38 : decode cX4_roadFrom 38 = .ok (.iconst 1, 1) := dk_4 (dk_at dksX4_roadFrom_1 14 rfl rfl)
theorem dX4_roadFrom_39 : decode cX4_roadFrom 39 = .ok (.iadd, 1) := dk_96 (dk_at dksX4_roadFrom_1 15 rfl rfl)
theorem dX4_roadFrom_40 : decode cX4_roadFrom 40 = .ok (.iaload, 1) := dk_46 (dk_at dksX4_roadFrom_1 16 rfl rfl)
theorem dX4_roadFrom_41 : decode cX4_roadFrom 41 = .ok (.iload_n 2, 1) := dk_28 (dk_at dksX4_roadFrom_1 17 rfl rfl)
theorem dX4_roadFrom_42 : decode cX4_roadFrom 42 = .ok (.if_icmp .ne 5, 3) := dk_160 0 5 (dk_at dksX4_roadFrom_1 18 rfl rfl)
theorem dX4_roadFrom_45 : decode cX4_roadFrom 45 = .ok (.iload_n 3, 1) := dk_29 (dk_at dksX4_roadFrom_1 21 rfl rfl)
theorem dX4_roadFrom_46 : decode cX4_roadFrom 46 = .ok (.ireturn, 1) := dk_172 (dk_at dksX4_roadFrom_1 22 rfl rfl)
theorem dX4_roadFrom_47 : decode cX4_roadFrom 47 = .ok (.iinc 3 1, 3) := dk_132 3 1 (dk_at dksX4_roadFrom_2 0 rfl rfl)
theorem dX4_roadFrom_50 : decode cX4_roadFrom 50 = .ok (.goto (-48), 3) := dk_167 255 208 (dk_at dksX4_roadFrom_2 3 rfl rfl)
theorem dX4_roadFrom_53 : decode cX4_roadFrom 53 = .ok (.iconst (-1), 1) := dk_2 (dk_at dksX4_roadFrom_2 6 rfl rfl)
theorem dX4_roadFrom_54 : decode cX4_roadFrom 54 = .ok (.ireturn, 1) := dk_172 (dk_at dksX4_roadFrom_2 7 rfl rfl)
theorem c_310_0 : LkP (OkP 310) [(0, o_push 1 (.int 0)), (1, o_istore 3 1), (2, o_iload 3 1), (3, o_aload 0 1), (4, o_get 148), (7, o_push 2 (.int 9)), (9, o_rdI 0), (10, o_icmp (fun x y => decide (y ≤ x)) 53), (13, o_aload 0 1), (14, o_get 148), (17, o_push 2 (.int 27)), (19, o_push 1 (.int 4)), (20, o_iload 3 1), (21, o_iop (fun x y => x * y)), (22, o_iop (fun x y => x + y)), (23, o_rdI 0), (24, o_iload 1 1), (25, o_icmp (fun x y => decide (¬ x = y)) 47), (28, o_aload 0 1), (29, o_get 148), (32, o_push 2 (.int 27)), (34, o_push 1 (.int 4)), (35, o_iload 3 1), (36, o_iop (fun x y => x * y)), (37, o_iop (fun x y => x + y)), (38, o_push 1 (.int 1)), (39, o_iop (fun x y => x + y)), (40, o_rdI 0), (41, o_iload 2 1), (42, o_icmp (fun x y => decide (¬ x = y)) 47), (45, o_iload 3 1), (46, o_ret 1), (47, o_iinc 3 1), (50, o_goto 2), (53, o_push 1 (.int (-1))), (54, o_ret 1)] := lkp_c (P := OkP 310) ⟨(PuOK.ok (ok_iconst dX4_roadFrom_0 rfl)), m_push⟩ (
  lkp_c (P := OkP 310) ⟨(PuOK.ok (ok_istore_n dX4_roadFrom_1 rfl)), m_istore⟩ (
  lkp_c (P := OkP 310) ⟨(PuOK.ok (ok_iload_n dX4_roadFrom_2 rfl)), m_iload⟩ (
  lkp_c (P := OkP 310) ⟨(PuOK.ok (ok_aload_n dX4_roadFrom_3 rfl)), m_aload⟩ (
  lkp_c (P := OkP 310) ⟨ok_get ⟨"TollRoadModel", q3080, Or.inl rfl⟩ dX4_roadFrom_4, m_get⟩ (
  lkp_c (P := OkP 310) ⟨(PuOK.ok (ok_bipush dX4_roadFrom_7 rfl)), m_push⟩ (
  lkp_c (P := OkP 310) ⟨ok_iald dX4_roadFrom_9, m_rdI⟩ (
  lkp_c (P := OkP 310) ⟨(PuOK.ok (ok_icmp_ge dX4_roadFrom_10 rfl)), m_icmp⟩ (
  lkp_c (P := OkP 310) ⟨(PuOK.ok (ok_aload_n dX4_roadFrom_13 rfl)), m_aload⟩ (
  lkp_c (P := OkP 310) ⟨ok_get ⟨"TollRoadModel", q3080, Or.inl rfl⟩ dX4_roadFrom_14, m_get⟩ (
  lkp_c (P := OkP 310) ⟨(PuOK.ok (ok_bipush dX4_roadFrom_17 rfl)), m_push⟩ (
  lkp_c (P := OkP 310) ⟨(PuOK.ok (ok_iconst dX4_roadFrom_19 rfl)), m_push⟩ (
  lkp_c (P := OkP 310) ⟨(PuOK.ok (ok_iload_n dX4_roadFrom_20 rfl)), m_iload⟩ (
  lkp_c (P := OkP 310) ⟨(PuOK.ok (ok_imul dX4_roadFrom_21)), m_iop⟩ (
  lkp_c (P := OkP 310) ⟨(PuOK.ok (ok_iadd dX4_roadFrom_22)), m_iop⟩ (
  lkp_c (P := OkP 310) ⟨ok_iald dX4_roadFrom_23, m_rdI⟩ (
  lkp_c (P := OkP 310) ⟨(PuOK.ok (ok_iload_n dX4_roadFrom_24 rfl)), m_iload⟩ (
  lkp_c (P := OkP 310) ⟨(PuOK.ok (ok_icmp_ne dX4_roadFrom_25 rfl)), m_icmp⟩ (
  lkp_c (P := OkP 310) ⟨(PuOK.ok (ok_aload_n dX4_roadFrom_28 rfl)), m_aload⟩ (
  lkp_c (P := OkP 310) ⟨ok_get ⟨"TollRoadModel", q3080, Or.inl rfl⟩ dX4_roadFrom_29, m_get⟩ (
  lkp_c (P := OkP 310) ⟨(PuOK.ok (ok_bipush dX4_roadFrom_32 rfl)), m_push⟩ (
  lkp_c (P := OkP 310) ⟨(PuOK.ok (ok_iconst dX4_roadFrom_34 rfl)), m_push⟩ (
  lkp_c (P := OkP 310) ⟨(PuOK.ok (ok_iload_n dX4_roadFrom_35 rfl)), m_iload⟩ (
  lkp_c (P := OkP 310) ⟨(PuOK.ok (ok_imul dX4_roadFrom_36)), m_iop⟩ (
  lkp_c (P := OkP 310) ⟨(PuOK.ok (ok_iadd dX4_roadFrom_37)), m_iop⟩ (
  lkp_c (P := OkP 310) ⟨(PuOK.ok (ok_iconst dX4_roadFrom_38 rfl)), m_push⟩ (
  lkp_c (P := OkP 310) ⟨(PuOK.ok (ok_iadd dX4_roadFrom_39)), m_iop⟩ (
  lkp_c (P := OkP 310) ⟨ok_iald dX4_roadFrom_40, m_rdI⟩ (
  lkp_c (P := OkP 310) ⟨(PuOK.ok (ok_iload_n dX4_roadFrom_41 rfl)), m_iload⟩ (
  lkp_c (P := OkP 310) ⟨(PuOK.ok (ok_icmp_ne dX4_roadFrom_42 rfl)), m_icmp⟩ (
  lkp_c (P := OkP 310) ⟨(PuOK.ok (ok_iload_n dX4_roadFrom_45 rfl)), m_iload⟩ (
  lkp_c (P := OkP 310) ⟨ok_iret rfl rfl (by decide) dX4_roadFrom_46, m_ret⟩ (
  lkp_c (P := OkP 310) ⟨(PuOK.ok (ok_iinc dX4_roadFrom_47 rfl)), m_iinc⟩ (
  lkp_c (P := OkP 310) ⟨(PuOK.ok (ok_goto dX4_roadFrom_50 rfl)), m_goto⟩ (
  lkp_c (P := OkP 310) ⟨(PuOK.ok (ok_iconst dX4_roadFrom_53 rfl)), m_push⟩ (
  lkp_c (P := OkP 310) ⟨ok_iret rfl rfl (by decide) dX4_roadFrom_54, m_ret⟩ (
  trivial))))))))))))))))))))))))))))))))))))
theorem mt_310 : MtOK TB NT IT 310 := ⟨by decide +kernel, rfl, (fun h => by cases h), Or.inl ⟨rfl, rfl⟩, rfl, by decide, lk2_all (P := OkP 310) ⟨c_310_0, trivial⟩⟩
def dkwX4_appendRoad_3 : List UInt8 := [46, 4, 100, 172]
abbrev dktX4_appendRoad_3 : List UInt8 := dkwX4_appendRoad_3 ++ []
def dkwX4_appendRoad_2 : List UInt8 := [21, 5, 6, 96, 21, 4, 79, 42, 180, 0, 7, 16, 9, 92, 46, 4, 96, 79, 42, 180, 0, 7, 16, 9]
abbrev dktX4_appendRoad_2 : List UInt8 := dkwX4_appendRoad_2 ++ dktX4_appendRoad_3
def dkwX4_appendRoad_1 : List UInt8 := [180, 0, 7, 21, 5, 4, 96, 28, 79, 42, 180, 0, 7, 21, 5, 5, 96, 29, 79, 42, 180, 0, 7]
abbrev dktX4_appendRoad_1 : List UInt8 := dkwX4_appendRoad_1 ++ dktX4_appendRoad_2
def dkwX4_appendRoad_0 : List UInt8 := [16, 27, 7, 42, 180, 0, 7, 16, 9, 46, 104, 96, 54, 5, 42, 180, 0, 7, 21, 5, 27, 79, 42]
abbrev dktX4_appendRoad_0 : List UInt8 := dkwX4_appendRoad_0 ++ dktX4_appendRoad_1
theorem dksX4_appendRoad_0 : cX4_appendRoad.data.toList.drop 0 = dktX4_appendRoad_0 := by decide +kernel
theorem dksX4_appendRoad_1 : cX4_appendRoad.data.toList.drop 23 = dktX4_appendRoad_1 := dk_seg dksX4_appendRoad_0 23 rfl rfl
theorem dksX4_appendRoad_2 : cX4_appendRoad.data.toList.drop 46 = dktX4_appendRoad_2 := dk_seg dksX4_appendRoad_1 23 rfl rfl
theorem dksX4_appendRoad_3 : cX4_appendRoad.data.toList.drop 70 = dktX4_appendRoad_3 := dk_seg dksX4_appendRoad_2 24 rfl rfl
theorem dX4_appendRoad_0 : decode cX4_appendRoad 0 = .ok (.bipush 27, 2) := dk_16 27 (dk_at dksX4_appendRoad_0 0 rfl rfl)
theorem dX4_appendRoad_2 : decode cX4_appendRoad 2 = .ok (.iconst 4, 1) := dk_7 (dk_at dksX4_appendRoad_0 2 rfl rfl)
theorem dX4_appendRoad_3 : decode cX4_appendRoad 3 = .ok (.aload_n 0, 1) := dk_42 (dk_at dksX4_appendRoad_0 3 rfl rfl)
theorem dX4_appendRoad_4 : decode cX4_appendRoad 4 = .ok (.getfield 7, 3) := dk_180 0 7 (dk_at dksX4_appendRoad_0 4 rfl rfl)
theorem dX4_appendRoad_7 : decode cX4_appendRoad 7 = .ok (.bipush 9, 2) := dk_16 9 (dk_at dksX4_appendRoad_0 7 rfl rfl)
theorem dX4_appendRoad_9 : decode cX4_appendRoad 9 = .ok (.iaload, 1) := dk_46 (dk_at dksX4_appendRoad_0 9 rfl rfl)
theorem dX4_appendRoad_10 : decode cX4_appendRoad 10 = .ok (.imul, 1) := dk_104 (dk_at dksX4_appendRoad_0 10 rfl rfl)
theorem dX4_appendRoad_11 : decode cX4_appendRoad 11 = .ok (.iadd, 1) := dk_96 (dk_at dksX4_appendRoad_0 11 rfl rfl)
theorem dX4_appendRoad_12 : decode cX4_appendRoad 12 = .ok (.istore 5, 2) := dk_54 5 (dk_at dksX4_appendRoad_0 12 rfl rfl)
theorem dX4_appendRoad_14 : decode cX4_appendRoad 14 = .ok (.aload_n 0, 1) := dk_42 (dk_at dksX4_appendRoad_0 14 rfl rfl)
theorem dX4_appendRoad_15 : decode cX4_appendRoad 15 = .ok (.getfield 7, 3) := dk_180 0 7 (dk_at dksX4_appendRoad_0 15 rfl rfl)
theorem dX4_appendRoad_18 : decode cX4_appendRoad 18 = .ok (.iload 5, 2) := dk_21 5 (dk_at dksX4_appendRoad_0 18 rfl rfl)
theorem dX4_appendRoad_20 : decode cX4_appendRoad 20 = .ok (.iload_n 1, 1) := dk_27 (dk_at dksX4_appendRoad_0 20 rfl rfl)
theorem dX4_appendRoad_21 : decode cX4_appendRoad 21 = .ok (.iastore, 1) := dk_79 (dk_at dksX4_appendRoad_0 21 rfl rfl)
theorem dX4_appendRoad_22 : decode cX4_appendRoad 22 = .ok (.aload_n 0, 1) := dk_42 (dk_at dksX4_appendRoad_0 22 rfl rfl)
theorem dX4_appendRoad_23 : decode cX4_appendRoad 23 = .ok (.getfield 7, 3) := dk_180 0 7 (dk_at dksX4_appendRoad_1 0 rfl rfl)
theorem dX4_appendRoad_26 : decode cX4_appendRoad 26 = .ok (.iload 5, 2) := dk_21 5 (dk_at dksX4_appendRoad_1 3 rfl rfl)
theorem dX4_appendRoad_28 : decode cX4_appendRoad 28 = .ok (.iconst 1, 1) := dk_4 (dk_at dksX4_appendRoad_1 5 rfl rfl)
theorem dX4_appendRoad_29 : decode cX4_appendRoad 29 = .ok (.iadd, 1) := dk_96 (dk_at dksX4_appendRoad_1 6 rfl rfl)
theorem dX4_appendRoad_30 : decode cX4_appendRoad 30 = .ok (.iload_n 2, 1) := dk_28 (dk_at dksX4_appendRoad_1 7 rfl rfl)
theorem dX4_appendRoad_31 : decode cX4_appendRoad 31 = .ok (.iastore, 1) := dk_79 (dk_at dksX4_appendRoad_1 8 rfl rfl)
theorem dX4_appendRoad_32 : decode cX4_appendRoad 32 = .ok (.aload_n 0, 1) := dk_42 (dk_at dksX4_appendRoad_1 9 rfl rfl)
theorem dX4_appendRoad_33 : decode cX4_appendRoad 33 = .ok (.getfield 7, 3) := dk_180 0 7 (dk_at dksX4_appendRoad_1 10 rfl rfl)
theorem dX4_appendRoad_36 : decode cX4_appendRoad 36 = .ok (.iload 5, 2) := dk_21 5 (dk_at dksX4_appendRoad_1 13 rfl rfl)
theorem dX4_appendRoad_38 : decode cX4_appendRoad 38 = .ok (.iconst 2, 1) := dk_5 (dk_at dksX4_appendRoad_1 15 rfl rfl)
theorem dX4_appendRoad_39 : decode cX4_appendRoad 39 = .ok (.iadd, 1) := dk_96 (dk_at dksX4_appendRoad_1 16 rfl rfl)
theorem dX4_appendRoad_40 : decode cX4_appendRoad 40 = .ok (.iload_n 3, 1) := dk_29 (dk_at dksX4_appendRoad_1 17 rfl rfl)
theorem dX4_appendRoad_41 : decode cX4_appendRoad 41 = .ok (.iastore, 1) := dk_79 (dk_at dksX4_appendRoad_1 18 rfl rfl)
theorem dX4_appendRoad_42 : decode cX4_appendRoad 42 = .ok (.aload_n 0, 1) := dk_42 (dk_at dksX4_appendRoad_1 19 rfl rfl)
theorem dX4_appendRoad_43 : decode cX4_appendRoad 43 = .ok (.getfield 7, 3) := dk_180 0 7 (dk_at dksX4_appendRoad_1 20 rfl rfl)
theorem dX4_appendRoad_46 : decode cX4_appendRoad 46 = .ok (.iload 5, 2) := dk_21 5 (dk_at dksX4_appendRoad_2 0 rfl rfl)
theorem dX4_appendRoad_48 : decode cX4_appendRoad 48 = .ok (.iconst 3, 1) := dk_6 (dk_at dksX4_appendRoad_2 2 rfl rfl)
theorem dX4_appendRoad_49 : decode cX4_appendRoad 49 = .ok (.iadd, 1) := dk_96 (dk_at dksX4_appendRoad_2 3 rfl rfl)
theorem dX4_appendRoad_50 : decode cX4_appendRoad 50 = .ok (.iload 4, 2) := dk_21 4 (dk_at dksX4_appendRoad_2 4 rfl rfl)
theorem dX4_appendRoad_52 : decode cX4_appendRoad 52 = .ok (.iastore, 1) := dk_79 (dk_at dksX4_appendRoad_2 6 rfl rfl)
theorem dX4_appendRoad_53 : decode cX4_appendRoad 53 = .ok (.aload_n 0, 1) := dk_42 (dk_at dksX4_appendRoad_2 7 rfl rfl)
theorem dX4_appendRoad_54 : decode cX4_appendRoad 54 = .ok (.getfield 7, 3) := dk_180 0 7 (dk_at dksX4_appendRoad_2 8 rfl rfl)
theorem dX4_appendRoad_57 : decode cX4_appendRoad 57 = .ok (.bipush 9, 2) := dk_16 9 (dk_at dksX4_appendRoad_2 11 rfl rfl)
theorem dX4_appendRoad_59 : decode cX4_appendRoad 59 = .ok (.dup2, 1) := dk_92 (dk_at dksX4_appendRoad_2 13 rfl rfl)
theorem dX4_appendRoad_60 : decode cX4_appendRoad 60 = .ok (.iaload, 1) := dk_46 (dk_at dksX4_appendRoad_2 14 rfl rfl)
theorem dX4_appendRoad_61 : decode cX4_appendRoad 61 = .ok (.iconst 1, 1) := dk_4 (dk_at dksX4_appendRoad_2 15 rfl rfl)
theorem dX4_appendRoad_62 : decode cX4_appendRoad 62 = .ok (.iadd, 1) := dk_96 (dk_at dksX4_appendRoad_2 16 rfl rfl)
theorem dX4_appendRoad_63 : decode cX4_appendRoad 63 = .ok (.iastore, 1) := dk_79 (dk_at dksX4_appendRoad_2 17 rfl rfl)
theorem dX4_appendRoad_64 : decode cX4_appendRoad 64 = .ok (.aload_n 0, 1) := dk_42 (dk_at dksX4_appendRoad_2 18 rfl rfl)
theorem dX4_appendRoad_65 : decode cX4_appendRoad 65 = .ok (.getfield 7, 3) := dk_180 0 7 (dk_at dksX4_appendRoad_2 19 rfl rfl)
theorem dX4_appendRoad_68 : decode cX4_appendRoad 68 = .ok (.bipush 9, 2) := dk_16 9 (dk_at dksX4_appendRoad_2 22 rfl rfl)
theorem dX4_appendRoad_70 : decode cX4_appendRoad 70 = .ok (.iaload, 1) := dk_46 (dk_at dksX4_appendRoad_3 0 rfl rfl)
theorem dX4_appendRoad_71 : decode cX4_appendRoad 71 = .ok (.iconst 1, 1) := dk_4 (dk_at dksX4_appendRoad_3 1 rfl rfl)
theorem dX4_appendRoad_72 : decode cX4_appendRoad 72 = .ok (.isub, 1) := dk_100 (dk_at dksX4_appendRoad_3 2 rfl rfl)
theorem dX4_appendRoad_73 : decode cX4_appendRoad 73 = .ok (.ireturn, 1) := dk_172 (dk_at dksX4_appendRoad_3 3 rfl rfl)
theorem c_311_0 : LkP (OkP 311) [(0, o_push 2 (.int 27)), (2, o_push 1 (.int 4)), (3, o_aload 0 1), (4, o_get 148), (7, o_push 2 (.int 9)), (9, o_rdI 0), (10, o_iop (fun x y => x * y)), (11, o_iop (fun x y => x + y)), (12, o_istore 5 2), (14, o_aload 0 1), (15, o_get 148), (18, o_iload 5 2), (20, o_iload 1 1), (21, o_wrI 0), (22, o_aload 0 1), (23, o_get 148), (26, o_iload 5 2), (28, o_push 1 (.int 1)), (29, o_iop (fun x y => x + y)), (30, o_iload 2 1), (31, o_wrI 0), (32, o_aload 0 1), (33, o_get 148), (36, o_iload 5 2), (38, o_push 1 (.int 2)), (39, o_iop (fun x y => x + y)), (40, o_iload 3 1), (41, o_wrI 0), (42, o_aload 0 1), (43, o_get 148), (46, o_iload 5 2), (48, o_push 1 (.int 3)), (49, o_iop (fun x y => x + y)), (50, o_iload 4 2), (52, o_wrI 0), (53, o_aload 0 1), (54, o_get 148), (57, o_push 2 (.int 9)), (59, o_dup2), (60, o_rdI 0), (61, o_push 1 (.int 1)), (62, o_iop (fun x y => x + y)), (63, o_wrI 0)] := lkp_c (P := OkP 311) ⟨(PuOK.ok (ok_bipush dX4_appendRoad_0 rfl)), m_push⟩ (
  lkp_c (P := OkP 311) ⟨(PuOK.ok (ok_iconst dX4_appendRoad_2 rfl)), m_push⟩ (
  lkp_c (P := OkP 311) ⟨(PuOK.ok (ok_aload_n dX4_appendRoad_3 rfl)), m_aload⟩ (
  lkp_c (P := OkP 311) ⟨ok_get ⟨"TollRoadModel", q3080, Or.inl rfl⟩ dX4_appendRoad_4, m_get⟩ (
  lkp_c (P := OkP 311) ⟨(PuOK.ok (ok_bipush dX4_appendRoad_7 rfl)), m_push⟩ (
  lkp_c (P := OkP 311) ⟨ok_iald dX4_appendRoad_9, m_rdI⟩ (
  lkp_c (P := OkP 311) ⟨(PuOK.ok (ok_imul dX4_appendRoad_10)), m_iop⟩ (
  lkp_c (P := OkP 311) ⟨(PuOK.ok (ok_iadd dX4_appendRoad_11)), m_iop⟩ (
  lkp_c (P := OkP 311) ⟨(PuOK.ok (ok_istore dX4_appendRoad_12)), m_istore⟩ (
  lkp_c (P := OkP 311) ⟨(PuOK.ok (ok_aload_n dX4_appendRoad_14 rfl)), m_aload⟩ (
  lkp_c (P := OkP 311) ⟨ok_get ⟨"TollRoadModel", q3080, Or.inl rfl⟩ dX4_appendRoad_15, m_get⟩ (
  lkp_c (P := OkP 311) ⟨(PuOK.ok (ok_iload dX4_appendRoad_18)), m_iload⟩ (
  lkp_c (P := OkP 311) ⟨(PuOK.ok (ok_iload_n dX4_appendRoad_20 rfl)), m_iload⟩ (
  lkp_c (P := OkP 311) ⟨ok_iast dX4_appendRoad_21, m_wrI⟩ (
  lkp_c (P := OkP 311) ⟨(PuOK.ok (ok_aload_n dX4_appendRoad_22 rfl)), m_aload⟩ (
  lkp_c (P := OkP 311) ⟨ok_get ⟨"TollRoadModel", q3080, Or.inl rfl⟩ dX4_appendRoad_23, m_get⟩ (
  lkp_c (P := OkP 311) ⟨(PuOK.ok (ok_iload dX4_appendRoad_26)), m_iload⟩ (
  lkp_c (P := OkP 311) ⟨(PuOK.ok (ok_iconst dX4_appendRoad_28 rfl)), m_push⟩ (
  lkp_c (P := OkP 311) ⟨(PuOK.ok (ok_iadd dX4_appendRoad_29)), m_iop⟩ (
  lkp_c (P := OkP 311) ⟨(PuOK.ok (ok_iload_n dX4_appendRoad_30 rfl)), m_iload⟩ (
  lkp_c (P := OkP 311) ⟨ok_iast dX4_appendRoad_31, m_wrI⟩ (
  lkp_c (P := OkP 311) ⟨(PuOK.ok (ok_aload_n dX4_appendRoad_32 rfl)), m_aload⟩ (
  lkp_c (P := OkP 311) ⟨ok_get ⟨"TollRoadModel", q3080, Or.inl rfl⟩ dX4_appendRoad_33, m_get⟩ (
  lkp_c (P := OkP 311) ⟨(PuOK.ok (ok_iload dX4_appendRoad_36)), m_iload⟩ (
  lkp_c (P := OkP 311) ⟨(PuOK.ok (ok_iconst dX4_appendRoad_38 rfl)), m_push⟩ (
  lkp_c (P := OkP 311) ⟨(PuOK.ok (ok_iadd dX4_appendRoad_39)), m_iop⟩ (
  lkp_c (P := OkP 311) ⟨(PuOK.ok (ok_iload_n dX4_appendRoad_40 rfl)), m_iload⟩ (
  lkp_c (P := OkP 311) ⟨ok_iast dX4_appendRoad_41, m_wrI⟩ (
  lkp_c (P := OkP 311) ⟨(PuOK.ok (ok_aload_n dX4_appendRoad_42 rfl)), m_aload⟩ (
  lkp_c (P := OkP 311) ⟨ok_get ⟨"TollRoadModel", q3080, Or.inl rfl⟩ dX4_appendRoad_43, m_get⟩ (
  lkp_c (P := OkP 311) ⟨(PuOK.ok (ok_iload dX4_appendRoad_46)), m_iload⟩ (
  lkp_c (P := OkP 311) ⟨(PuOK.ok (ok_iconst dX4_appendRoad_48 rfl)), m_push⟩ (
  lkp_c (P := OkP 311) ⟨(PuOK.ok (ok_iadd dX4_appendRoad_49)), m_iop⟩ (
  lkp_c (P := OkP 311) ⟨(PuOK.ok (ok_iload dX4_appendRoad_50)), m_iload⟩ (
  lkp_c (P := OkP 311) ⟨ok_iast dX4_appendRoad_52, m_wrI⟩ (
  lkp_c (P := OkP 311) ⟨(PuOK.ok (ok_aload_n dX4_appendRoad_53 rfl)), m_aload⟩ (
  lkp_c (P := OkP 311) ⟨ok_get ⟨"TollRoadModel", q3080, Or.inl rfl⟩ dX4_appendRoad_54, m_get⟩ (
  lkp_c (P := OkP 311) ⟨(PuOK.ok (ok_bipush dX4_appendRoad_57 rfl)), m_push⟩ (
  lkp_c (P := OkP 311) ⟨(PuOK.ok (ok_dup2 dX4_appendRoad_59)), m_dup2⟩ (
  lkp_c (P := OkP 311) ⟨ok_iald dX4_appendRoad_60, m_rdI⟩ (
  lkp_c (P := OkP 311) ⟨(PuOK.ok (ok_iconst dX4_appendRoad_61 rfl)), m_push⟩ (
  lkp_c (P := OkP 311) ⟨(PuOK.ok (ok_iadd dX4_appendRoad_62)), m_iop⟩ (
  lkp_c (P := OkP 311) ⟨ok_iast dX4_appendRoad_63, m_wrI⟩ (
  trivial)))))))))))))))))))))))))))))))))))))))))))
theorem c_311_1 : LkP (OkP 311) [(64, o_aload 0 1), (65, o_get 148), (68, o_push 2 (.int 9)), (70, o_rdI 0), (71, o_push 1 (.int 1)), (72, o_iop (fun x y => x - y)), (73, o_ret 1)] := lkp_c (P := OkP 311) ⟨(PuOK.ok (ok_aload_n dX4_appendRoad_64 rfl)), m_aload⟩ (
  lkp_c (P := OkP 311) ⟨ok_get ⟨"TollRoadModel", q3080, Or.inl rfl⟩ dX4_appendRoad_65, m_get⟩ (
  lkp_c (P := OkP 311) ⟨(PuOK.ok (ok_bipush dX4_appendRoad_68 rfl)), m_push⟩ (
  lkp_c (P := OkP 311) ⟨ok_iald dX4_appendRoad_70, m_rdI⟩ (
  lkp_c (P := OkP 311) ⟨(PuOK.ok (ok_iconst dX4_appendRoad_71 rfl)), m_push⟩ (
  lkp_c (P := OkP 311) ⟨(PuOK.ok (ok_isub dX4_appendRoad_72)), m_iop⟩ (
  lkp_c (P := OkP 311) ⟨ok_iret rfl rfl (by decide) dX4_appendRoad_73, m_ret⟩ (
  trivial)))))))
theorem mt_311 : MtOK TB NT IT 311 := ⟨by decide +kernel, rfl, (fun h => by cases h), Or.inl ⟨rfl, rfl⟩, rfl, by decide, lk2_all (P := OkP 311) ⟨c_311_0, c_311_1, trivial⟩⟩
def dkwX4_parseAccount_2 : List UInt8 := [182, 0, 164, 62, 42, 182, 0, 142, 153, 0, 12, 42, 27, 28, 29, 182, 0, 179, 54, 4, 177]
abbrev dktX4_parseAccount_2 : List UInt8 := dkwX4_parseAccount_2 ++ []
def dkwX4_parseAccount_1 : List UInt8 := [182, 0, 161, 42, 3, 18, 178, 182, 0, 164, 60, 42, 3, 16, 50, 182, 0, 164, 61, 42, 3, 16, 50]
abbrev dktX4_parseAccount_1 : List UInt8 := dkwX4_parseAccount_1 ++ dktX4_parseAccount_2
def dkwX4_parseAccount_0 : List UInt8 := [42, 42, 180, 0, 7, 16, 10, 46, 16, 8, 162, 0, 7, 4, 167, 0, 4, 3, 6, 182, 0, 153, 42]
abbrev dktX4_parseAccount_0 : List UInt8 := dkwX4_parseAccount_0 ++ dktX4_parseAccount_1
theorem dksX4_parseAccount_0 : cX4_parseAccount.data.toList.drop 0 = dktX4_parseAccount_0 := by decide +kernel
theorem dksX4_parseAccount_1 : cX4_parseAccount.data.toList.drop 23 = dktX4_parseAccount_1 := dk_seg dksX4_parseAccount_0 23 rfl rfl
theorem dksX4_parseAccount_2 : cX4_parseAccount.data.toList.drop 46 = dktX4_parseAccount_2 := dk_seg dksX4_parseAccount_1 23 rfl rfl
theorem dX4_parseAccount_0 : decode cX4_parseAccount 0 = .ok (.aload_n 0, 1) := dk_42 (dk_at dksX4_parseAccount_0 0 rfl rfl)
theorem dX4_parseAccount_1 : decode cX4_parseAccount 1 = .ok (.aload_n 0, 1) := dk_42 (dk_at dksX4_parseAccount_0 1 rfl rfl)
theorem dX4_parseAccount_2 : decode cX4_parseAccount 2 = .ok (.getfield 7, 3) := dk_180 0 7 (dk_at dksX4_parseAccount_0 2 rfl rfl)
theorem dX4_parseAccount_5 : decode cX4_parseAccount 5 = .ok (.bipush 10, 2) := dk_16 10 (dk_at dksX4_parseAccount_0 5 rfl rfl)
theorem dX4_parseAccount_7 : decode cX4_parseAccount 7 = .ok (.iaload, 1) := dk_46 (dk_at dksX4_parseAccount_0 7 rfl rfl)
theorem dX4_parseAccount_8 : decode cX4_parseAccount 8 = .ok (.bipush 8, 2) := dk_16 8 (dk_at dksX4_parseAccount_0 8 rfl rfl)
theorem dX4_parseAccount_10 : decode cX4_parseAccount 10 = .ok (.if_icmp .ge 7, 3) := dk_162 0 7 (dk_at dksX4_parseAccount_0 10 rfl rfl)
theorem dX4_parseAccount_13 : decode cX4_parseAccount 13 = .ok (.iconst 1, 1) := dk_4 (dk_at dksX4_parseAccount_0 13 rfl rfl)
theorem dX4_parseAccount_14 : decode cX4_parseAccount 14 = .ok (.goto 4, 3) := dk_167 0 4 (dk_at dksX4_parseAccount_0 14 rfl rfl)
theorem dX4_parseAccount_17 : decode cX4_parseAccount 17 = .ok (.iconst 0, 1) := dk_3 (dk_at dksX4_parseAccount_0 17 rfl rfl)
theorem dX4_parseAccount_18 : decode cX4_parseAccount 18 = .ok (.iconst 3, 1) := dk_6 (dk_at dksX4_parseAccount_0 18 rfl rfl)
theorem dX4_parseAccount_19 : decode cX4_parseAccount 19 = .ok (.invokevirtual 153, 3) := dk_182 0 153 (dk_at dksX4_parseAccount_0 19 rfl rfl)
theorem dX4_parseAccount_22 : decode cX4_parseAccount 22 = .ok (.aload_n 0, 1) := dk_42 (dk_at dksX4_parseAccount_0 22 rfl rfl)
theorem dX4_parseAccount_23 : decode cX4_parseAccount 23 = .ok (.invokevirtual 161, 3) := dk_182 0 161 (dk_at dksX4_parseAccount_1 0 rfl rfl)
theorem dX4_parseAccount_26 : decode cX4_parseAccount 26 = .ok (.aload_n 0, 1) := dk_42 (dk_at dksX4_parseAccount_1 3 rfl rfl)
theorem dX4_parseAccount_27 : decode cX4_parseAccount 27 = .ok (.iconst 0, 1) := dk_3 (dk_at dksX4_parseAccount_1 4 rfl rfl)
theorem dX4_parseAccount_28 : decode cX4_parseAccount 28 = .ok (.ldc 178, 2) := dk_18 178 (dk_at dksX4_parseAccount_1 5 rfl rfl)
theorem dX4_parseAccount_30 : decode cX4_parseAccount 30 = .ok (.invokevirtual 164, 3) := dk_182 0 164 (dk_at dksX4_parseAccount_1 7 rfl rfl)
theorem dX4_parseAccount_33 : decode cX4_parseAccount 33 = .ok (.istore_n 1, 1) := dk_60 (dk_at dksX4_parseAccount_1 10 rfl rfl)
theorem dX4_parseAccount_34 : decode cX4_parseAccount 34 = .ok (.aload_n 0, 1) := dk_42 (dk_at dksX4_parseAccount_1 11 rfl rfl)
theorem dX4_parseAccount_35 : decode cX4_parseAccount 35 = .ok (.iconst 0, 1) := dk_3 (dk_at dksX4_parseAccount_1 12 rfl rfl)
theorem dX4_parseAccount_36 : decode cX4_parseAccount 36 = .ok (.bipush 50, 2) := dk_16 50 (dk_at dksX4_parseAccount_1 13 rfl rfl)
theorem dX4_parseAccount_38 : decode cX4_parseAccount 38 = .ok (.invokevirtual 164, 3) := dk_182 0 164 (dk_at dksX4_parseAccount_1 15 rfl rfl)
theorem dX4_parseAccount_41 : decode cX4_parseAccount 41 = .ok (.istore_n 2, 1) := dk_61 (dk_at dksX4_parseAccount_1 18 rfl rfl)
theorem dX4_parseAccount_42 : decode cX4_parseAccount 42 = .ok (.aload_n 0, 1) := dk_42 (dk_at dksX4_parseAccount_1 19 rfl rfl)
theorem dX4_parseAccount_43 : decode cX4_parseAccount 43 = .ok (.iconst 0, 1) := dk_3 (dk_at dksX4_parseAccount_1 20 rfl rfl)
theorem dX4_parseAccount_44 : decode cX4_parseAccount 44 = .ok (.bipush 50, 2) := dk_16 50 (dk_at dksX4_parseAccount_1 21 rfl rfl)
theorem dX4_parseAccount_46 : decode cX4_parseAccount 46 = .ok (.invokevirtual 164, 3) := dk_182 0 164 (dk_at dksX4_parseAccount_2 0 rfl rfl)
theorem dX4_parseAccount_49 : decode cX4_parseAccount 49 = .ok (.istore_n 3, 1) := dk_62 (dk_at dksX4_parseAccount_2 3 rfl rfl)
theorem dX4_parseAccount_50 : decode cX4_parseAccount 50 = .ok (.aload_n 0, 1) := dk_42 (dk_at dksX4_parseAccount_2 4 rfl rfl)
theorem dX4_parseAccount_51 : decode cX4_parseAccount 51 = .ok (.invokevirtual 142, 3) := dk_182 0 142 (dk_at dksX4_parseAccount_2 5 rfl rfl)
theorem dX4_parseAccount_54 : decode cX4_parseAccount 54 = .ok (.ifCond .eq 12, 3) := dk_153 0 12 (dk_at dksX4_parseAccount_2 8 rfl rfl)
theorem dX4_parseAccount_57 : decode cX4_parseAccount 57 = .ok (.aload_n 0, 1) := dk_42 (dk_at dksX4_parseAccount_2 11 rfl rfl)
theorem dX4_parseAccount_58 : decode cX4_parseAccount 58 = .ok (.iload_n 1, 1) := dk_27 (dk_at dksX4_parseAccount_2 12 rfl rfl)
theorem dX4_parseAccount_59 : decode cX4_parseAccount 59 = .ok (.iload_n 2, 1) := dk_28 (dk_at dksX4_parseAccount_2 13 rfl rfl)
theorem dX4_parseAccount_60 : decode cX4_parseAccount 60 = .ok (.iload_n 3, 1) := dk_29 (dk_at dksX4_parseAccount_2 14 rfl rfl)
theorem dX4_parseAccount_61 : decode cX4_parseAccount 61 = .ok (.invokevirtual 179, 3) := dk_182 0 179 (dk_at dksX4_parseAccount_2 15 rfl rfl)
theorem dX4_parseAccount_64 : decode cX4_parseAccount 64 = .ok (.istore 4, 2) := dk_54 4 (dk_at dksX4_parseAccount_2 18 rfl rfl)
theorem dX4_parseAccount_66 : decode cX4_parseAccount 66 = .ok (.return_, 1) := dk_177 (dk_at dksX4_parseAccount_2 20 rfl rfl)
theorem c_312_0 : LkP (OkP 312) [(0, o_aload 0 1), (1, o_aload 0 1), (2, o_get 148), (5, o_push 2 (.int 10)), (7, o_rdI 0), (8, o_push 2 (.int 8)), (10, o_icmp (fun x y => decide (y ≤ x)) 17), (13, o_push 1 (.int 1)), (14, o_goto 18), (17, o_push 1 (.int 0)), (18, o_push 1 (.int 3)), (19, o_cv [(30, 304)] 2 3 true none), (22, o_aload 0 1), (23, o_cv [(30, 305)] 0 3 true none), (26, o_aload 0 1), (27, o_push 1 (.int 0)), (28, o_push 2 (.int 100000)), (30, o_cv [(30, 306)] 2 3 false none), (33, o_istore 1 1), (34, o_aload 0 1), (35, o_push 1 (.int 0)), (36, o_push 2 (.int 50)), (38, o_cv [(30, 306)] 2 3 false none), (41, o_istore 2 1), (42, o_aload 0 1), (43, o_push 1 (.int 0)), (44, o_push 2 (.int 50)), (46, o_cv [(30, 306)] 2 3 false none), (49, o_istore 3 1), (50, o_aload 0 1), (51, o_cv [(30, 300)] 0 3 false none), (54, o_if (fun x => decide (x = 0)) 66), (57, o_aload 0 1), (58, o_iload 1 1), (59, o_iload 2 1), (60, o_iload 3 1), (61, o_cv [(30, 313)] 3 3 false none)] := lkp_c (P := OkP 312) ⟨(PuOK.ok (ok_aload_n dX4_parseAccount_0 rfl)), m_aload⟩ (
  lkp_c (P := OkP 312) ⟨(PuOK.ok (ok_aload_n dX4_parseAccount_1 rfl)), m_aload⟩ (
  lkp_c (P := OkP 312) ⟨ok_get ⟨"TollRoadModel", q3080, Or.inl rfl⟩ dX4_parseAccount_2, m_get⟩ (
  lkp_c (P := OkP 312) ⟨(PuOK.ok (ok_bipush dX4_parseAccount_5 rfl)), m_push⟩ (
  lkp_c (P := OkP 312) ⟨ok_iald dX4_parseAccount_7, m_rdI⟩ (
  lkp_c (P := OkP 312) ⟨(PuOK.ok (ok_bipush dX4_parseAccount_8 rfl)), m_push⟩ (
  lkp_c (P := OkP 312) ⟨(PuOK.ok (ok_icmp_ge dX4_parseAccount_10 rfl)), m_icmp⟩ (
  lkp_c (P := OkP 312) ⟨(PuOK.ok (ok_iconst dX4_parseAccount_13 rfl)), m_push⟩ (
  lkp_c (P := OkP 312) ⟨(PuOK.ok (ok_goto dX4_parseAccount_14 rfl)), m_goto⟩ (
  lkp_c (P := OkP 312) ⟨(PuOK.ok (ok_iconst dX4_parseAccount_17 rfl)), m_push⟩ (
  lkp_c (P := OkP 312) ⟨(PuOK.ok (ok_iconst dX4_parseAccount_18 rfl)), m_push⟩ (
  lkp_c (P := OkP 312) ⟨ok_cv (List.forall_mem_cons.mpr ⟨tg_V (ci := 30) (r := CLr 30) (y := 304) rfl ⟨rfl, by decide⟩ rfl q3270 q3272 qs49 q139 q3273 ⟨cn_34.1, cn_34.2, pd_124⟩ dX4_parseAccount_19, (List.forall_mem_nil _)⟩) hd_no, m_cv⟩ (
  lkp_c (P := OkP 312) ⟨(PuOK.ok (ok_aload_n dX4_parseAccount_22 rfl)), m_aload⟩ (
  lkp_c (P := OkP 312) ⟨ok_cv (List.forall_mem_cons.mpr ⟨tg_V (ci := 30) (r := CLr 30) (y := 305) rfl ⟨rfl, by decide⟩ rfl q3274 q3276 qs50 q139 q3277 ⟨cn_34.1, cn_34.2, pd_0⟩ dX4_parseAccount_23, (List.forall_mem_nil _)⟩) hd_no, m_cv⟩ (
  lkp_c (P := OkP 312) ⟨(PuOK.ok (ok_aload_n dX4_parseAccount_26 rfl)), m_aload⟩ (
  lkp_c (P := OkP 312) ⟨(PuOK.ok (ok_iconst dX4_parseAccount_27 rfl)), m_push⟩ (
  lkp_c (P := OkP 312) ⟨(PuOK.ok (ok_ldc q3308 dX4_parseAccount_28)), m_push⟩ (
  lkp_c (P := OkP 312) ⟨ok_cv (List.forall_mem_cons.mpr ⟨tg_V (ci := 30) (r := CLr 30) (y := 306) rfl ⟨rfl, by decide⟩ rfl q3278 q3280 qs51 q139 q3281 ⟨cn_34.1, cn_34.2, pd_1⟩ dX4_parseAccount_30, (List.forall_mem_nil _)⟩) hd_no, m_cv⟩ (
  lkp_c (P := OkP 312) ⟨(PuOK.ok (ok_istore_n dX4_parseAccount_33 rfl)), m_istore⟩ (
  lkp_c (P := OkP 312) ⟨(PuOK.ok (ok_aload_n dX4_parseAccount_34 rfl)), m_aload⟩ (
  lkp_c (P := OkP 312) ⟨(PuOK.ok (ok_iconst dX4_parseAccount_35 rfl)), m_push⟩ (
  lkp_c (P := OkP 312) ⟨(PuOK.ok (ok_bipush dX4_parseAccount_36 rfl)), m_push⟩ (
  lkp_c (P := OkP 312) ⟨ok_cv (List.forall_mem_cons.mpr ⟨tg_V (ci := 30) (r := CLr 30) (y := 306) rfl ⟨rfl, by decide⟩ rfl q3278 q3280 qs51 q139 q3281 ⟨cn_34.1, cn_34.2, pd_1⟩ dX4_parseAccount_38, (List.forall_mem_nil _)⟩) hd_no, m_cv⟩ (
  lkp_c (P := OkP 312) ⟨(PuOK.ok (ok_istore_n dX4_parseAccount_41 rfl)), m_istore⟩ (
  lkp_c (P := OkP 312) ⟨(PuOK.ok (ok_aload_n dX4_parseAccount_42 rfl)), m_aload⟩ (
  lkp_c (P := OkP 312) ⟨(PuOK.ok (ok_iconst dX4_parseAccount_43 rfl)), m_push⟩ (
  lkp_c (P := OkP 312) ⟨(PuOK.ok (ok_bipush dX4_parseAccount_44 rfl)), m_push⟩ (
  lkp_c (P := OkP 312) ⟨ok_cv (List.forall_mem_cons.mpr ⟨tg_V (ci := 30) (r := CLr 30) (y := 306) rfl ⟨rfl, by decide⟩ rfl q3278 q3280 qs51 q139 q3281 ⟨cn_34.1, cn_34.2, pd_1⟩ dX4_parseAccount_46, (List.forall_mem_nil _)⟩) hd_no, m_cv⟩ (
  lkp_c (P := OkP 312) ⟨(PuOK.ok (ok_istore_n dX4_parseAccount_49 rfl)), m_istore⟩ (
  lkp_c (P := OkP 312) ⟨(PuOK.ok (ok_aload_n dX4_parseAccount_50 rfl)), m_aload⟩ (
  lkp_c (P := OkP 312) ⟨ok_cv (List.forall_mem_cons.mpr ⟨tg_V (ci := 30) (r := CLr 30) (y := 300) rfl ⟨rfl, by decide⟩ rfl q3241 q3243 qs45 q139 q3244 ⟨cn_34.1, cn_34.2, pd_50⟩ dX4_parseAccount_51, (List.forall_mem_nil _)⟩) hd_no, m_cv⟩ (
  lkp_c (P := OkP 312) ⟨(PuOK.ok (ok_if_eq dX4_parseAccount_54 rfl)), m_if⟩ (
  lkp_c (P := OkP 312) ⟨(PuOK.ok (ok_aload_n dX4_parseAccount_57 rfl)), m_aload⟩ (
  lkp_c (P := OkP 312) ⟨(PuOK.ok (ok_iload_n dX4_parseAccount_58 rfl)), m_iload⟩ (
  lkp_c (P := OkP 312) ⟨(PuOK.ok (ok_iload_n dX4_parseAccount_59 rfl)), m_iload⟩ (
  lkp_c (P := OkP 312) ⟨(PuOK.ok (ok_iload_n dX4_parseAccount_60 rfl)), m_iload⟩ (
  lkp_c (P := OkP 312) ⟨ok_cv (List.forall_mem_cons.mpr ⟨tg_V (ci := 30) (r := CLr 30) (y := 313) rfl ⟨rfl, by decide⟩ rfl q3309 q3311 qs58 q139 q3312 ⟨cn_34.1, cn_34.2, pd_25⟩ dX4_parseAccount_61, (List.forall_mem_nil _)⟩) hd_no, m_cv⟩ (
  trivial)))))))))))))))))))))))))))))))))))))
theorem c_312_1 : LkP (OkP 312) [(64, o_istore 4 2), (66, o_vret)] := lkp_c (P := OkP 312) ⟨(PuOK.ok (ok_istore dX4_parseAccount_64)), m_istore⟩ (
  lkp_c (P := OkP 312) ⟨ok_vret rfl dX4_parseAccount_66, m_vret⟩ (
  trivial))
theorem mt_312 : MtOK TB NT IT 312 := ⟨by decide +kernel, rfl, (fun h => by cases h), Or.inl ⟨rfl, rfl⟩, rfl, by decide, lk2_all (P := OkP 312) ⟨c_312_0, c_312_1, trivial⟩⟩
def dkwX4_appendAccount_2 : List UInt8 := [172]
abbrev dktX4_appendAccount_2 : List UInt8 := dkwX4_appendAccount_2 ++ []
def dkwX4_appendAccount_1 : List UInt8 := [182, 0, 224, 42, 21, 4, 5, 29, 182, 0, 224, 42, 180, 0, 7, 16, 10, 92, 46, 4, 96, 79, 21, 4]
abbrev dktX4_appendAccount_1 : List UInt8 := dkwX4_appendAccount_1 ++ dktX4_appendAccount_2
def dkwX4_appendAccount_0 : List UInt8 := [42, 180, 0, 7, 16, 10, 46, 54, 4, 42, 21, 4, 3, 27, 182, 0, 224, 42, 21, 4, 4, 28]
abbrev dktX4_appendAccount_0 : List UInt8 := dkwX4_appendAccount_0 ++ dktX4_appendAccount_1
theorem dksX4_appendAccount_0 : cX4_appendAccount.data.toList.drop 0 = dktX4_appendAccount_0 := by decide +kernel
theorem dksX4_appendAccount_1 : cX4_appendAccount.data.toList.drop 22 = dktX4_appendAccount_1 := dk_seg dksX4_appendAccount_0 22 rfl rfl
theorem dksX4_appendAccount_2 : cX4_appendAccount.data.toList.drop 46 = dktX4_appendAccount_2 := dk_seg dksX4_appendAccount_1 24 rfl rfl
theorem dX4_appendAccount_0 : decode cX4_appendAccount 0 = .ok (.aload_n 0, 1) := dk_42 (dk_at dksX4_appendAccount_0 0 rfl rfl)
theorem dX4_appendAccount_1 : decode cX4_appendAccount 1 = .ok (.getfield 7, 3) := dk_180 0 7 (dk_at dksX4_appendAccount_0 1 rfl rfl)
theorem dX4_appendAccount_4 : decode cX4_appendAccount 4 = .ok (.bipush 10, 2) := dk_16 10 (dk_at dksX4_appendAccount_0 4 rfl rfl)
theorem dX4_appendAccount_6 : decode cX4_appendAccount 6 = .ok (.iaload, 1) := dk_46 (dk_at dksX4_appendAccount_0 6 rfl rfl)
theorem dX4_appendAccount_7 : decode cX4_appendAccount 7 = .ok (.istore 4, 2) := dk_54 4 (dk_at dksX4_appendAccount_0 7 rfl rfl)
theorem dX4_appendAccount_9 : decode cX4_appendAccount 9 = .ok (.aload_n 0, 1) := dk_42 (dk_at dksX4_appendAccount_0 9 rfl rfl)
theorem dX4_appendAccount_10 : decode cX4_appendAccount 10 = .ok (.iload 4, 2) := dk_21 4 (dk_at dksX4_appendAccount_0 10 rfl rfl)
theorem dX4_appendAccount_12 : decode cX4_appendAccount 12 = .ok (.iconst 0, 1) := dk_3 (dk_at dksX4_appendAccount_0 12 rfl rfl)
theorem dX4_appendAccount_13 : decode cX4_appendAccount 13 = .ok (.iload_n 1, 1) := dk_27 (dk_at dksX4_appendAccount_0 13 rfl rfl)
theorem dX4_appendAccount_14 : decode cX4_appendAccount 14 = .ok (.invokevirtual 224, 3) := dk_182 0 224 (dk_at dksX4_appendAccount_0 14 rfl rfl)
theorem dX4_appendAccount_17 : decode cX4_appendAccount 17 = .ok (.aload_n 0, 1) := dk_42 (dk_at dksX4_appendAccount_0 17 rfl rfl)
theorem dX4_appendAccount_18 : decode cX4_appendAccount 18 = .ok (.iload 4, 2) := dk_21 4 (dk_at dksX4_appendAccount_0 18 rfl rfl)
theorem dX4_appendAccount_20 : decode cX4_appendAccount 20 = .ok (.iconst 1, 1) := dk_4 (dk_at dksX4_appendAccount_0 20 rfl rfl)
theorem dX4_appendAccount_21 : decode cX4_appendAccount 21 = .ok (.iload_n 2, 1) := dk_28 (dk_at dksX4_appendAccount_0 21 rfl rfl)
theorem dX4_appendAccount_22 : decode cX4_appendAccount 22 = .ok (.invokevirtual 224, 3) := dk_182 0 224 (dk_at dksX4_appendAccount_1 0 rfl rfl)
theorem dX4_appendAccount_25 : decode cX4_appendAccount 25 = .ok (.aload_n 0, 1) := dk_42 (dk_at dksX4_appendAccount_1 3 rfl rfl)
theorem dX4_appendAccount_26 : decode cX4_appendAccount 26 = .ok (.iload 4, 2) := dk_21 4 (dk_at dksX4_appendAccount_1 4 rfl rfl)
theorem dX4_appendAccount_28 : decode cX4_appendAccount 28 = .ok (.iconst 2, 1) := dk_5 (dk_at dksX4_appendAccount_1 6 rfl rfl)
theorem dX4_appendAccount_29 : decode cX4_appendAccount 29 = .ok (.iload_n 3, 1) := dk_29 (dk_at dksX4_appendAccount_1 7 rfl rfl)
theorem dX4_appendAccount_30 : decode cX4_appendAccount 30 = .ok (.invokevirtual 224, 3) := dk_182 0 224 (dk_at dksX4_appendAccount_1 8 rfl rfl)
theorem dX4_appendAccount_33 : decode cX4_appendAccount 33 = .ok (.aload_n 0, 1) := dk_42 (dk_at dksX4_appendAccount_1 11 rfl rfl)
theorem dX4_appendAccount_34 : decode cX4_appendAccount 34 = .ok (.getfield 7, 3) := dk_180 0 7 (dk_at dksX4_appendAccount_1 12 rfl rfl)
theorem dX4_appendAccount_37 : decode cX4_appendAccount 37 = .ok (.bipush 10, 2) := dk_16 10 (dk_at dksX4_appendAccount_1 15 rfl rfl)
theorem dX4_appendAccount_39 : decode cX4_appendAccount 39 = .ok (.dup2, 1) := dk_92 (dk_at dksX4_appendAccount_1 17 rfl rfl)
theorem dX4_appendAccount_40 : decode cX4_appendAccount 40 = .ok (.iaload, 1) := dk_46 (dk_at dksX4_appendAccount_1 18 rfl rfl)
theorem dX4_appendAccount_41 : decode cX4_appendAccount 41 = .ok (.iconst 1, 1) := dk_4 (dk_at dksX4_appendAccount_1 19 rfl rfl)
theorem dX4_appendAccount_42 : decode cX4_appendAccount 42 = .ok (.iadd, 1) := dk_96 (dk_at dksX4_appendAccount_1 20 rfl rfl)
theorem dX4_appendAccount_43 : decode cX4_appendAccount 43 = .ok (.iastore, 1) := dk_79 (dk_at dksX4_appendAccount_1 21 rfl rfl)
theorem dX4_appendAccount_44 : decode cX4_appendAccount 44 = .ok (.iload 4, 2) := dk_21 4 (dk_at dksX4_appendAccount_1 22 rfl rfl)
theorem dX4_appendAccount_46 : decode cX4_appendAccount 46 = .ok (.ireturn, 1) := dk_172 (dk_at dksX4_appendAccount_2 0 rfl rfl)
theorem c_313_0 : LkP (OkP 313) [(0, o_aload 0 1), (1, o_get 148), (4, o_push 2 (.int 10)), (6, o_rdI 0), (7, o_istore 4 2), (9, o_aload 0 1), (10, o_iload 4 2), (12, o_push 1 (.int 0)), (13, o_iload 1 1), (14, o_cv [(30, 314)] 3 3 true none), (17, o_aload 0 1), (18, o_iload 4 2), (20, o_push 1 (.int 1)), (21, o_iload 2 1), (22, o_cv [(30, 314)] 3 3 true none), (25, o_aload 0 1), (26, o_iload 4 2), (28, o_push 1 (.int 2)), (29, o_iload 3 1), (30, o_cv [(30, 314)] 3 3 true none), (33, o_aload 0 1), (34, o_get 148), (37, o_push 2 (.int 10)), (39, o_dup2), (40, o_rdI 0), (41, o_push 1 (.int 1)), (42, o_iop (fun x y => x + y)), (43, o_wrI 0), (44, o_iload 4 2), (46, o_ret 1)] := lkp_c (P := OkP 313) ⟨(PuOK.ok (ok_aload_n dX4_appendAccount_0 rfl)), m_aload⟩ (
  lkp_c (P := OkP 313) ⟨ok_get ⟨"TollRoadModel", q3080, Or.inl rfl⟩ dX4_appendAccount_1, m_get⟩ (
  lkp_c (P := OkP 313) ⟨(PuOK.ok (ok_bipush dX4_appendAccount_4 rfl)), m_push⟩ (
  lkp_c (P := OkP 313) ⟨ok_iald dX4_appendAccount_6, m_rdI⟩ (
  lkp_c (P := OkP 313) ⟨(PuOK.ok (ok_istore dX4_appendAccount_7)), m_istore⟩ (
  lkp_c (P := OkP 313) ⟨(PuOK.ok (ok_aload_n dX4_appendAccount_9 rfl)), m_aload⟩ (
  lkp_c (P := OkP 313) ⟨(PuOK.ok (ok_iload dX4_appendAccount_10)), m_iload⟩ (
  lkp_c (P := OkP 313) ⟨(PuOK.ok (ok_iconst dX4_appendAccount_12 rfl)), m_push⟩ (
  lkp_c (P := OkP 313) ⟨(PuOK.ok (ok_iload_n dX4_appendAccount_13 rfl)), m_iload⟩ (
  lkp_c (P := OkP 313) ⟨ok_cv (List.forall_mem_cons.mpr ⟨tg_V (ci := 30) (r := CLr 30) (y := 314) rfl ⟨rfl, by decide⟩ rfl q3313 q3315 qs59 q139 q3316 ⟨cn_34.1, cn_34.2, pd_105⟩ dX4_appendAccount_14, (List.forall_mem_nil _)⟩) hd_no, m_cv⟩ (
  lkp_c (P := OkP 313) ⟨(PuOK.ok (ok_aload_n dX4_appendAccount_17 rfl)), m_aload⟩ (
  lkp_c (P := OkP 313) ⟨(PuOK.ok (ok_iload dX4_appendAccount_18)), m_iload⟩ (
  lkp_c (P := OkP 313) ⟨(PuOK.ok (ok_iconst dX4_appendAccount_20 rfl)), m_push⟩ (
  lkp_c (P := OkP 313) ⟨(PuOK.ok (ok_iload_n dX4_appendAccount_21 rfl)), m_iload⟩ (
  lkp_c (P := OkP 313) ⟨ok_cv (List.forall_mem_cons.mpr ⟨tg_V (ci := 30) (r := CLr 30) (y := 314) rfl ⟨rfl, by decide⟩ rfl q3313 q3315 qs59 q139 q3316 ⟨cn_34.1, cn_34.2, pd_105⟩ dX4_appendAccount_22, (List.forall_mem_nil _)⟩) hd_no, m_cv⟩ (
  lkp_c (P := OkP 313) ⟨(PuOK.ok (ok_aload_n dX4_appendAccount_25 rfl)), m_aload⟩ (
  lkp_c (P := OkP 313) ⟨(PuOK.ok (ok_iload dX4_appendAccount_26)), m_iload⟩ (
  lkp_c (P := OkP 313) ⟨(PuOK.ok (ok_iconst dX4_appendAccount_28 rfl)), m_push⟩ (
  lkp_c (P := OkP 313) ⟨(PuOK.ok (ok_iload_n dX4_appendAccount_29 rfl)), m_iload⟩ (
  lkp_c (P := OkP 313) ⟨ok_cv (List.forall_mem_cons.mpr ⟨tg_V (ci := 30) (r := CLr 30) (y := 314) rfl ⟨rfl, by decide⟩ rfl q3313 q3315 qs59 q139 q3316 ⟨cn_34.1, cn_34.2, pd_105⟩ dX4_appendAccount_30, (List.forall_mem_nil _)⟩) hd_no, m_cv⟩ (
  lkp_c (P := OkP 313) ⟨(PuOK.ok (ok_aload_n dX4_appendAccount_33 rfl)), m_aload⟩ (
  lkp_c (P := OkP 313) ⟨ok_get ⟨"TollRoadModel", q3080, Or.inl rfl⟩ dX4_appendAccount_34, m_get⟩ (
  lkp_c (P := OkP 313) ⟨(PuOK.ok (ok_bipush dX4_appendAccount_37 rfl)), m_push⟩ (
  lkp_c (P := OkP 313) ⟨(PuOK.ok (ok_dup2 dX4_appendAccount_39)), m_dup2⟩ (
  lkp_c (P := OkP 313) ⟨ok_iald dX4_appendAccount_40, m_rdI⟩ (
  lkp_c (P := OkP 313) ⟨(PuOK.ok (ok_iconst dX4_appendAccount_41 rfl)), m_push⟩ (
  lkp_c (P := OkP 313) ⟨(PuOK.ok (ok_iadd dX4_appendAccount_42)), m_iop⟩ (
  lkp_c (P := OkP 313) ⟨ok_iast dX4_appendAccount_43, m_wrI⟩ (
  lkp_c (P := OkP 313) ⟨(PuOK.ok (ok_iload dX4_appendAccount_44)), m_iload⟩ (
  lkp_c (P := OkP 313) ⟨ok_iret rfl rfl (by decide) dX4_appendAccount_46, m_ret⟩ (
  trivial))))))))))))))))))))))))))))))
theorem mt_313 : MtOK TB NT IT 313 := ⟨by decide +kernel, rfl, (fun h => by cases h), Or.inl ⟨rfl, rfl⟩, rfl, by decide, lk2_all (P := OkP 313) ⟨c_313_0, trivial⟩⟩
def dkwX4_raise_0 : List UInt8 := [42, 180, 0, 7, 17, 0, 187, 16, 6, 27, 104, 96, 28, 96, 92, 46, 29, 96, 79, 177]
abbrev dktX4_raise_0 : List UInt8 := dkwX4_raise_0 ++ []
theorem dksX4_raise_0 : cX4_raise.data.toList.drop 0 = dktX4_raise_0 := by decide +kernel
theorem dX4_raise_0 : decode cX4_raise 0 = .ok (.aload_n 0, 1) := dk_42 (dk_at dksX4_raise_0 0 rfl rfl)
theorem dX4_raise_1 : decode cX4_raise 1 = .ok (.getfield 7, 3) := dk_180 0 7 (dk_at dksX4_raise_0 1 rfl rfl)
theorem dX4_raise_4 : decode cX4_raise 4 = .ok (.sipush 187, 3) := dk_17 0 187 (dk_at dksX4_raise_0 4 rfl rfl)
theorem dX4_raise_7 : decode cX4_raise 7 = .ok (.bipush 6, 2) := dk_16 6 (dk_at dksX4_raise_0 7 rfl rfl)
theorem dX4_raise_9 : decode cX4_raise 9 = .ok (.iload_n 1, 1) := dk_27 (dk_at dksX4_raise_0 9 rfl rfl)
theorem dX4_raise_10 : decode cX4_raise 10 = .ok (.imul, 1) := dk_104 (dk_at dksX4_raise_0 10 rfl rfl)
theorem dX4_raise_11 : decode cX4_raise 11 = .ok (.iadd, 1) := dk_96 (dk_at dksX4_raise_0 11 rfl rfl)
theorem dX4_raise_12 : decode cX4_raise 12 = .ok (.iload_n 2, 1) := dk_28 (dk_at dksX4_raise_0 12 rfl rfl)
theorem dX4_raise_13 : decode cX4_raise 13 = .ok (.iadd, 1) := dk_96 (dk_at dksX4_raise_0 13 rfl rfl)
theorem dX4_raise_14 : decode cX4_raise 14 = .ok (.dup2, 1) := dk_92 (dk_at dksX4_raise_0 14 rfl rfl)
theorem dX4_raise_15 : decode cX4_raise 15 = .ok (.iaload, 1) := dk_46 (dk_at dksX4_raise_0 15 rfl rfl)
theorem dX4_raise_16 : decode cX4_raise 16 = .ok (.iload_n 3, 1) := dk_29 (dk_at dksX4_raise_0 16 rfl rfl)
theorem dX4_raise_17 : decode cX4_raise 17 = .ok (.iadd, 1) := dk_96 (dk_at dksX4_raise_0 17 rfl rfl)
theorem dX4_raise_18 : decode cX4_raise 18 = .ok (.iastore, 1) := dk_79 (dk_at dksX4_raise_0 18 rfl rfl)
theorem dX4_raise_19 : decode cX4_raise 19 = .ok (.return_, 1) := dk_177 (dk_at dksX4_raise_0 19 rfl rfl)
theorem c_314_0 : LkP (OkP 314) [(0, o_aload 0 1), (1, o_get 148), (4, o_push 3 (.int 187)), (7, o_push 2 (.int 6)), (9, o_iload 1 1), (10, o_iop (fun x y => x * y)), (11, o_iop (fun x y => x + y)), (12, o_iload 2 1), (13, o_iop (fun x y => x + y)), (14, o_dup2), (15, o_rdI 0), (16, o_iload 3 1), (17, o_iop (fun x y => x + y)), (18, o_wrI 0), (19, o_vret)] := lkp_c (P := OkP 314) ⟨(PuOK.ok (ok_aload_n dX4_raise_0 rfl)), m_aload⟩ (
  lkp_c (P := OkP 314) ⟨ok_get ⟨"TollRoadModel", q3080, Or.inl rfl⟩ dX4_raise_1, m_get⟩ (
  lkp_c (P := OkP 314) ⟨(PuOK.ok (ok_sipush dX4_raise_4 rfl)), m_push⟩ (
  lkp_c (P := OkP 314) ⟨(PuOK.ok (ok_bipush dX4_raise_7 rfl)), m_push⟩ (
  lkp_c (P := OkP 314) ⟨(PuOK.ok (ok_iload_n dX4_raise_9 rfl)), m_iload⟩ (
  lkp_c (P := OkP 314) ⟨(PuOK.ok (ok_imul dX4_raise_10)), m_iop⟩ (
  lkp_c (P := OkP 314) ⟨(PuOK.ok (ok_iadd dX4_raise_11)), m_iop⟩ (
  lkp_c (P := OkP 314) ⟨(PuOK.ok (ok_iload_n dX4_raise_12 rfl)), m_iload⟩ (
  lkp_c (P := OkP 314) ⟨(PuOK.ok (ok_iadd dX4_raise_13)), m_iop⟩ (
  lkp_c (P := OkP 314) ⟨(PuOK.ok (ok_dup2 dX4_raise_14)), m_dup2⟩ (
  lkp_c (P := OkP 314) ⟨ok_iald dX4_raise_15, m_rdI⟩ (
  lkp_c (P := OkP 314) ⟨(PuOK.ok (ok_iload_n dX4_raise_16 rfl)), m_iload⟩ (
  lkp_c (P := OkP 314) ⟨(PuOK.ok (ok_iadd dX4_raise_17)), m_iop⟩ (
  lkp_c (P := OkP 314) ⟨ok_iast dX4_raise_18, m_wrI⟩ (
  lkp_c (P := OkP 314) ⟨ok_vret rfl dX4_raise_19, m_vret⟩ (
  trivial)))))))))))))))
theorem mt_314 : MtOK TB NT IT 314 := ⟨by decide +kernel, rfl, (fun h => by cases h), Or.inl ⟨rfl, rfl⟩, rfl, by decide, lk2_all (P := OkP 314) ⟨c_314_0, trivial⟩⟩
def dkwX4_parseVehicle_3 : List UInt8 := [27, 28, 182, 0, 188, 62, 177]
abbrev dktX4_parseVehicle_3 : List UInt8 := dkwX4_parseVehicle_3 ++ []
def dkwX4_parseVehicle_2 : List UInt8 := [180, 0, 7, 16, 10, 46, 4, 100, 182, 0, 164, 167, 0, 4, 2, 61, 42, 182, 0, 142, 153, 0, 10, 42]
abbrev dktX4_parseVehicle_2 : List UInt8 := dkwX4_parseVehicle_2 ++ dktX4_parseVehicle_3
def dkwX4_parseVehicle_1 : List UInt8 := [182, 0, 161, 42, 4, 7, 182, 0, 164, 60, 42, 18, 183, 182, 0, 185, 153, 0, 20, 42, 3, 42]
abbrev dktX4_parseVehicle_1 : List UInt8 := dkwX4_parseVehicle_1 ++ dktX4_parseVehicle_2
def dkwX4_parseVehicle_0 : List UInt8 := [42, 42, 180, 0, 7, 16, 11, 46, 16, 15, 162, 0, 7, 4, 167, 0, 4, 3, 6, 182, 0, 153, 42]
abbrev dktX4_parseVehicle_0 : List UInt8 := dkwX4_parseVehicle_0 ++ dktX4_parseVehicle_1
theorem dksX4_parseVehicle_0 : cX4_parseVehicle.data.toList.drop 0 = dktX4_parseVehicle_0 := by decide +kernel
theorem dksX4_parseVehicle_1 : cX4_parseVehicle.data.toList.drop 23 = dktX4_parseVehicle_1 := dk_seg dksX4_parseVehicle_0 23 rfl rfl
theorem dksX4_parseVehicle_2 : cX4_parseVehicle.data.toList.drop 45 = dktX4_parseVehicle_2 := dk_seg dksX4_parseVehicle_1 22 rfl rfl
theorem dksX4_parseVehicle_3 : cX4_parseVehicle.data.toList.drop 69 = dktX4_parseVehicle_3 := dk_seg dksX4_parseVehicle_2 24 rfl rfl
theorem dX4_parseVehicle_0 : decode cX4_parseVehicle 0 = .ok (.aload_n 0, 1) := dk_42 (dk_at dksX4_parseVehicle_0 0 rfl rfl)
theorem dX4_parseVehicle_1 : decode cX4_parseVehicle 1 = .ok (.aload_n 0, 1) := dk_42 (dk_at dksX4_parseVehicle_0 1 rfl rfl)
theorem dX4_parseVehicle_2 : decode cX4_parseVehicle 2 = .ok (.getfield 7, 3) := dk_180 0 7 (dk_at dksX4_parseVehicle_0 2 rfl rfl)
theorem dX4_parseVehicle_5 : decode cX4_parseVehicle 5 = .ok (.bipush 11, 2) := dk_16 11 (dk_at dksX4_parseVehicle_0 5 rfl rfl)
theorem dX4_parseVehicle_7 : decode cX4_parseVehicle 7 = .ok (.iaload, 1) := dk_46 (dk_at dksX4_parseVehicle_0 7 rfl rfl)
theorem dX4_parseVehicle_8 : decode cX4_parseVehicle 8 = .ok (.bipush 15, 2) := dk_16 15 (dk_at dksX4_parseVehicle_0 8 rfl rfl)
theorem dX4_parseVehicle_10 : decode cX4_parseVehicle 10 = .ok (.if_icmp .ge 7, 3) := dk_162 0 7 (dk_at dksX4_parseVehicle_0 10 rfl rfl)
theorem dX4_parseVehicle_13 : decode cX4_parseVehicle 13 = .ok (.iconst 1, 1) := dk_4 (dk_at dksX4_parseVehicle_0 13 rfl rfl)
theorem dX4_parseVehicle_14 : decode cX4_parseVehicle 14 = .ok (.goto 4, 3) := dk_167 0 4 (dk_at dksX4_parseVehicle_0 14 rfl rfl)
theorem dX4_parseVehicle_17 : decode cX4_parseVehicle 17 = .ok (.iconst 0, 1) := dk_3 (dk_at dksX4_parseVehicle_0 17 rfl rfl)
theorem dX4_parseVehicle_18 : decode cX4_parseVehicle 18 = .ok (.iconst 3, 1) := dk_6 (dk_at dksX4_parseVehicle_0 18 rfl rfl)
theorem dX4_parseVehicle_19 : decode cX4_parseVehicle 19 = .ok (.invokevirtual 153, 3) := dk_182 0 153 (dk_at dksX4_parseVehicle_0 19 rfl rfl)
theorem dX4_parseVehicle_22 : decode cX4_parseVehicle 22 = .ok (.aload_n 0, 1) := dk_42 (dk_at dksX4_parseVehicle_0 22 rfl rfl)
theorem dX4_parseVehicle_23 : decode cX4_parseVehicle 23 = .ok (.invokevirtual 161, 3) := dk_182 0 161 (dk_at dksX4_parseVehicle_1 0 rfl rfl)
theorem dX4_parseVehicle_26 : decode cX4_parseVehicle 26 = .ok (.aload_n 0, 1) := dk_42 (dk_at dksX4_parseVehicle_1 3 rfl rfl)
theorem dX4_parseVehicle_27 : decode cX4_parseVehicle 27 = .ok (.iconst 1, 1) := dk_4 (dk_at dksX4_parseVehicle_1 4 rfl rfl)
theorem dX4_parseVehicle_28 : decode cX4_parseVehicle 28 = .ok (.iconst 4, 1) := dk_7 (dk_at dksX4_parseVehicle_1 5 rfl rfl)
theorem dX4_parseVehicle_29 : decode cX4_parseVehicle 29 = .ok (.invokevirtual 164, 3) := dk_182 0 164 (dk_at dksX4_parseVehicle_1 6 rfl rfl)
theorem dX4_parseVehicle_32 : decode cX4_parseVehicle 32 = .ok (.istore_n 1, 1) := dk_60 (dk_at dksX4_parseVehicle_1 9 rfl rfl)
theorem dX4_parseVehicle_33 : decode cX4_parseVehicle 33 = .ok (.aload_n 0, 1) := dk_42 (dk_at dksX4_parseVehicle_1 10 rfl rfl)
theorem dX4_parseVehicle_34 : decode cX4_parseVehicle 34 = .ok (.ldc 183, 2) := dk_18 183 (dk_at dksX4_parseVehicle_1 11 rfl rfl)
theorem dX4_parseVehicle_36 : decode cX4_parseVehicle 36 = .ok (.invokevirtual 185, 3) := dk_182 0 185 (dk_at dksX4_parseVehicle_1 13 rfl rfl)
theorem dX4_parseVehicle_39 : decode cX4_parseVehicle 39 = .ok (.ifCond .eq 20, 3) := dk_153 0 20 (dk_at dksX4_parseVehicle_1 16 rfl rfl)
theorem dX4_parseVehicle_42 : decode cX4_parseVehicle 42 = .ok (.aload_n 0, 1) := dk_42 (dk_at dksX4_parseVehicle_1 19 rfl rfl)
theorem dX4_parseVehicle_43 : decode cX4_parseVehicle 43 = .ok (.iconst 0, 1) := dk_3 (dk_at dksX4_parseVehicle_1 20 rfl rfl)
theorem dX4_parseVehicle_44 : decode cX4_parseVehicle 44 = .ok (.aload_n 0, 1) := dk_42 (dk_at dksX4_parseVehicle_1 21 rfl rfl)
theorem dX4_parseVehicle_45 : decode cX4_parseVehicle 45 = .ok (.getfield 7, 3) := dk_180 0 7 (dk_at dksX4_parseVehicle_2 0 rfl rfl)
theorem dX4_parseVehicle_48 : decode cX4_parseVehicle 48 = .ok (.bipush 10, 2) := dk_16 10 (dk_at dksX4_parseVehicle_2 3 rfl rfl)
theorem dX4_parseVehicle_50 : decode cX4_parseVehicle 50 = .ok (.iaload, 1) := dk_46 (dk_at dksX4_parseVehicle_2 5 rfl rfl)
theorem dX4_parseVehicle_51 : decode cX4_parseVehicle 51 = .ok (.iconst 1, 1) := dk_4 (dk_at dksX4_parseVehicle_2 6 rfl rfl)
theorem dX4_parseVehicle_52 : decode cX4_parseVehicle 52 = .ok (.isub, 1) := dk_100 (dk_at dksX4_parseVehicle_2 7 rfl rfl)
theorem dX4_parseVehicle_53 : decode cX4_parseVehicle 53 = .ok (.invokevirtual 164, 3) := dk_182 0 164 (dk_at dksX4_parseVehicle_2 8 rfl rfl)
theorem dX4_parseVehicle_56 : decode cX4_parseVehicle 56 = .ok (.goto 4, 3) := dk_167 0 4 (dk_at dksX4_parseVehicle_2 11 rfl rfl)
theorem dX4_parseVehicle_59 : decode cX4_parseVehicle 59 = .ok (.iconst (-1), 1) := dk_2 (dk_at dksX4_parseVehicle_2 14 rfl rfl)
theorem dX4_parseVehicle_60 : decode cX4_parseVehicle 60 = .ok (.istore_n 2, 1) := dk_61 (dk_at dksX4_parseVehicle_2 15 rfl rfl)
theorem dX4_parseVehicle_61 : decode cX4_parseVehicle 61 = .ok (.aload_n 0, 1) := dk_42 (dk_at dksX4_parseVehicle_2 16 rfl rfl)
theorem dX4_parseVehicle_62 : decode cX4_parseVehicle 62 = .ok (.invokevirtual 142, 3) := dk_182 0 142 (dk_at dksX4_parseVehicle_2 17 rfl rfl)
theorem dX4_parseVehicle_65 : decode cX4_parseVehicle 65 = .ok (.ifCond .eq 10, 3) := dk_153 0 10 (dk_at dksX4_parseVehicle_2 20 rfl rfl)
theorem dX4_parseVehicle_68 : decode cX4_parseVehicle 68 = .ok (.aload_n 0, 1) := dk_42 (dk_at dksX4_parseVehicle_2 23 rfl rfl)
theorem dX4_parseVehicle_69 : decode cX4_parseVehicle 69 = .ok (.iload_n 1, 1) := dk_27 (dk_at dksX4_parseVehicle_3 0 rfl rfl)
theorem dX4_parseVehicle_70 : decode cX4_parseVehicle 70 = .ok (.iload_n 2, 1) := dk_28 (dk_at dksX4_parseVehicle_3 1 rfl rfl)
theorem dX4_parseVehicle_71 : decode cX4_parseVehicle 71 = .ok (.invokevirtual 188, 3) := dk_182 0 188 (dk_at dksX4_parseVehicle_3 2 rfl rfl)
theorem dX4_parseVehicle_74 : decode cX4_parseVehicle 74 = .ok (.istore_n 3, 1) := dk_62 (dk_at dksX4_parseVehicle_3 5 rfl rfl)
theorem dX4_parseVehicle_75 : decode cX4_parseVehicle 75 = .ok (.return_, 1) := dk_177 (dk_at dksX4_parseVehicle_3 6 rfl rfl)
theorem c_315_0 : LkP (OkP 315) [(0, o_aload 0 1), (1, o_aload 0 1), (2, o_get 148), (5, o_push 2 (.int 11)), (7, o_rdI 0), (8, o_push 2 (.int 15)), (10, o_icmp (fun x y => decide (y ≤ x)) 17), (13, o_push 1 (.int 1)), (14, o_goto 18), (17, o_push 1 (.int 0)), (18, o_push 1 (.int 3)), (19, o_cv [(30, 304)] 2 3 true none), (22, o_aload 0 1), (23, o_cv [(30, 305)] 0 3 true none), (26, o_aload 0 1), (27, o_push 1 (.int 1)), (28, o_push 1 (.int 4)), (29, o_cv [(30, 306)] 2 3 false none), (32, o_istore 1 1), (33, o_aload 0 1), (34, o_pushA 2 4), (36, o_cv [(30, 316)] 1 3 false none), (39, o_if (fun x => decide (x = 0)) 59), (42, o_aload 0 1), (43, o_push 1 (.int 0)), (44, o_aload 0 1), (45, o_get 148), (48, o_push 2 (.int 10)), (50, o_rdI 0), (51, o_push 1 (.int 1)), (52, o_iop (fun x y => x - y)), (53, o_cv [(30, 306)] 2 3 false none), (56, o_goto 60), (59, o_push 1 (.int (-1))), (60, o_istore 2 1), (61, o_aload 0 1), (62, o_cv [(30, 300)] 0 3 false none)] := lkp_c (P := OkP 315) ⟨(PuOK.ok (ok_aload_n dX4_parseVehicle_0 rfl)), m_aload⟩ (
  lkp_c (P := OkP 315) ⟨(PuOK.ok (ok_aload_n dX4_parseVehicle_1 rfl)), m_aload⟩ (
  lkp_c (P := OkP 315) ⟨ok_get ⟨"TollRoadModel", q3080, Or.inl rfl⟩ dX4_parseVehicle_2, m_get⟩ (
  lkp_c (P := OkP 315) ⟨(PuOK.ok (ok_bipush dX4_parseVehicle_5 rfl)), m_push⟩ (
  lkp_c (P := OkP 315) ⟨ok_iald dX4_parseVehicle_7, m_rdI⟩ (
  lkp_c (P := OkP 315) ⟨(PuOK.ok (ok_bipush dX4_parseVehicle_8 rfl)), m_push⟩ (
  lkp_c (P := OkP 315) ⟨(PuOK.ok (ok_icmp_ge dX4_parseVehicle_10 rfl)), m_icmp⟩ (
  lkp_c (P := OkP 315) ⟨(PuOK.ok (ok_iconst dX4_parseVehicle_13 rfl)), m_push⟩ (
  lkp_c (P := OkP 315) ⟨(PuOK.ok (ok_goto dX4_parseVehicle_14 rfl)), m_goto⟩ (
  lkp_c (P := OkP 315) ⟨(PuOK.ok (ok_iconst dX4_parseVehicle_17 rfl)), m_push⟩ (
  lkp_c (P := OkP 315) ⟨(PuOK.ok (ok_iconst dX4_parseVehicle_18 rfl)), m_push⟩ (
  lkp_c (P := OkP 315) ⟨ok_cv (List.forall_mem_cons.mpr ⟨tg_V (ci := 30) (r := CLr 30) (y := 304) rfl ⟨rfl, by decide⟩ rfl q3270 q3272 qs49 q139 q3273 ⟨cn_34.1, cn_34.2, pd_124⟩ dX4_parseVehicle_19, (List.forall_mem_nil _)⟩) hd_no, m_cv⟩ (
  lkp_c (P := OkP 315) ⟨(PuOK.ok (ok_aload_n dX4_parseVehicle_22 rfl)), m_aload⟩ (
  lkp_c (P := OkP 315) ⟨ok_cv (List.forall_mem_cons.mpr ⟨tg_V (ci := 30) (r := CLr 30) (y := 305) rfl ⟨rfl, by decide⟩ rfl q3274 q3276 qs50 q139 q3277 ⟨cn_34.1, cn_34.2, pd_0⟩ dX4_parseVehicle_23, (List.forall_mem_nil _)⟩) hd_no, m_cv⟩ (
  lkp_c (P := OkP 315) ⟨(PuOK.ok (ok_aload_n dX4_parseVehicle_26 rfl)), m_aload⟩ (
  lkp_c (P := OkP 315) ⟨(PuOK.ok (ok_iconst dX4_parseVehicle_27 rfl)), m_push⟩ (
  lkp_c (P := OkP 315) ⟨(PuOK.ok (ok_iconst dX4_parseVehicle_28 rfl)), m_push⟩ (
  lkp_c (P := OkP 315) ⟨ok_cv (List.forall_mem_cons.mpr ⟨tg_V (ci := 30) (r := CLr 30) (y := 306) rfl ⟨rfl, by decide⟩ rfl q3278 q3280 qs51 q139 q3281 ⟨cn_34.1, cn_34.2, pd_1⟩ dX4_parseVehicle_29, (List.forall_mem_nil _)⟩) hd_no, m_cv⟩ (
  lkp_c (P := OkP 315) ⟨(PuOK.ok (ok_istore_n dX4_parseVehicle_32 rfl)), m_istore⟩ (
  lkp_c (P := OkP 315) ⟨(PuOK.ok (ok_aload_n dX4_parseVehicle_33 rfl)), m_aload⟩ (
  lkp_c (P := OkP 315) ⟨ok_ldcS (tx := "account") (by decide +kernel) dX4_parseVehicle_34, m_pushA⟩ (
  lkp_c (P := OkP 315) ⟨ok_cv (List.forall_mem_cons.mpr ⟨tg_V (ci := 30) (r := CLr 30) (y := 316) rfl ⟨rfl, by decide⟩ rfl q3322 q3324 qs61 q139 q3325 ⟨cn_34.1, cn_34.2, pd_123⟩ dX4_parseVehicle_36, (List.forall_mem_nil _)⟩) hd_no, m_cv⟩ (
  lkp_c (P := OkP 315) ⟨(PuOK.ok (ok_if_eq dX4_parseVehicle_39 rfl)), m_if⟩ (
  lkp_c (P := OkP 315) ⟨(PuOK.ok (ok_aload_n dX4_parseVehicle_42 rfl)), m_aload⟩ (
  lkp_c (P := OkP 315) ⟨(PuOK.ok (ok_iconst dX4_parseVehicle_43 rfl)), m_push⟩ (
  lkp_c (P := OkP 315) ⟨(PuOK.ok (ok_aload_n dX4_parseVehicle_44 rfl)), m_aload⟩ (
  lkp_c (P := OkP 315) ⟨ok_get ⟨"TollRoadModel", q3080, Or.inl rfl⟩ dX4_parseVehicle_45, m_get⟩ (
  lkp_c (P := OkP 315) ⟨(PuOK.ok (ok_bipush dX4_parseVehicle_48 rfl)), m_push⟩ (
  lkp_c (P := OkP 315) ⟨ok_iald dX4_parseVehicle_50, m_rdI⟩ (
  lkp_c (P := OkP 315) ⟨(PuOK.ok (ok_iconst dX4_parseVehicle_51 rfl)), m_push⟩ (
  lkp_c (P := OkP 315) ⟨(PuOK.ok (ok_isub dX4_parseVehicle_52)), m_iop⟩ (
  lkp_c (P := OkP 315) ⟨ok_cv (List.forall_mem_cons.mpr ⟨tg_V (ci := 30) (r := CLr 30) (y := 306) rfl ⟨rfl, by decide⟩ rfl q3278 q3280 qs51 q139 q3281 ⟨cn_34.1, cn_34.2, pd_1⟩ dX4_parseVehicle_53, (List.forall_mem_nil _)⟩) hd_no, m_cv⟩ (
  lkp_c (P := OkP 315) ⟨(PuOK.ok (ok_goto dX4_parseVehicle_56 rfl)), m_goto⟩ (
  lkp_c (P := OkP 315) ⟨(PuOK.ok (ok_iconst dX4_parseVehicle_59 rfl)), m_push⟩ (
  lkp_c (P := OkP 315) ⟨(PuOK.ok (ok_istore_n dX4_parseVehicle_60 rfl)), m_istore⟩ (
  lkp_c (P := OkP 315) ⟨(PuOK.ok (ok_aload_n dX4_parseVehicle_61 rfl)), m_aload⟩ (
  lkp_c (P := OkP 315) ⟨ok_cv (List.forall_mem_cons.mpr ⟨tg_V (ci := 30) (r := CLr 30) (y := 300) rfl ⟨rfl, by decide⟩ rfl q3241 q3243 qs45 q139 q3244 ⟨cn_34.1, cn_34.2, pd_50⟩ dX4_parseVehicle_62, (List.forall_mem_nil _)⟩) hd_no, m_cv⟩ (
  trivial)))))))))))))))))))))))))))))))))))))
theorem c_315_1 : LkP (OkP 315) [(65, o_if (fun x => decide (x = 0)) 75), (68, o_aload 0 1), (69, o_iload 1 1), (70, o_iload 2 1), (71, o_cv [(30, 317)] 2 3 false none), (74, o_istore 3 1), (75, o_vret)] := lkp_c (P := OkP 315) ⟨(PuOK.ok (ok_if_eq dX4_parseVehicle_65 rfl)), m_if⟩ (
  lkp_c (P := OkP 315) ⟨(PuOK.ok (ok_aload_n dX4_parseVehicle_68 rfl)), m_aload⟩ (
  lkp_c (P := OkP 315) ⟨(PuOK.ok (ok_iload_n dX4_parseVehicle_69 rfl)), m_iload⟩ (
  lkp_c (P := OkP 315) ⟨(PuOK.ok (ok_iload_n dX4_parseVehicle_70 rfl)), m_iload⟩ (
  lkp_c (P := OkP 315) ⟨ok_cv (List.forall_mem_cons.mpr ⟨tg_V (ci := 30) (r := CLr 30) (y := 317) rfl ⟨rfl, by decide⟩ rfl q3326 q3328 qs62 q139 q3329 ⟨cn_34.1, cn_34.2, pd_1⟩ dX4_parseVehicle_71, (List.forall_mem_nil _)⟩) hd_no, m_cv⟩ (
  lkp_c (P := OkP 315) ⟨(PuOK.ok (ok_istore_n dX4_parseVehicle_74 rfl)), m_istore⟩ (
  lkp_c (P := OkP 315) ⟨ok_vret rfl dX4_parseVehicle_75, m_vret⟩ (
  trivial)))))))
theorem mt_315 : MtOK TB NT IT 315 := ⟨by decide +kernel, rfl, (fun h => by cases h), Or.inl ⟨rfl, rfl⟩, rfl, by decide, lk2_all (P := OkP 315) ⟨c_315_0, c_315_1, trivial⟩⟩
def dkwX4_accept_1 : List UInt8 := [153, 0, 7, 42, 182, 0, 146, 28, 172]
abbrev dktX4_accept_1 : List UInt8 := dkwX4_accept_1 ++ []
def dkwX4_accept_0 : List UInt8 := [42, 182, 0, 142, 153, 0, 15, 42, 43, 182, 0, 149, 153, 0, 7, 4, 167, 0, 4, 3, 61, 28]
abbrev dktX4_accept_0 : List UInt8 := dkwX4_accept_0 ++ dktX4_accept_1
theorem dksX4_accept_0 : cX4_accept.data.toList.drop 0 = dktX4_accept_0 := by decide +kernel
theorem dksX4_accept_1 : cX4_accept.data.toList.drop 22 = dktX4_accept_1 := dk_seg dksX4_accept_0 22 rfl rfl
theorem dX4_accept_0 : decode cX4_accept 0 = .ok (.aload_n 0, 1) := dk_42 (dk_at dksX4_accept_0 0 rfl rfl)
theorem dX4_accept_1 : decode cX4_accept 1 = .ok (.invokevirtual 142, 3) := dk_182 0 142 (dk_at dksX4_accept_0 1 rfl rfl)
theorem dX4_accept_4 : decode cX4_accept 4 = .ok (.ifCond .eq 15, 3) := dk_153 0 15 (dk_at dksX4_accept_0 4 rfl rfl)
theorem dX4_accept_7 : decode cX4_accept 7 = .ok (.aload_n 0, 1) := dk_42 (dk_at dksX4_accept_0 7 rfl rfl)
theorem dX4_accept_8 : decode cX4_accept 8 = .ok (.aload_n 1, 1) := dk_43 (dk_at dksX4_accept_0 8 rfl rfl)
theorem dX4_accept_9 : decode cX4_accept 9 = .ok (.invokevirtual 149, 3) := dk_182 0 149 (dk_at dksX4_accept_0 9 rfl rfl)
theorem dX4_accept_12 : decode cX4_accept 12 = .ok (.ifCond .eq 7, 3) := dk_153 0 7 (dk_at dksX4_accept_0 12 rfl rfl)
theorem dX4_accept_15 : decode cX4_accept 15 = .ok (.iconst 1, 1) := dk_4 (dk_at dksX4_accept_0 15 rfl rfl)
theorem dX4_accept_16 : decode cX4_accept 16 = .ok (.goto 4, 3) := dk_167 0 4 (dk_at dksX4_accept_0 16 rfl rfl)
theorem dX4_accept_19 : decode cX4_accept 19 = .ok (.iconst 0, 1) := dk_3 (dk_at dksX4_accept_0 19 rfl rfl)
theorem dX4_accept_20 : decode cX4_accept 20 = .ok (.istore_n 2, 1) := dk_61 (dk_at dksX4_accept_0 20 rfl rfl)
theorem dX4_accept_21 : decode cX4_accept 21 = .ok (.iload_n 2, 1) := dk_28 (dk_at dksX4_accept_0 21 rfl rfl)
theorem dX4_accept_22 : decode cX4_accept 22 = .ok (.ifCond .eq 7, 3) := dk_153 0 7 (dk_at dksX4_accept_1 0 rfl rfl)
theorem dX4_accept_25 : decode cX4_accept 25 = .ok (.aload_n 0, 1) := dk_42 (dk_at dksX4_accept_1 3 rfl rfl)
theorem dX4_accept_26 : decode cX4_accept 26 = .ok (.invokevirtual 146, 3) := dk_182 0 146 (dk_at dksX4_accept_1 4 rfl rfl)
theorem dX4_accept_29 : decode cX4_accept 29 = .ok (.iload_n 2, 1) := dk_28 (dk_at dksX4_accept_1 7 rfl rfl)
theorem dX4_accept_30 : decode cX4_accept 30 = .ok (.ireturn, 1) := dk_172 (dk_at dksX4_accept_1 8 rfl rfl)
theorem c_316_0 : LkP (OkP 316) [(0, o_aload 0 1), (1, o_cv [(30, 300)] 0 3 false none), (4, o_if (fun x => decide (x = 0)) 19), (7, o_aload 0 1), (8, o_aload 1 1), (9, o_cv [(30, 302)] 1 3 false none), (12, o_if (fun x => decide (x = 0)) 19), (15, o_push 1 (.int 1)), (16, o_goto 20), (19, o_push 1 (.int 0)), (20, o_istore 2 1), (21, o_iload 2 1), (22, o_if (fun x => decide (x = 0)) 29), (25, o_aload 0 1), (26, o_cv [(30, 296)] 0 3 true none), (29, o_iload 2 1), (30, o_ret 5)] := lkp_c (P := OkP 316) ⟨(PuOK.ok (ok_aload_n dX4_accept_0 rfl)), m_aload⟩ (
  lkp_c (P := OkP 316) ⟨ok_cv (List.forall_mem_cons.mpr ⟨tg_V (ci := 30) (r := CLr 30) (y := 300) rfl ⟨rfl, by decide⟩ rfl q3241 q3243 qs45 q139 q3244 ⟨cn_34.1, cn_34.2, pd_50⟩ dX4_accept_1, (List.forall_mem_nil _)⟩) hd_no, m_cv⟩ (
  lkp_c (P := OkP 316) ⟨(PuOK.ok (ok_if_eq dX4_accept_4 rfl)), m_if⟩ (
  lkp_c (P := OkP 316) ⟨(PuOK.ok (ok_aload_n dX4_accept_7 rfl)), m_aload⟩ (
  lkp_c (P := OkP 316) ⟨(PuOK.ok (ok_aload_n dX4_accept_8 rfl)), m_aload⟩ (
  lkp_c (P := OkP 316) ⟨ok_cv (List.forall_mem_cons.mpr ⟨tg_V (ci := 30) (r := CLr 30) (y := 302) rfl ⟨rfl, by decide⟩ rfl q3250 q3252 qs47 q139 q3253 ⟨cn_34.1, cn_34.2, pd_123⟩ dX4_accept_9, (List.forall_mem_nil _)⟩) hd_no, m_cv⟩ (
  lkp_c (P := OkP 316) ⟨(PuOK.ok (ok_if_eq dX4_accept_12 rfl)), m_if⟩ (
  lkp_c (P := OkP 316) ⟨(PuOK.ok (ok_iconst dX4_accept_15 rfl)), m_push⟩ (
  lkp_c (P := OkP 316) ⟨(PuOK.ok (ok_goto dX4_accept_16 rfl)), m_goto⟩ (
  lkp_c (P := OkP 316) ⟨(PuOK.ok (ok_iconst dX4_accept_19 rfl)), m_push⟩ (
  lkp_c (P := OkP 316) ⟨(PuOK.ok (ok_istore_n dX4_accept_20 rfl)), m_istore⟩ (
  lkp_c (P := OkP 316) ⟨(PuOK.ok (ok_iload_n dX4_accept_21 rfl)), m_iload⟩ (
  lkp_c (P := OkP 316) ⟨(PuOK.ok (ok_if_eq dX4_accept_22 rfl)), m_if⟩ (
  lkp_c (P := OkP 316) ⟨(PuOK.ok (ok_aload_n dX4_accept_25 rfl)), m_aload⟩ (
  lkp_c (P := OkP 316) ⟨ok_cv (List.forall_mem_cons.mpr ⟨tg_V (ci := 30) (r := CLr 30) (y := 296) rfl ⟨rfl, by decide⟩ rfl q3224 q3226 qs43 q139 q3227 ⟨cn_34.1, cn_34.2, pd_0⟩ dX4_accept_26, (List.forall_mem_nil _)⟩) hd_no, m_cv⟩ (
  lkp_c (P := OkP 316) ⟨(PuOK.ok (ok_iload_n dX4_accept_29 rfl)), m_iload⟩ (
  lkp_c (P := OkP 316) ⟨ok_iret rfl rfl (by decide) dX4_accept_30, m_ret⟩ (
  trivial)))))))))))))))))
theorem mt_316 : MtOK TB NT IT 316 := ⟨by decide +kernel, rfl, (fun h => by cases h), Or.inl ⟨rfl, rfl⟩, rfl, by decide, lk2_all (P := OkP 316) ⟨c_316_0, trivial⟩⟩
def dkwX4_appendVehicle_2 : List UInt8 := [46, 4, 96, 79, 42, 180, 0, 7, 16, 11, 46, 4, 100, 172]
abbrev dktX4_appendVehicle_2 : List UInt8 := dkwX4_appendVehicle_2 ++ []
def dkwX4_appendVehicle_1 : List UInt8 := [180, 0, 7, 29, 4, 96, 28, 79, 42, 180, 0, 7, 29, 5, 96, 3, 79, 42, 180, 0, 7, 16, 11, 92]
abbrev dktX4_appendVehicle_1 : List UInt8 := dkwX4_appendVehicle_1 ++ dktX4_appendVehicle_2
def dkwX4_appendVehicle_0 : List UInt8 := [17, 0, 235, 6, 42, 180, 0, 7, 16, 11, 46, 104, 96, 62, 42, 180, 0, 7, 29, 3, 96, 27, 79, 42]
abbrev dktX4_appendVehicle_0 : List UInt8 := dkwX4_appendVehicle_0 ++ dktX4_appendVehicle_1
theorem dksX4_appendVehicle_0 : cX4_appendVehicle.data.toList.drop 0 = dktX4_appendVehicle_0 := by decide +kernel
theorem dksX4_appendVehicle_1 : cX4_appendVehicle.data.toList.drop 24 = dktX4_appendVehicle_1 := dk_seg dksX4_appendVehicle_0 24 rfl rfl
theorem dksX4_appendVehicle_2 : cX4_appendVehicle.data.toList.drop 48 = dktX4_appendVehicle_2 := dk_seg dksX4_appendVehicle_1 24 rfl rfl
theorem dX4_appendVehicle_0 : decode cX4_appendVehicle 0 = .ok (.sipush 235, 3) := dk_17 0 235 (dk_at dksX4_appendVehicle_0 0 rfl rfl)
theorem dX4_appendVehicle_3 : decode cX4_appendVehicle 3 = .ok (.iconst 3, 1) := dk_6 (dk_at dksX4_appendVehicle_0 3 rfl rfl)
theorem dX4_appendVehicle_4 : decode cX4_appendVehicle 4 = .ok (.aload_n 0, 1) := dk_42 (dk_at dksX4_appendVehicle_0 4 rfl rfl)
theorem dX4_appendVehicle_5 : decode cX4_appendVehicle 5 = .ok (.getfield 7, 3) := dk_180 0 7 (dk_at dksX4_appendVehicle_0 5 rfl rfl)
theorem dX4_appendVehicle_8 : decode cX4_appendVehicle 8 = .ok (.bipush 11, 2) := dk_16 11 (dk_at dksX4_appendVehicle_0 8 rfl rfl)
theorem dX4_appendVehicle_10 : decode cX4_appendVehicle 10 = .ok (.iaload, 1) := dk_46 (dk_at dksX4_appendVehicle_0 10 rfl rfl)
theorem dX4_appendVehicle_11 : decode cX4_appendVehicle 11 = .ok (.imul, 1) := dk_104 (dk_at dksX4_appendVehicle_0 11 rfl rfl)
theorem dX4_appendVehicle_12 : decode cX4_appendVehicle 12 = .ok (.iadd, 1) := dk_96 (dk_at dksX4_appendVehicle_0 12 rfl rfl)
theorem dX4_appendVehicle_13 : decode cX4_appendVehicle 13 = .ok (.istore_n 3, 1) := dk_62 (dk_at dksX4_appendVehicle_0 13 rfl rfl)
theorem dX4_appendVehicle_14 : decode cX4_appendVehicle 14 = .ok (.aload_n 0, 1) := dk_42 (dk_at dksX4_appendVehicle_0 14 rfl rfl)
theorem dX4_appendVehicle_15 : decode cX4_appendVehicle 15 = .ok (.getfield 7, 3) := dk_180 0 7 (dk_at dksX4_appendVehicle_0 15 rfl rfl)
theorem dX4_appendVehicle_18 : decode cX4_appendVehicle 18 = .ok (.iload_n 3, 1) := dk_29 (dk_at dksX4_appendVehicle_0 18 rfl rfl)
theorem dX4_appendVehicle_19 : decode cX4_appendVehicle 19 = .ok (.iconst 0, 1) := dk_3 (dk_at dksX4_appendVehicle_0 19 rfl rfl)
theorem dX4_appendVehicle_20 : decode cX4_appendVehicle 20 = .ok (.iadd, 1) := dk_96 (dk_at dksX4_appendVehicle_0 20 rfl rfl)
theorem dX4_appendVehicle_21 : decode cX4_appendVehicle 21 = .ok (.iload_n 1, 1) := dk_27 (dk_at dksX4_appendVehicle_0 21 rfl rfl)
theorem dX4_appendVehicle_22 : decode cX4_appendVehicle 22 = .ok (.iastore, 1) := dk_79 (dk_at dksX4_appendVehicle_0 22 rfl rfl)
theorem dX4_appendVehicle_23 : decode cX4_appendVehicle 23 = .ok (.aload_n 0, 1) := dk_42 (dk_at dksX4_appendVehicle_0 23 rfl rfl)
theorem dX4_appendVehicle_24 : decode cX4_appendVehicle 24 = .ok (.getfield 7, 3) := dk_180 0 7 (dk_at dksX4_appendVehicle_1 0 rfl rfl)
theorem dX4_appendVehicle_27 : decode cX4_appendVehicle 27 = .ok (.iload_n 3, 1) := dk_29 (dk_at dksX4_appendVehicle_1 3 rfl rfl)
theorem dX4_appendVehicle_28 : decode cX4_appendVehicle 28 = .ok (.iconst 1, 1) := dk_4 (dk_at dksX4_appendVehicle_1 4 rfl rfl)
theorem dX4_appendVehicle_29 : decode cX4_appendVehicle 29 = .ok (.iadd, 1) := dk_96 (dk_at dksX4_appendVehicle_1 5 rfl rfl)
theorem dX4_appendVehicle_30 : decode cX4_appendVehicle 30 = .ok (.iload_n 2, 1) := dk_28 (dk_at dksX4_appendVehicle_1 6 rfl rfl)
theorem dX4_appendVehicle_31 : decode cX4_appendVehicle 31 = .ok (.iastore, 1) := dk_79 (dk_at dksX4_appendVehicle_1 7 rfl rfl)
theorem dX4_appendVehicle_32 : decode cX4_appendVehicle 32 = .ok (.aload_n 0, 1) := dk_42 (dk_at dksX4_appendVehicle_1 8 rfl rfl)
theorem dX4_appendVehicle_33 : decode cX4_appendVehicle 33 = .ok (.getfield 7, 3) := dk_180 0 7 (dk_at dksX4_appendVehicle_1 9 rfl rfl)
theorem dX4_appendVehicle_36 : decode cX4_appendVehicle 36 = .ok (.iload_n 3, 1) := dk_29 (dk_at dksX4_appendVehicle_1 12 rfl rfl)
theorem dX4_appendVehicle_37 : decode cX4_appendVehicle 37 = .ok (.iconst 2, 1) := dk_5 (dk_at dksX4_appendVehicle_1 13 rfl rfl)
theorem dX4_appendVehicle_38 : decode cX4_appendVehicle 38 = .ok (.iadd, 1) := dk_96 (dk_at dksX4_appendVehicle_1 14 rfl rfl)
theorem dX4_appendVehicle_39 : decode cX4_appendVehicle 39 = .ok (.iconst 0, 1) := dk_3 (dk_at dksX4_appendVehicle_1 15 rfl rfl)
theorem dX4_appendVehicle_40 : decode cX4_appendVehicle 40 = .ok (.iastore, 1) := dk_79 (dk_at dksX4_appendVehicle_1 16 rfl rfl)
theorem dX4_appendVehicle_41 : decode cX4_appendVehicle 41 = .ok (.aload_n 0, 1) := dk_42 (dk_at dksX4_appendVehicle_1 17 rfl rfl)
theorem dX4_appendVehicle_42 : decode cX4_appendVehicle 42 = .ok (.getfield 7, 3) := dk_180 0 7 (dk_at dksX4_appendVehicle_1 18 rfl rfl)
theorem dX4_appendVehicle_45 : decode cX4_appendVehicle 45 = .ok (.bipush 11, 2) := dk_16 11 (dk_at dksX4_appendVehicle_1 21 rfl rfl)
theorem dX4_appendVehicle_47 : decode cX4_appendVehicle 47 = .ok (.dup2, 1) := dk_92 (dk_at dksX4_appendVehicle_1 23 rfl rfl)
theorem dX4_appendVehicle_48 : decode cX4_appendVehicle 48 = .ok (.iaload, 1) := dk_46 (dk_at dksX4_appendVehicle_2 0 rfl rfl)
theorem dX4_appendVehicle_49 : decode cX4_appendVehicle 49 = .ok (.iconst 1, 1) := dk_4 (dk_at dksX4_appendVehicle_2 1 rfl rfl)
theorem dX4_appendVehicle_50 : decode cX4_appendVehicle 50 = .ok (.iadd, 1) := dk_96 (dk_at dksX4_appendVehicle_2 2 rfl rfl)
theorem dX4_appendVehicle_51 : decode cX4_appendVehicle 51 = .ok (.iastore, 1) := dk_79 (dk_at dksX4_appendVehicle_2 3 rfl rfl)
theorem dX4_appendVehicle_52 : decode cX4_appendVehicle 52 = .ok (.aload_n 0, 1) := dk_42 (dk_at dksX4_appendVehicle_2 4 rfl rfl)
theorem dX4_appendVehicle_53 : decode cX4_appendVehicle 53 = .ok (.getfield 7, 3) := dk_180 0 7 (dk_at dksX4_appendVehicle_2 5 rfl rfl)
theorem dX4_appendVehicle_56 : decode cX4_appendVehicle 56 = .ok (.bipush 11, 2) := dk_16 11 (dk_at dksX4_appendVehicle_2 8 rfl rfl)
theorem dX4_appendVehicle_58 : decode cX4_appendVehicle 58 = .ok (.iaload, 1) := dk_46 (dk_at dksX4_appendVehicle_2 10 rfl rfl)
theorem dX4_appendVehicle_59 : decode cX4_appendVehicle 59 = .ok (.iconst 1, 1) := dk_4 (dk_at dksX4_appendVehicle_2 11 rfl rfl)
theorem dX4_appendVehicle_60 : decode cX4_appendVehicle 60 = .ok (.isub, 1) := dk_100 (dk_at dksX4_appendVehicle_2 12 rfl rfl)
theorem dX4_appendVehicle_61 : decode cX4_appendVehicle 61 = .ok (.ireturn, 1) := dk_172 (dk_at dksX4_appendVehicle_2 13 rfl rfl)
theorem c_317_0 : LkP (OkP 317) [(0, o_push 3 (.int 235)), (3, o_push 1 (.int 3)), (4, o_aload 0 1), (5, o_get 148), (8, o_push 2 (.int 11)), (10, o_rdI 0), (11, o_iop (fun x y => x * y)), (12, o_iop (fun x y => x + y)), (13, o_istore 3 1), (14, o_aload 0 1), (15, o_get 148), (18, o_iload 3 1), (19, o_push 1 (.int 0)), (20, o_iop (fun x y => x + y)), (21, o_iload 1 1), (22, o_wrI 0), (23, o_aload 0 1), (24, o_get 148), (27, o_iload 3 1), (28, o_push 1 (.int 1)), (29, o_iop (fun x y => x + y)), (30, o_iload 2 1), (31, o_wrI 0), (32, o_aload 0 1), (33, o_get 148), (36, o_iload 3 1), (37, o_push 1 (.int 2)), (38, o_iop (fun x y => x + y)), (39, o_push 1 (.int 0)), (40, o_wrI 0), (41, o_aload 0 1), (42, o_get 148), (45, o_push 2 (.int 11)), (47, o_dup2), (48, o_rdI 0), (49, o_push 1 (.int 1)), (50, o_iop (fun x y => x + y)), (51, o_wrI 0), (52, o_aload 0 1), (53, o_get 148), (56, o_push 2 (.int 11)), (58, o_rdI 0), (59, o_push 1 (.int 1)), (60, o_iop (fun x y => x - y)), (61, o_ret 1)] := lkp_c (P := OkP 317) ⟨(PuOK.ok (ok_sipush dX4_appendVehicle_0 rfl)), m_push⟩ (
  lkp_c (P := OkP 317) ⟨(PuOK.ok (ok_iconst dX4_appendVehicle_3 rfl)), m_push⟩ (
  lkp_c (P := OkP 317) ⟨(PuOK.ok (ok_aload_n dX4_appendVehicle_4 rfl)), m_aload⟩ (
  lkp_c (P := OkP 317) ⟨ok_get ⟨"TollRoadModel", q3080, Or.inl rfl⟩ dX4_appendVehicle_5, m_get⟩ (
  lkp_c (P := OkP 317) ⟨(PuOK.ok (ok_bipush dX4_appendVehicle_8 rfl)), m_push⟩ (
  lkp_c (P := OkP 317) ⟨ok_iald dX4_appendVehicle_10, m_rdI⟩ (
  lkp_c (P := OkP 317) ⟨(PuOK.ok (ok_imul dX4_appendVehicle_11)), m_iop⟩ (
  lkp_c (P := OkP 317) ⟨(PuOK.ok (ok_iadd dX4_appendVehicle_12)), m_iop⟩ (
  lkp_c (P := OkP 317) ⟨(PuOK.ok (ok_istore_n dX4_appendVehicle_13 rfl)), m_istore⟩ (
  lkp_c (P := OkP 317) ⟨(PuOK.ok (ok_aload_n dX4_appendVehicle_14 rfl)), m_aload⟩ (
  lkp_c (P := OkP 317) ⟨ok_get ⟨"TollRoadModel", q3080, Or.inl rfl⟩ dX4_appendVehicle_15, m_get⟩ (
  lkp_c (P := OkP 317) ⟨(PuOK.ok (ok_iload_n dX4_appendVehicle_18 rfl)), m_iload⟩ (
  lkp_c (P := OkP 317) ⟨(PuOK.ok (ok_iconst dX4_appendVehicle_19 rfl)), m_push⟩ (
  lkp_c (P := OkP 317) ⟨(PuOK.ok (ok_iadd dX4_appendVehicle_20)), m_iop⟩ (
  lkp_c (P := OkP 317) ⟨(PuOK.ok (ok_iload_n dX4_appendVehicle_21 rfl)), m_iload⟩ (
  lkp_c (P := OkP 317) ⟨ok_iast dX4_appendVehicle_22, m_wrI⟩ (
  lkp_c (P := OkP 317) ⟨(PuOK.ok (ok_aload_n dX4_appendVehicle_23 rfl)), m_aload⟩ (
  lkp_c (P := OkP 317) ⟨ok_get ⟨"TollRoadModel", q3080, Or.inl rfl⟩ dX4_appendVehicle_24, m_get⟩ (
  lkp_c (P := OkP 317) ⟨(PuOK.ok (ok_iload_n dX4_appendVehicle_27 rfl)), m_iload⟩ (
  lkp_c (P := OkP 317) ⟨(PuOK.ok (ok_iconst dX4_appendVehicle_28 rfl)), m_push⟩ (
  lkp_c (P := OkP 317) ⟨(PuOK.ok (ok_iadd dX4_appendVehicle_29)), m_iop⟩ (
  lkp_c (P := OkP 317) ⟨(PuOK.ok (ok_iload_n dX4_appendVehicle_30 rfl)), m_iload⟩ (
  lkp_c (P := OkP 317) ⟨ok_iast dX4_appendVehicle_31, m_wrI⟩ (
  lkp_c (P := OkP 317) ⟨(PuOK.ok (ok_aload_n dX4_appendVehicle_32 rfl)), m_aload⟩ (
  lkp_c (P := OkP 317) ⟨ok_get ⟨"TollRoadModel", q3080, Or.inl rfl⟩ dX4_appendVehicle_33, m_get⟩ (
  lkp_c (P := OkP 317) ⟨(PuOK.ok (ok_iload_n dX4_appendVehicle_36 rfl)), m_iload⟩ (
  lkp_c (P := OkP 317) ⟨(PuOK.ok (ok_iconst dX4_appendVehicle_37 rfl)), m_push⟩ (
  lkp_c (P := OkP 317) ⟨(PuOK.ok (ok_iadd dX4_appendVehicle_38)), m_iop⟩ (
  lkp_c (P := OkP 317) ⟨(PuOK.ok (ok_iconst dX4_appendVehicle_39 rfl)), m_push⟩ (
  lkp_c (P := OkP 317) ⟨ok_iast dX4_appendVehicle_40, m_wrI⟩ (
  lkp_c (P := OkP 317) ⟨(PuOK.ok (ok_aload_n dX4_appendVehicle_41 rfl)), m_aload⟩ (
  lkp_c (P := OkP 317) ⟨ok_get ⟨"TollRoadModel", q3080, Or.inl rfl⟩ dX4_appendVehicle_42, m_get⟩ (
  lkp_c (P := OkP 317) ⟨(PuOK.ok (ok_bipush dX4_appendVehicle_45 rfl)), m_push⟩ (
  lkp_c (P := OkP 317) ⟨(PuOK.ok (ok_dup2 dX4_appendVehicle_47)), m_dup2⟩ (
  lkp_c (P := OkP 317) ⟨ok_iald dX4_appendVehicle_48, m_rdI⟩ (
  lkp_c (P := OkP 317) ⟨(PuOK.ok (ok_iconst dX4_appendVehicle_49 rfl)), m_push⟩ (
  lkp_c (P := OkP 317) ⟨(PuOK.ok (ok_iadd dX4_appendVehicle_50)), m_iop⟩ (
  lkp_c (P := OkP 317) ⟨ok_iast dX4_appendVehicle_51, m_wrI⟩ (
  lkp_c (P := OkP 317) ⟨(PuOK.ok (ok_aload_n dX4_appendVehicle_52 rfl)), m_aload⟩ (
  lkp_c (P := OkP 317) ⟨ok_get ⟨"TollRoadModel", q3080, Or.inl rfl⟩ dX4_appendVehicle_53, m_get⟩ (
  lkp_c (P := OkP 317) ⟨(PuOK.ok (ok_bipush dX4_appendVehicle_56 rfl)), m_push⟩ (
  lkp_c (P := OkP 317) ⟨ok_iald dX4_appendVehicle_58, m_rdI⟩ (
  lkp_c (P := OkP 317) ⟨(PuOK.ok (ok_iconst dX4_appendVehicle_59 rfl)), m_push⟩ (
  lkp_c (P := OkP 317) ⟨(PuOK.ok (ok_isub dX4_appendVehicle_60)), m_iop⟩ (
  lkp_c (P := OkP 317) ⟨ok_iret rfl rfl (by decide) dX4_appendVehicle_61, m_ret⟩ (
  trivial)))))))))))))))))))))))))))))))))))))))))))))
theorem mt_317 : MtOK TB NT IT 317 := ⟨by decide +kernel, rfl, (fun h => by cases h), Or.inl ⟨rfl, rfl⟩, rfl, by decide, lk2_all (P := OkP 317) ⟨c_317_0, trivial⟩⟩
def dkwX4_parseSet_2 : List UInt8 := [180, 0, 7, 3, 27, 96, 28, 79, 177]
abbrev dktX4_parseSet_2 : List UInt8 := dkwX4_parseSet_2 ++ []
def dkwX4_parseSet_1 : List UInt8 := [182, 0, 142, 153, 0, 29, 42, 42, 180, 0, 26, 27, 46, 42, 180, 0, 29, 27, 46, 182, 0, 164, 61, 42]
abbrev dktX4_parseSet_1 : List UInt8 := dkwX4_parseSet_1 ++ dktX4_parseSet_2
def dkwX4_parseSet_0 : List UInt8 := [42, 42, 18, 191, 182, 0, 149, 4, 182, 0, 153, 42, 182, 0, 161, 42, 3, 16, 7, 182, 0, 164, 60, 42]
abbrev dktX4_parseSet_0 : List UInt8 := dkwX4_parseSet_0 ++ dktX4_parseSet_1
theorem dksX4_parseSet_0 : cX4_parseSet.data.toList.drop 0 = dktX4_parseSet_0 := by decide +kernel
theorem dksX4_parseSet_1 : cX4_parseSet.data.toList.drop 24 = dktX4_parseSet_1 := dk_seg dksX4_parseSet_0 24 rfl rfl
theorem dksX4_parseSet_2 : cX4_parseSet.data.toList.drop 48 = dktX4_parseSet_2 := dk_seg dksX4_parseSet_1 24 rfl rfl
theorem dX4_parseSet_0 : decode cX4_parseSet 0 = .ok (.aload_n 0, 1) := dk_42 (dk_at dksX4_parseSet_0 0 rfl rfl)
theorem dX4_parseSet_1 : decode cX4_parseSet 1 = .ok (.aload_n 0, 1) := dk_42 (dk_at dksX4_parseSet_0 1 rfl rfl)
theorem dX4_parseSet_2 : decode cX4_parseSet 2 = .ok (.ldc 191, 2) := dk_18 191 (dk_at dksX4_parseSet_0 2 rfl rfl)
theorem dX4_parseSet_4 : decode cX4_parseSet 4 = .ok (.invokevirtual 149, 3) := dk_182 0 149 (dk_at dksX4_parseSet_0 4 rfl rfl)
theorem dX4_parseSet_7 : decode cX4_parseSet 7 = .ok (.iconst 1, 1) := dk_4 (dk_at dksX4_parseSet_0 7 rfl rfl)
theorem dX4_parseSet_8 : decode cX4_parseSet 8 = .ok (.invokevirtual 153, 3) := dk_182 0 153 (dk_at dksX4_parseSet_0 8 rfl rfl)
theorem dX4_parseSet_11 : decode cX4_parseSet 11 = .ok (.aload_n 0, 1) := dk_42 (dk_at dksX4_parseSet_0 11 rfl rfl)
theorem dX4_parseSet_12 : decode cX4_parseSet 12 = .ok (.invokevirtual 161, 3) := dk_182 0 161 (dk_at dksX4_parseSet_0 12 rfl rfl)
theorem dX4_parseSet_15 : decode cX4_parseSet 15 = .ok (.aload_n 0, 1) := dk_42 (dk_at dksX4_parseSet_0 15 rfl rfl)
theorem dX4_parseSet_16 : decode cX4_parseSet 16 = .ok (.iconst 0, 1) := dk_3 (dk_at dksX4_parseSet_0 16 rfl rfl)
theorem dX4_parseSet_17 : decode cX4_parseSet 17 = .ok (.bipush 7, 2) := dk_16 7 (dk_at dksX4_parseSet_0 17 rfl rfl)
theorem dX4_parseSet_19 : decode cX4_parseSet 19 = .ok (.invokevirtual 164, 3) := dk_182 0 164 (dk_at dksX4_parseSet_0 19 rfl rfl)
theorem dX4_parseSet_22 : decode cX4_parseSet 22 = .ok (.istore_n 1, 1) := dk_60 (dk_at dksX4_parseSet_0 22 rfl rfl)
theorem dX4_parseSet_23 : decode cX4_parseSet 23 = .ok (.aload_n 0, 1) := dk_42 (dk_at dksX4_parseSet_0 23 rfl rfl)
theorem dX4_parseSet_24 : decode cX4_parseSet 24 = .ok (.invokevirtual 142, 3) := dk_182 0 142 (dk_at dksX4_parseSet_1 0 rfl rfl)
theorem dX4_parseSet_27 : decode cX4_parseSet 27 = .ok (.ifCond .eq 29, 3) := dk_153 0 29 (dk_at dksX4_parseSet_1 3 rfl rfl)
theorem dX4_parseSet_30 : decode cX4_parseSet 30 = .ok (.aload_n 0, 1) := dk_42 (dk_at dksX4_parseSet_1 6 rfl rfl)
theorem dX4_parseSet_31 : decode cX4_parseSet 31 = .ok (.aload_n 0, 1) := dk_42 (dk_at dksX4_parseSet_1 7 rfl rfl)
theorem dX4_parseSet_32 : decode cX4_parseSet 32 = .ok (.getfield 26, 3) := dk_180 0 26 (dk_at dksX4_parseSet_1 8 rfl rfl)
theorem dX4_parseSet_35 : decode cX4_parseSet 35 = .ok (.iload_n 1, 1) := dk_27 (dk_at dksX4_parseSet_1 11 rfl rfl)
theorem dX4_parseSet_36 : decode cX4_parseSet 36 = .ok (.iaload, 1) := dk_46 (dk_at dksX4_parseSet_1 12 rfl rfl)
theorem dX4_parseSet_37 : decode cX4_parseSet 37 = .ok (.aload_n 0, 1) := dk_42 (dk_at dksX4_parseSet_1 13 rfl rfl)
theorem dX4_parseSet_38 : decode cX4_parseSet 38 = .ok (.getfield 29, 3) := dk_180 0 29 (dk_at dksX4_parseSet_1 14 rfl rfl)
theorem dX4_parseSet_41 : decode cX4_parseSet 41 = .ok (.iload_n 1, 1) := dk_27 (dk_at dksX4_parseSet_1 17 rfl rfl)
theorem dX4_parseSet_42 : decode cX4_parseSet 42 = .ok (.iaload, 1) := dk_46 (dk_at dksX4_parseSet_1 18 rfl rfl)
theorem dX4_parseSet_43 : decode cX4_parseSet 43 = .ok (.invokevirtual 164, 3) := dk_182 0 164 (dk_at dksX4_parseSet_1 19 rfl rfl)
theorem dX4_parseSet_46 : decode cX4_parseSet 46 = .ok (.istore_n 2, 1) := dk_61 (dk_at dksX4_parseSet_1 22 rfl rfl)
theorem dX4_parseSet_47 : decode cX4_parseSet 47 = .ok (.aload_n 0, 1) := dk_42 (dk_at dksX4_parseSet_1 23 rfl rfl)
theorem dX4_parseSet_48 : decode cX4_parseSet 48 = .ok (.getfield 7, 3) := dk_180 0 7 (dk_at dksX4_parseSet_2 0 rfl rfl)
theorem dX4_parseSet_51 : decode cX4_parseSet 51 = .ok (.iconst 0, 1) := dk_3 (dk_at dksX4_parseSet_2 3 rfl rfl)
theorem dX4_parseSet_52 : decode cX4_parseSet 52 = .ok (.iload_n 1, 1) := dk_27 (dk_at dksX4_parseSet_2 4 rfl rfl)
theorem dX4_parseSet_53 : decode cX4_parseSet 53 = .ok (.iadd, 1) := dk_96 (dk_at dksX4_parseSet_2 5 rfl rfl)
theorem dX4_parseSet_54 : decode cX4_parseSet 54 = .ok (.iload_n 2, 1) := dk_28 (dk_at dksX4_parseSet_2 6 rfl rfl)
theorem dX4_parseSet_55 : decode cX4_parseSet 55 = .ok (.iastore, 1) := dk_79 (dk_at dksX4_parseSet_2 7 rfl rfl)
theorem dX4_parseSet_56 : decode cX4_parseSet 56 = .ok (.return_, 1) := dk_177 (dk_at dksX4_parseSet_2 8 rfl rfl)
theorem c_318_0 : LkP (OkP 318) [(0, o_aload 0 1), (1, o_aload 0 1), (2, o_pushA 2 6), (4, o_cv [(30, 302)] 1 3 false none), (7, o_push 1 (.int 1)), (8, o_cv [(30, 304)] 2 3 true none), (11, o_aload 0 1), (12, o_cv [(30, 305)] 0 3 true none), (15, o_aload 0 1), (16, o_push 1 (.int 0)), (17, o_push 2 (.int 7)), (19, o_cv [(30, 306)] 2 3 false none), (22, o_istore 1 1), (23, o_aload 0 1), (24, o_cv [(30, 300)] 0 3 false none), (27, o_if (fun x => decide (x = 0)) 56), (30, o_aload 0 1), (31, o_aload 0 1), (32, o_get 153), (35, o_iload 1 1), (36, o_rdI 0), (37, o_aload 0 1), (38, o_get 154), (41, o_iload 1 1), (42, o_rdI 0), (43, o_cv [(30, 306)] 2 3 false none), (46, o_istore 2 1), (47, o_aload 0 1), (48, o_get 148), (51, o_push 1 (.int 0)), (52, o_iload 1 1), (53, o_iop (fun x y => x + y)), (54, o_iload 2 1), (55, o_wrI 0), (56, o_vret)] := lkp_c (P := OkP 318) ⟨(PuOK.ok (ok_aload_n dX4_parseSet_0 rfl)), m_aload⟩ (
  lkp_c (P := OkP 318) ⟨(PuOK.ok (ok_aload_n dX4_parseSet_1 rfl)), m_aload⟩ (
  lkp_c (P := OkP 318) ⟨ok_ldcS (tx := "set") (by decide +kernel) dX4_parseSet_2, m_pushA⟩ (
  lkp_c (P := OkP 318) ⟨ok_cv (List.forall_mem_cons.mpr ⟨tg_V (ci := 30) (r := CLr 30) (y := 302) rfl ⟨rfl, by decide⟩ rfl q3250 q3252 qs47 q139 q3253 ⟨cn_34.1, cn_34.2, pd_123⟩ dX4_parseSet_4, (List.forall_mem_nil _)⟩) hd_no, m_cv⟩ (
  lkp_c (P := OkP 318) ⟨(PuOK.ok (ok_iconst dX4_parseSet_7 rfl)), m_push⟩ (
  lkp_c (P := OkP 318) ⟨ok_cv (List.forall_mem_cons.mpr ⟨tg_V (ci := 30) (r := CLr 30) (y := 304) rfl ⟨rfl, by decide⟩ rfl q3270 q3272 qs49 q139 q3273 ⟨cn_34.1, cn_34.2, pd_124⟩ dX4_parseSet_8, (List.forall_mem_nil _)⟩) hd_no, m_cv⟩ (
  lkp_c (P := OkP 318) ⟨(PuOK.ok (ok_aload_n dX4_parseSet_11 rfl)), m_aload⟩ (
  lkp_c (P := OkP 318) ⟨ok_cv (List.forall_mem_cons.mpr ⟨tg_V (ci := 30) (r := CLr 30) (y := 305) rfl ⟨rfl, by decide⟩ rfl q3274 q3276 qs50 q139 q3277 ⟨cn_34.1, cn_34.2, pd_0⟩ dX4_parseSet_12, (List.forall_mem_nil _)⟩) hd_no, m_cv⟩ (
  lkp_c (P := OkP 318) ⟨(PuOK.ok (ok_aload_n dX4_parseSet_15 rfl)), m_aload⟩ (
  lkp_c (P := OkP 318) ⟨(PuOK.ok (ok_iconst dX4_parseSet_16 rfl)), m_push⟩ (
  lkp_c (P := OkP 318) ⟨(PuOK.ok (ok_bipush dX4_parseSet_17 rfl)), m_push⟩ (
  lkp_c (P := OkP 318) ⟨ok_cv (List.forall_mem_cons.mpr ⟨tg_V (ci := 30) (r := CLr 30) (y := 306) rfl ⟨rfl, by decide⟩ rfl q3278 q3280 qs51 q139 q3281 ⟨cn_34.1, cn_34.2, pd_1⟩ dX4_parseSet_19, (List.forall_mem_nil _)⟩) hd_no, m_cv⟩ (
  lkp_c (P := OkP 318) ⟨(PuOK.ok (ok_istore_n dX4_parseSet_22 rfl)), m_istore⟩ (
  lkp_c (P := OkP 318) ⟨(PuOK.ok (ok_aload_n dX4_parseSet_23 rfl)), m_aload⟩ (
  lkp_c (P := OkP 318) ⟨ok_cv (List.forall_mem_cons.mpr ⟨tg_V (ci := 30) (r := CLr 30) (y := 300) rfl ⟨rfl, by decide⟩ rfl q3241 q3243 qs45 q139 q3244 ⟨cn_34.1, cn_34.2, pd_50⟩ dX4_parseSet_24, (List.forall_mem_nil _)⟩) hd_no, m_cv⟩ (
  lkp_c (P := OkP 318) ⟨(PuOK.ok (ok_if_eq dX4_parseSet_27 rfl)), m_if⟩ (
  lkp_c (P := OkP 318) ⟨(PuOK.ok (ok_aload_n dX4_parseSet_30 rfl)), m_aload⟩ (
  lkp_c (P := OkP 318) ⟨(PuOK.ok (ok_aload_n dX4_parseSet_31 rfl)), m_aload⟩ (
  lkp_c (P := OkP 318) ⟨ok_get ⟨"TollRoadModel", q3085, Or.inl rfl⟩ dX4_parseSet_32, m_get⟩ (
  lkp_c (P := OkP 318) ⟨(PuOK.ok (ok_iload_n dX4_parseSet_35 rfl)), m_iload⟩ (
  lkp_c (P := OkP 318) ⟨ok_iald dX4_parseSet_36, m_rdI⟩ (
  lkp_c (P := OkP 318) ⟨(PuOK.ok (ok_aload_n dX4_parseSet_37 rfl)), m_aload⟩ (
  lkp_c (P := OkP 318) ⟨ok_get ⟨"TollRoadModel", q3086, Or.inl rfl⟩ dX4_parseSet_38, m_get⟩ (
  lkp_c (P := OkP 318) ⟨(PuOK.ok (ok_iload_n dX4_parseSet_41 rfl)), m_iload⟩ (
  lkp_c (P := OkP 318) ⟨ok_iald dX4_parseSet_42, m_rdI⟩ (
  lkp_c (P := OkP 318) ⟨ok_cv (List.forall_mem_cons.mpr ⟨tg_V (ci := 30) (r := CLr 30) (y := 306) rfl ⟨rfl, by decide⟩ rfl q3278 q3280 qs51 q139 q3281 ⟨cn_34.1, cn_34.2, pd_1⟩ dX4_parseSet_43, (List.forall_mem_nil _)⟩) hd_no, m_cv⟩ (
  lkp_c (P := OkP 318) ⟨(PuOK.ok (ok_istore_n dX4_parseSet_46 rfl)), m_istore⟩ (
  lkp_c (P := OkP 318) ⟨(PuOK.ok (ok_aload_n dX4_parseSet_47 rfl)), m_aload⟩ (
  lkp_c (P := OkP 318) ⟨ok_get ⟨"TollRoadModel", q3080, Or.inl rfl⟩ dX4_parseSet_48, m_get⟩ (
  lkp_c (P := OkP 318) ⟨(PuOK.ok (ok_iconst dX4_parseSet_51 rfl)), m_push⟩ (
  lkp_c (P := OkP 318) ⟨(PuOK.ok (ok_iload_n dX4_parseSet_52 rfl)), m_iload⟩ (
  lkp_c (P := OkP 318) ⟨(PuOK.ok (ok_iadd dX4_parseSet_53)), m_iop⟩ (
  lkp_c (P := OkP 318) ⟨(PuOK.ok (ok_iload_n dX4_parseSet_54 rfl)), m_iload⟩ (
  lkp_c (P := OkP 318) ⟨ok_iast dX4_parseSet_55, m_wrI⟩ (
  lkp_c (P := OkP 318) ⟨ok_vret rfl dX4_parseSet_56, m_vret⟩ (
  trivial)))))))))))))))))))))))))))))))))))
theorem mt_318 : MtOK TB NT IT 318 := ⟨by decide +kernel, rfl, (fun h => by cases h), Or.inl ⟨rfl, rfl⟩, rfl, by decide, lk2_all (P := OkP 318) ⟨c_318_0, trivial⟩⟩
def dkwX4_errorCode_0 : List UInt8 := [42, 3, 181, 0, 81, 42, 180, 0, 139, 172]
abbrev dktX4_errorCode_0 : List UInt8 := dkwX4_errorCode_0 ++ []
theorem dksX4_errorCode_0 : cX4_errorCode.data.toList.drop 0 = dktX4_errorCode_0 := by decide +kernel
theorem dX4_errorCode_0 : decode cX4_errorCode 0 = .ok (.aload_n 0, 1) := dk_42 (dk_at dksX4_errorCode_0 0 rfl rfl)
theorem dX4_errorCode_1 : decode cX4_errorCode 1 = .ok (.iconst 0, 1) := dk_3 (dk_at dksX4_errorCode_0 1 rfl rfl)
theorem dX4_errorCode_2 : decode cX4_errorCode 2 = .ok (.putfield 81, 3) := dk_181 0 81 (dk_at dksX4_errorCode_0 2 rfl rfl)
theorem dX4_errorCode_5 : decode cX4_errorCode 5 = .ok (.aload_n 0, 1) := dk_42 (dk_at dksX4_errorCode_0 5 rfl rfl)
theorem dX4_errorCode_6 : decode cX4_errorCode 6 = .ok (.getfield 139, 3) := dk_180 0 139 (dk_at dksX4_errorCode_0 6 rfl rfl)
theorem dX4_errorCode_9 : decode cX4_errorCode 9 = .ok (.ireturn, 1) := dk_172 (dk_at dksX4_errorCode_0 9 rfl rfl)
theorem c_319_0 : LkP (OkP 319) [(0, o_aload 0 1), (1, o_push 1 (.int 0)), (2, o_put 155 1), (5, o_aload 0 1), (6, o_get 163), (9, o_ret 1)] := lkp_c (P := OkP 319) ⟨(PuOK.ok (ok_aload_n dX4_errorCode_0 rfl)), m_aload⟩ (
  lkp_c (P := OkP 319) ⟨(PuOK.ok (ok_iconst dX4_errorCode_1 rfl)), m_push⟩ (
  lkp_c (P := OkP 319) ⟨ok_put ⟨"TollRoadModel", q3087, Or.inl rfl⟩ rfl fd_155 rfl dX4_errorCode_2, m_put⟩ (
  lkp_c (P := OkP 319) ⟨(PuOK.ok (ok_aload_n dX4_errorCode_5 rfl)), m_aload⟩ (
  lkp_c (P := OkP 319) ⟨ok_get ⟨"TollRoadModel", q3095, Or.inl rfl⟩ dX4_errorCode_6, m_get⟩ (
  lkp_c (P := OkP 319) ⟨ok_iret rfl rfl (by decide) dX4_errorCode_9, m_ret⟩ (
  trivial))))))
theorem mt_319 : MtOK TB NT IT 319 := ⟨by decide +kernel, rfl, (fun h => by cases h), Or.inl ⟨rfl, rfl⟩, rfl, by decide, lk2_all (P := OkP 319) ⟨c_319_0, trivial⟩⟩
def dkwX4_errorPosition_0 : List UInt8 := [42, 3, 181, 0, 81, 42, 180, 0, 35, 172]
abbrev dktX4_errorPosition_0 : List UInt8 := dkwX4_errorPosition_0 ++ []
theorem dksX4_errorPosition_0 : cX4_errorPosition.data.toList.drop 0 = dktX4_errorPosition_0 := by decide +kernel
theorem dX4_errorPosition_0 : decode cX4_errorPosition 0 = .ok (.aload_n 0, 1) := dk_42 (dk_at dksX4_errorPosition_0 0 rfl rfl)
theorem dX4_errorPosition_1 : decode cX4_errorPosition 1 = .ok (.iconst 0, 1) := dk_3 (dk_at dksX4_errorPosition_0 1 rfl rfl)
theorem dX4_errorPosition_2 : decode cX4_errorPosition 2 = .ok (.putfield 81, 3) := dk_181 0 81 (dk_at dksX4_errorPosition_0 2 rfl rfl)
theorem dX4_errorPosition_5 : decode cX4_errorPosition 5 = .ok (.aload_n 0, 1) := dk_42 (dk_at dksX4_errorPosition_0 5 rfl rfl)
theorem dX4_errorPosition_6 : decode cX4_errorPosition 6 = .ok (.getfield 35, 3) := dk_180 0 35 (dk_at dksX4_errorPosition_0 6 rfl rfl)
theorem dX4_errorPosition_9 : decode cX4_errorPosition 9 = .ok (.ireturn, 1) := dk_172 (dk_at dksX4_errorPosition_0 9 rfl rfl)
theorem c_320_0 : LkP (OkP 320) [(0, o_aload 0 1), (1, o_push 1 (.int 0)), (2, o_put 155 1), (5, o_aload 0 1), (6, o_get 164), (9, o_ret 1)] := lkp_c (P := OkP 320) ⟨(PuOK.ok (ok_aload_n dX4_errorPosition_0 rfl)), m_aload⟩ (
  lkp_c (P := OkP 320) ⟨(PuOK.ok (ok_iconst dX4_errorPosition_1 rfl)), m_push⟩ (
  lkp_c (P := OkP 320) ⟨ok_put ⟨"TollRoadModel", q3087, Or.inl rfl⟩ rfl fd_155 rfl dX4_errorPosition_2, m_put⟩ (
  lkp_c (P := OkP 320) ⟨(PuOK.ok (ok_aload_n dX4_errorPosition_5 rfl)), m_aload⟩ (
  lkp_c (P := OkP 320) ⟨ok_get ⟨"TollRoadModel", q3096, Or.inl rfl⟩ dX4_errorPosition_6, m_get⟩ (
  lkp_c (P := OkP 320) ⟨ok_iret rfl rfl (by decide) dX4_errorPosition_9, m_ret⟩ (
  trivial))))))
theorem mt_320 : MtOK TB NT IT 320 := ⟨by decide +kernel, rfl, (fun h => by cases h), Or.inl ⟨rfl, rfl⟩, rfl, by decide, lk2_all (P := OkP 320) ⟨c_320_0, trivial⟩⟩
def dkwX4_addGantry_2 : List UInt8 := [172]
abbrev dktX4_addGantry_2 : List UInt8 := dkwX4_addGantry_2 ++ []
def dkwX4_addGantry_1 : List UInt8 := [180, 0, 7, 16, 8, 46, 16, 12, 160, 0, 11, 42, 5, 182, 0, 87, 167, 0, 8, 42, 27, 182, 0, 168]
abbrev dktX4_addGantry_1 : List UInt8 := dkwX4_addGantry_1 ++ dktX4_addGantry_2
def dkwX4_addGantry_0 : List UInt8 := [42, 3, 181, 0, 81, 27, 3, 16, 99, 184, 0, 91, 154, 0, 9, 42, 4, 182, 0, 87, 172, 42]
abbrev dktX4_addGantry_0 : List UInt8 := dkwX4_addGantry_0 ++ dktX4_addGantry_1
theorem dksX4_addGantry_0 : cX4_addGantry.data.toList.drop 0 = dktX4_addGantry_0 := by decide +kernel
theorem dksX4_addGantry_1 : cX4_addGantry.data.toList.drop 22 = dktX4_addGantry_1 := dk_seg dksX4_addGantry_0 22 rfl rfl
theorem dksX4_addGantry_2 : cX4_addGantry.data.toList.drop 46 = dktX4_addGantry_2 := dk_seg dksX4_addGantry_1 24 rfl rfl
theorem dX4_addGantry_0 : decode cX4_addGantry 0 = .ok (.aload_n 0, 1) := dk_42 (dk_at dksX4_addGantry_0 0 rfl rfl)
theorem dX4_addGantry_1 : decode cX4_addGantry 1 = .ok (.iconst 0, 1) := dk_3 (dk_at dksX4_addGantry_0 1 rfl rfl)
theorem dX4_addGantry_2 : decode cX4_addGantry 2 = .ok (.putfield 81, 3) := dk_181 0 81 (dk_at dksX4_addGantry_0 2 rfl rfl)
theorem dX4_addGantry_5 : decode cX4_addGantry 5 = .ok (.iload_n 1, 1) := dk_27 (dk_at dksX4_addGantry_0 5 rfl rfl)
theorem dX4_addGantry_6 : decode cX4_addGantry 6 = .ok (.iconst 0, 1) := dk_3 (dk_at dksX4_addGantry_0 6 rfl rfl)
theorem dX4_addGantry_7 : decode cX4_addGantry 7 = .ok (.bipush 99, 2) := dk_16 99 (dk_at dksX4_addGantry_0 7 rfl rfl)
theorem dX4_addGantry_9 : decode cX4_addGantry 9 = .ok (.invokestatic 91, 3) := dk_184 0 91 (dk_at dksX4_addGantry_0 9 rfl rfl)
theorem dX4_addGantry_12 : decode cX4_addGantry 12 = .ok (.ifCond .ne 9, 3) := dk_154 0 9 (dk_at dksX4_addGantry_0 12 rfl rfl)
theorem dX4_addGantry_15 : decode cX4_addGantry 15 = .ok (.aload_n 0, 1) := dk_42 (dk_at dksX4_addGantry_0 15 rfl rfl)
theorem dX4_addGantry_16 : decode cX4_addGantry 16 = .ok (.iconst 1, 1) := dk_4 (dk_at dksX4_addGantry_0 16 rfl rfl)
theorem dX4_addGantry_17 : decode cX4_addGantry 17 = .ok (.invokevirtual 87, 3) := dk_182 0 87 (dk_at dksX4_addGantry_0 17 rfl rfl)
theorem dX4_addGantry_20 : decode cX4_addGantry 20 = .ok (.ireturn, 1) := dk_172 (dk_at dksX4_addGantry_0 20 rfl rfl)
theorem dX4_addGantry_21 : decode cX4_addGantry 21 = .ok (.aload_n 0, 1) := dk_42 (dk_at dksX4_addGantry_0 21 rfl rfl)
theorem dX4_addGantry_22 : decode cX4_addGantry 22 = .ok (.getfield 7, 3) := dk_180 0 7 (dk_at dksX4_addGantry_1 0 rfl rfl)
theorem dX4_addGantry_25 : decode cX4_addGantry 25 = .ok (.bipush 8, 2) := dk_16 8 (dk_at dksX4_addGantry_1 3 rfl rfl)
theorem dX4_addGantry_27 : decode cX4_addGantry 27 = .ok (.iaload, 1) := dk_46 (dk_at dksX4_addGantry_1 5 rfl rfl)
theorem dX4_addGantry_28 : decode cX4_addGantry 28 = .ok (.bipush 12, 2) := dk_16 12 (dk_at dksX4_addGantry_1 6 rfl rfl)
theorem dX4_addGantry_30 : decode cX4_addGantry 30 = .ok (.if_icmp .ne 11, 3) := dk_160 0 11 (dk_at dksX4_addGantry_1 8 rfl rfl)
theorem dX4_addGantry_33 : decode cX4_addGantry 33 = .ok (.aload_n 0, 1) := dk_42 (dk_at dksX4_addGantry_1 11 rfl rfl)
theorem dX4_addGantry_34 : decode cX4_addGantry 34 = .ok (.iconst 2, 1) := dk_5 (dk_at dksX4_addGantry_1 12 rfl rfl)
theorem dX4_addGantry_35 : decode cX4_addGantry 35 = .ok (.invokevirtual 87, 3) := dk_182 0 87 (dk_at dksX4_addGantry_1 13 rfl rfl)
theorem dX4_addGantry_38 : decode cX4_addGantry 38 = .ok (.goto 8, 3) := dk_167 0 8 (dk_at dksX4_addGantry_1 16 rfl rfl)
theorem dX4_addGantry_41 : decode cX4_addGantry 41 = .ok (.aload_n 0, 1) := dk_42 (dk_at dksX4_addGantry_1 19 rfl rfl)
theorem dX4_addGantry_42 : decode cX4_addGantry 42 = .ok (.iload_n 1, 1) := dk_27 (dk_at dksX4_addGantry_1 20 rfl rfl)
theorem dX4_addGantry_43 : decode cX4_addGantry 43 = .ok (.invokevirtual 168, 3) := dk_182 0 168 (dk_at dksX4_addGantry_1 21 rfl rfl)
theorem dX4_addGantry_46 : decode cX4_addGantry 46 = .ok (.ireturn, 1) := dk_172 (dk_at dksX4_addGantry_2 0 rfl rfl)
theorem c_321_0 : LkP (OkP 321) [(0, o_aload 0 1), (1, o_push 1 (.int 0)), (2, o_put 155 1), (5, o_iload 1 1), (6, o_push 1 (.int 0)), (7, o_push 2 (.int 99)), (9, o_cs 293 3 false none), (12, o_if (fun x => decide (¬ x = 0)) 21), (15, o_aload 0 1), (16, o_push 1 (.int 1)), (17, o_cv [(30, 291)] 1 3 false none), (20, o_ret 1), (21, o_aload 0 1), (22, o_get 148), (25, o_push 2 (.int 8)), (27, o_rdI 0), (28, o_push 2 (.int 12)), (30, o_icmp (fun x y => decide (¬ x = y)) 41), (33, o_aload 0 1), (34, o_push 1 (.int 2)), (35, o_cv [(30, 291)] 1 3 false none), (38, o_goto 46), (41, o_aload 0 1), (42, o_iload 1 1), (43, o_cv [(30, 308)] 1 3 false none), (46, o_ret 1)] := lkp_c (P := OkP 321) ⟨(PuOK.ok (ok_aload_n dX4_addGantry_0 rfl)), m_aload⟩ (
  lkp_c (P := OkP 321) ⟨(PuOK.ok (ok_iconst dX4_addGantry_1 rfl)), m_push⟩ (
  lkp_c (P := OkP 321) ⟨ok_put ⟨"TollRoadModel", q3087, Or.inl rfl⟩ rfl fd_155 rfl dX4_addGantry_2, m_put⟩ (
  lkp_c (P := OkP 321) ⟨(PuOK.ok (ok_iload_n dX4_addGantry_5 rfl)), m_iload⟩ (
  lkp_c (P := OkP 321) ⟨(PuOK.ok (ok_iconst dX4_addGantry_6 rfl)), m_push⟩ (
  lkp_c (P := OkP 321) ⟨(PuOK.ok (ok_bipush dX4_addGantry_7 rfl)), m_push⟩ (
  lkp_c (P := OkP 321) ⟨ok_cs (tg_S ⟨rfl, by decide⟩ q3214 q3215 q139 q3216 ⟨cn_34.1, cn_34.2, pd_121⟩ dX4_addGantry_9) hd_no, m_cs⟩ (
  lkp_c (P := OkP 321) ⟨(PuOK.ok (ok_if_ne dX4_addGantry_12 rfl)), m_if⟩ (
  lkp_c (P := OkP 321) ⟨(PuOK.ok (ok_aload_n dX4_addGantry_15 rfl)), m_aload⟩ (
  lkp_c (P := OkP 321) ⟨(PuOK.ok (ok_iconst dX4_addGantry_16 rfl)), m_push⟩ (
  lkp_c (P := OkP 321) ⟨ok_cv (List.forall_mem_cons.mpr ⟨tg_V (ci := 30) (r := CLr 30) (y := 291) rfl ⟨rfl, by decide⟩ rfl q3206 q3208 qs42 q139 q3209 ⟨cn_34.1, cn_34.2, pd_48⟩ dX4_addGantry_17, (List.forall_mem_nil _)⟩) hd_no, m_cv⟩ (
  lkp_c (P := OkP 321) ⟨ok_iret rfl rfl (by decide) dX4_addGantry_20, m_ret⟩ (
  lkp_c (P := OkP 321) ⟨(PuOK.ok (ok_aload_n dX4_addGantry_21 rfl)), m_aload⟩ (
  lkp_c (P := OkP 321) ⟨ok_get ⟨"TollRoadModel", q3080, Or.inl rfl⟩ dX4_addGantry_22, m_get⟩ (
  lkp_c (P := OkP 321) ⟨(PuOK.ok (ok_bipush dX4_addGantry_25 rfl)), m_push⟩ (
  lkp_c (P := OkP 321) ⟨ok_iald dX4_addGantry_27, m_rdI⟩ (
  lkp_c (P := OkP 321) ⟨(PuOK.ok (ok_bipush dX4_addGantry_28 rfl)), m_push⟩ (
  lkp_c (P := OkP 321) ⟨(PuOK.ok (ok_icmp_ne dX4_addGantry_30 rfl)), m_icmp⟩ (
  lkp_c (P := OkP 321) ⟨(PuOK.ok (ok_aload_n dX4_addGantry_33 rfl)), m_aload⟩ (
  lkp_c (P := OkP 321) ⟨(PuOK.ok (ok_iconst dX4_addGantry_34 rfl)), m_push⟩ (
  lkp_c (P := OkP 321) ⟨ok_cv (List.forall_mem_cons.mpr ⟨tg_V (ci := 30) (r := CLr 30) (y := 291) rfl ⟨rfl, by decide⟩ rfl q3206 q3208 qs42 q139 q3209 ⟨cn_34.1, cn_34.2, pd_48⟩ dX4_addGantry_35, (List.forall_mem_nil _)⟩) hd_no, m_cv⟩ (
  lkp_c (P := OkP 321) ⟨(PuOK.ok (ok_goto dX4_addGantry_38 rfl)), m_goto⟩ (
  lkp_c (P := OkP 321) ⟨(PuOK.ok (ok_aload_n dX4_addGantry_41 rfl)), m_aload⟩ (
  lkp_c (P := OkP 321) ⟨(PuOK.ok (ok_iload_n dX4_addGantry_42 rfl)), m_iload⟩ (
  lkp_c (P := OkP 321) ⟨ok_cv (List.forall_mem_cons.mpr ⟨tg_V (ci := 30) (r := CLr 30) (y := 308) rfl ⟨rfl, by decide⟩ rfl q3286 q3288 qs53 q139 q3289 ⟨cn_34.1, cn_34.2, pd_48⟩ dX4_addGantry_43, (List.forall_mem_nil _)⟩) hd_no, m_cv⟩ (
  lkp_c (P := OkP 321) ⟨ok_iret rfl rfl (by decide) dX4_addGantry_46, m_ret⟩ (
  trivial))))))))))))))))))))))))))
theorem mt_321 : MtOK TB NT IT 321 := ⟨by decide +kernel, rfl, (fun h => by cases h), Or.inl ⟨rfl, rfl⟩, rfl, by decide, lk2_all (P := OkP 321) ⟨c_321_0, trivial⟩⟩
def dkwX4_addRoad_4 : List UInt8 := [27, 28, 29, 21, 4, 182, 0, 174, 172]
abbrev dktX4_addRoad_4 : List UInt8 := dkwX4_addRoad_4 ++ []
def dkwX4_addRoad_3 : List UInt8 := [160, 0, 15, 42, 180, 0, 7, 16, 9, 46, 16, 40, 160, 0, 11, 42, 6, 182, 0, 87, 167, 0, 12, 42]
abbrev dktX4_addRoad_3 : List UInt8 := dkwX4_addRoad_3 ++ dktX4_addRoad_4
def dkwX4_addRoad_2 : List UInt8 := [17, 3, 231, 184, 0, 91, 154, 0, 9, 42, 5, 182, 0, 87, 172, 42, 27, 28, 182, 0, 171, 2]
abbrev dktX4_addRoad_2 : List UInt8 := dkwX4_addRoad_2 ++ dktX4_addRoad_3
def dkwX4_addRoad_1 : List UInt8 := [182, 0, 87, 172, 27, 28, 159, 0, 25, 29, 4, 16, 60, 184, 0, 91, 153, 0, 15, 21, 4, 3]
abbrev dktX4_addRoad_1 : List UInt8 := dkwX4_addRoad_1 ++ dktX4_addRoad_2
def dkwX4_addRoad_0 : List UInt8 := [42, 3, 181, 0, 81, 42, 27, 182, 0, 221, 153, 0, 11, 42, 28, 182, 0, 221, 154, 0, 9, 42, 4]
abbrev dktX4_addRoad_0 : List UInt8 := dkwX4_addRoad_0 ++ dktX4_addRoad_1
theorem dksX4_addRoad_0 : cX4_addRoad.data.toList.drop 0 = dktX4_addRoad_0 := by decide +kernel
theorem dksX4_addRoad_1 : cX4_addRoad.data.toList.drop 23 = dktX4_addRoad_1 := dk_seg dksX4_addRoad_0 23 rfl rfl
theorem dksX4_addRoad_2 : cX4_addRoad.data.toList.drop 45 = dktX4_addRoad_2 := dk_seg dksX4_addRoad_1 22 rfl rfl
theorem dksX4_addRoad_3 : cX4_addRoad.data.toList.drop 67 = dktX4_addRoad_3 := dk_seg dksX4_addRoad_2 22 rfl rfl
theorem dksX4_addRoad_4 : cX4_addRoad.data.toList.drop 91 = dktX4_addRoad_4 := dk_seg dksX4_addRoad_3 24 rfl rfl
theorem dX4_addRoad_0 : decode cX4_addRoad 0 = .ok (.aload_n 0, 1) := dk_42 (dk_at dksX4_addRoad_0 0 rfl rfl)
theorem dX4_addRoad_1 : decode cX4_addRoad 1 = .ok (.iconst 0, 1) := dk_3 (dk_at dksX4_addRoad_0 1 rfl rfl)
theorem dX4_addRoad_2 : decode cX4_addRoad 2 = .ok (.putfield 81, 3) := dk_181 0 81 (dk_at dksX4_addRoad_0 2 rfl rfl)
theorem dX4_addRoad_5 : decode cX4_addRoad 5 = .ok (.aload_n 0, 1) := dk_42 (dk_at dksX4_addRoad_0 5 rfl rfl)
theorem dX4_addRoad_6 : decode cX4_addRoad 6 = .ok (.iload_n 1, 1) := dk_27 (dk_at dksX4_addRoad_0 6 rfl rfl)
theorem dX4_addRoad_7 : decode cX4_addRoad 7 = .ok (.invokevirtual 221, 3) := dk_182 0 221 (dk_at dksX4_addRoad_0 7 rfl rfl)
theorem dX4_addRoad_10 : decode cX4_addRoad 10 = .ok (.ifCond .eq 11, 3) := dk_153 0 11 (dk_at dksX4_addRoad_0 10 rfl rfl)
theorem dX4_addRoad_13 : decode cX4_addRoad 13 = .ok (.aload_n 0, 1) := dk_42 (dk_at dksX4_addRoad_0 13 rfl rfl)
theorem dX4_addRoad_14 : decode cX4_addRoad 14 = .ok (.iload_n 2, 1) := dk_28 (dk_at dksX4_addRoad_0 14 rfl rfl)
theorem dX4_addRoad_15 : decode cX4_addRoad 15 = .ok (.invokevirtual 221, 3) := dk_182 0 221 (dk_at dksX4_addRoad_0 15 rfl rfl)
theorem dX4_addRoad_18 : decode cX4_addRoad 18 = .ok (.ifCond .ne 9, 3) := dk_154 0 9 (dk_at dksX4_addRoad_0 18 rfl rfl)
theorem dX4_addRoad_21 : decode cX4_addRoad 21 = .ok (.aload_n 0, 1) := dk_42 (dk_at dksX4_addRoad_0 21 rfl rfl)
theorem dX4_addRoad_22 : decode cX4_addRoad 22 = .ok (.iconst 1, 1) := dk_4 (dk_at dksX4_addRoad_0 22 rfl rfl)
theorem dX4_addRoad_23 : decode cX4_addRoad 23 = .ok (.invokevirtual 87, 3) := dk_182 0 87 (dk_at dksX4_addRoad_1 0 rfl rfl)
theorem dX4_addRoad_26 : decode cX4_addRoad 26 = .ok (.ireturn, 1) := dk_172 (dk_at dksX4_addRoad_1 3 rfl rfl)
theorem dX4_addRoad_27 : decode cX4_addRoad 27 = .ok (.iload_n 1, 1) := dk_27 (dk_at dksX4_addRoad_1 4 rfl rfl)
theorem dX4_addRoad_28 : decode cX4_addRoad 28 = .ok (.iload_n 2, 1) := dk_28 (dk_at dksX4_addRoad_1 5 rfl rfl)
theorem dX4_addRoad_29 : decode cX4_addRoad 29 = .ok (.if_icmp .eq 25, 3) := dk_159 0 25 (dk_at dksX4_addRoad_1 6 rfl rfl)
theorem dX4_addRoad_32 : decode cX4_addRoad 32 = .ok (.iload_n 3, 1) := dk_29 (dk_at dksX4_addRoad_1 9 rfl rfl)
theorem dX4_addRoad_33 : decode cX4_addRoad 33 = .ok (.iconst 1, 1) := dk_4 (dk_at dksX4_addRoad_1 10 rfl rfl)
theorem dX4_addRoad_34 : decode cX4_addRoad 34 = .ok (.bipush 60, 2) := dk_16 60 (dk_at dksX4_addRoad_1 11 rfl rfl)
theorem dX4_addRoad_36 : decode cX4_addRoad 36 = .ok (.invokestatic 91, 3) := dk_184 0 91 (dk_at dksX4_addRoad_1 13 rfl rfl)
theorem dX4_addRoad_39 : decode cX4_addRoad 39 = .ok (.ifCond .eq 15, 3) := dk_153 0 15 (dk_at dksX4_addRoad_1 16 rfl rfl)
theorem dX4_addRoad_42 : decode cX4_addRoad 42 = .ok (.iload 4, 2) := dk_21 4 (dk_at dksX4_addRoad_1 19 rfl rfl)
theorem dX4_addRoad_44 : decode cX4_addRoad 44 = .ok (.iconst 0, 1) := dk_3 (dk_at dksX4_addRoad_1 21 rfl rfl)
theorem dX4_addRoad_45 : decode cX4_addRoad 45 = .ok (.sipush 999, 3) := dk_17 3 231 (dk_at dksX4_addRoad_2 0 rfl rfl)
theorem dX4_addRoad_48 : decode cX4_addRoad 48 = .ok (.invokestatic 91, 3) := dk_184 0 91 (dk_at dksX4_addRoad_2 3 rfl rfl)
theorem dX4_addRoad_51 : decode cX4_addRoad 51 = .ok (.ifCond .ne 9, 3) := dk_154 0 9 (dk_at dksX4_addRoad_2 6 rfl rfl)
theorem dX4_addRoad_54 : decode cX4_addRoad 54 = .ok (.aload_n 0, 1) := dk_42 (dk_at dksX4_addRoad_2 9 rfl rfl)
theorem dX4_addRoad_55 : decode cX4_addRoad 55 = .ok (.iconst 2, 1) := dk_5 (dk_at dksX4_addRoad_2 10 rfl rfl)
theorem dX4_addRoad_56 : decode cX4_addRoad 56 = .ok (.invokevirtual 87, 3) := dk_182 0 87 (dk_at dksX4_addRoad_2 11 rfl rfl)
theorem dX4_addRoad_59 : decode cX4_addRoad 59 = .ok (.ireturn, 1) := dk_172 (dk_at dksX4_addRoad_2 14 rfl rfl)
theorem dX4_addRoad_60 : decode cX4_addRoad 60 = .ok (.aload_n 0, 1) := dk_42 (dk_at dksX4_addRoad_2 15 rfl rfl)
theorem dX4_addRoad_61 : decode cX4_addRoad 61 = .ok (.iload_n 1, 1) := dk_27 (dk_at dksX4_addRoad_2 16 rfl rfl)
theorem dX4_addRoad_62 : decode cX4_addRoad 62 = .ok (.iload_n 2, 1) := dk_28 (dk_at dksX4_addRoad_2 17 rfl rfl)
theorem dX4_addRoad_63 : decode cX4_addRoad 63 = .ok (.invokevirtual 171, 3) := dk_182 0 171 (dk_at dksX4_addRoad_2 18 rfl rfl)
theorem dX4_addRoad_66 : decode cX4_addRoad 66 = .ok (.iconst (-1), 1) := dk_2 (dk_at dksX4_addRoad_2 21 rfl rfl)
theorem dX4_addRoad_67 : decode cX4_addRoad 67 = .ok (.if_icmp .ne 15, 3) := dk_160 0 15 (dk_at dksX4_addRoad_3 0 rfl rfl)
theorem dX4_addRoad_70 : decode cX4_addRoad 70 = .ok (.aload_n 0, 1) := dk_42 (dk_at dksX4_addRoad_3 3 rfl rfl)
theorem dX4_addRoad_71 : decode cX4_addRoad 71 = .ok (.getfield 7, 3) := dk_180 0 7 (dk_at dksX4_addRoad_3 4 rfl rfl)
theorem dX4_addRoad_74 : decode cX4_addRoad 74 = .ok (.bipush 9, 2) := dk_16 9 (dk_at dksX4_addRoad_3 7 rfl rfl)
theorem dX4_addRoad_76 : decode cX4_addRoad 76 = .ok (.iaload, 1) := dk_46 (dk_at dksX4_addRoad_3 9 rfl rfl)
theorem dX4_addRoad_77 : decode cX4_addRoad 77 = .ok (.bipush 40, 2) := dk_16 40 (dk_at dksX4_addRoad_3 10 rfl rfl)
theorem dX4_addRoad_79 : decode cX4_addRoad 79 = .ok (.if_icmp .ne 11, 3) := dk_160 0 11 (dk_at dksX4_addRoad_3 12 rfl rfl)
theorem dX4_addRoad_82 : decode cX4_addRoad 82 = .ok (.aload_n 0, 1) := dk_42 (dk_at dksX4_addRoad_3 15 rfl rfl)
theorem dX4_addRoad_83 : decode cX4_addRoad 83 = .ok (.iconst 3, 1) := dk_6 (dk_at dksX4_addRoad_3 16 rfl rfl)
theorem dX4_addRoad_84 : decode cX4_addRoad 84 = .ok (.invokevirtual 87, 3) := dk_182 0 87 (dk_at dksX4_addRoad_3 17 rfl rfl)
theorem dX4_addRoad_87 : decode cX4_addRoad 87 = .ok (.goto 12, 3) := dk_167 0 12 (dk_at dksX4_addRoad_3 20 rfl rfl)
theorem dX4_addRoad_90 : decode cX4_addRoad 90 = .ok (.aload_n 0, 1) := dk_42 (dk_at dksX4_addRoad_3 23 rfl rfl)
theorem dX4_addRoad_91 : decode cX4_addRoad 91 = .ok (.iload_n 1, 1) := dk_27 (dk_at dksX4_addRoad_4 0 rfl rfl)
theorem dX4_addRoad_92 : decode cX4_addRoad 92 = .ok (.iload_n 2, 1) := dk_28 (dk_at dksX4_addRoad_4 1 rfl rfl)
theorem dX4_addRoad_93 : decode cX4_addRoad 93 = .ok (.iload_n 3, 1) := dk_29 (dk_at dksX4_addRoad_4 2 rfl rfl)
theorem dX4_addRoad_94 : decode cX4_addRoad 94 = .ok (.iload 4, 2) := dk_21 4 (dk_at dksX4_addRoad_4 3 rfl rfl)
theorem dX4_addRoad_96 : decode cX4_addRoad 96 = .ok (.invokevirtual 174, 3) := dk_182 0 174 (dk_at dksX4_addRoad_4 5 rfl rfl)
theorem dX4_addRoad_99 : decode cX4_addRoad 99 = .ok (.ireturn, 1) := dk_172 (dk_at dksX4_addRoad_4 8 rfl rfl)
theorem c_322_0 : LkP (OkP 322) [(0, o_aload 0 1), (1, o_push 1 (.int 0)), (2, o_put 155 1), (5, o_aload 0 1), (6, o_iload 1 1), (7, o_cv [(30, 323)] 1 3 false none), (10, o_if (fun x => decide (x = 0)) 21), (13, o_aload 0 1), (14, o_iload 2 1), (15, o_cv [(30, 323)] 1 3 false none), (18, o_if (fun x => decide (¬ x = 0)) 27), (21, o_aload 0 1), (22, o_push 1 (.int 1)), (23, o_cv [(30, 291)] 1 3 false none), (26, o_ret 1), (27, o_iload 1 1), (28, o_iload 2 1), (29, o_icmp (fun x y => decide (x = y)) 54), (32, o_iload 3 1), (33, o_push 1 (.int 1)), (34, o_push 2 (.int 60)), (36, o_cs 293 3 false none), (39, o_if (fun x => decide (x = 0)) 54), (42, o_iload 4 2), (44, o_push 1 (.int 0)), (45, o_push 3 (.int 999)), (48, o_cs 293 3 false none), (51, o_if (fun x => decide (¬ x = 0)) 60), (54, o_aload 0 1), (55, o_push 1 (.int 2)), (56, o_cv [(30, 291)] 1 3 false none), (59, o_ret 1), (60, o_aload 0 1), (61, o_iload 1 1), (62, o_iload 2 1), (63, o_cv [(30, 310)] 2 3 false none)] := lkp_c (P := OkP 322) ⟨(PuOK.ok (ok_aload_n dX4_addRoad_0 rfl)), m_aload⟩ (
  lkp_c (P := OkP 322) ⟨(PuOK.ok (ok_iconst dX4_addRoad_1 rfl)), m_push⟩ (
  lkp_c (P := OkP 322) ⟨ok_put ⟨"TollRoadModel", q3087, Or.inl rfl⟩ rfl fd_155 rfl dX4_addRoad_2, m_put⟩ (
  lkp_c (P := OkP 322) ⟨(PuOK.ok (ok_aload_n dX4_addRoad_5 rfl)), m_aload⟩ (
  lkp_c (P := OkP 322) ⟨(PuOK.ok (ok_iload_n dX4_addRoad_6 rfl)), m_iload⟩ (
  lkp_c (P := OkP 322) ⟨ok_cv (List.forall_mem_cons.mpr ⟨tg_V (ci := 30) (r := CLr 30) (y := 323) rfl ⟨rfl, by decide⟩ rfl q3351 q3353 qs64 q139 q3354 ⟨cn_34.1, cn_34.2, pd_77⟩ dX4_addRoad_7, (List.forall_mem_nil _)⟩) hd_no, m_cv⟩ (
  lkp_c (P := OkP 322) ⟨(PuOK.ok (ok_if_eq dX4_addRoad_10 rfl)), m_if⟩ (
  lkp_c (P := OkP 322) ⟨(PuOK.ok (ok_aload_n dX4_addRoad_13 rfl)), m_aload⟩ (
  lkp_c (P := OkP 322) ⟨(PuOK.ok (ok_iload_n dX4_addRoad_14 rfl)), m_iload⟩ (
  lkp_c (P := OkP 322) ⟨ok_cv (List.forall_mem_cons.mpr ⟨tg_V (ci := 30) (r := CLr 30) (y := 323) rfl ⟨rfl, by decide⟩ rfl q3351 q3353 qs64 q139 q3354 ⟨cn_34.1, cn_34.2, pd_77⟩ dX4_addRoad_15, (List.forall_mem_nil _)⟩) hd_no, m_cv⟩ (
  lkp_c (P := OkP 322) ⟨(PuOK.ok (ok_if_ne dX4_addRoad_18 rfl)), m_if⟩ (
  lkp_c (P := OkP 322) ⟨(PuOK.ok (ok_aload_n dX4_addRoad_21 rfl)), m_aload⟩ (
  lkp_c (P := OkP 322) ⟨(PuOK.ok (ok_iconst dX4_addRoad_22 rfl)), m_push⟩ (
  lkp_c (P := OkP 322) ⟨ok_cv (List.forall_mem_cons.mpr ⟨tg_V (ci := 30) (r := CLr 30) (y := 291) rfl ⟨rfl, by decide⟩ rfl q3206 q3208 qs42 q139 q3209 ⟨cn_34.1, cn_34.2, pd_48⟩ dX4_addRoad_23, (List.forall_mem_nil _)⟩) hd_no, m_cv⟩ (
  lkp_c (P := OkP 322) ⟨ok_iret rfl rfl (by decide) dX4_addRoad_26, m_ret⟩ (
  lkp_c (P := OkP 322) ⟨(PuOK.ok (ok_iload_n dX4_addRoad_27 rfl)), m_iload⟩ (
  lkp_c (P := OkP 322) ⟨(PuOK.ok (ok_iload_n dX4_addRoad_28 rfl)), m_iload⟩ (
  lkp_c (P := OkP 322) ⟨(PuOK.ok (ok_icmp_eq dX4_addRoad_29 rfl)), m_icmp⟩ (
  lkp_c (P := OkP 322) ⟨(PuOK.ok (ok_iload_n dX4_addRoad_32 rfl)), m_iload⟩ (
  lkp_c (P := OkP 322) ⟨(PuOK.ok (ok_iconst dX4_addRoad_33 rfl)), m_push⟩ (
  lkp_c (P := OkP 322) ⟨(PuOK.ok (ok_bipush dX4_addRoad_34 rfl)), m_push⟩ (
  lkp_c (P := OkP 322) ⟨ok_cs (tg_S ⟨rfl, by decide⟩ q3214 q3215 q139 q3216 ⟨cn_34.1, cn_34.2, pd_121⟩ dX4_addRoad_36) hd_no, m_cs⟩ (
  lkp_c (P := OkP 322) ⟨(PuOK.ok (ok_if_eq dX4_addRoad_39 rfl)), m_if⟩ (
  lkp_c (P := OkP 322) ⟨(PuOK.ok (ok_iload dX4_addRoad_42)), m_iload⟩ (
  lkp_c (P := OkP 322) ⟨(PuOK.ok (ok_iconst dX4_addRoad_44 rfl)), m_push⟩ (
  lkp_c (P := OkP 322) ⟨(PuOK.ok (ok_sipush dX4_addRoad_45 rfl)), m_push⟩ (
  lkp_c (P := OkP 322) ⟨ok_cs (tg_S ⟨rfl, by decide⟩ q3214 q3215 q139 q3216 ⟨cn_34.1, cn_34.2, pd_121⟩ dX4_addRoad_48) hd_no, m_cs⟩ (
  lkp_c (P := OkP 322) ⟨(PuOK.ok (ok_if_ne dX4_addRoad_51 rfl)), m_if⟩ (
  lkp_c (P := OkP 322) ⟨(PuOK.ok (ok_aload_n dX4_addRoad_54 rfl)), m_aload⟩ (
  lkp_c (P := OkP 322) ⟨(PuOK.ok (ok_iconst dX4_addRoad_55 rfl)), m_push⟩ (
  lkp_c (P := OkP 322) ⟨ok_cv (List.forall_mem_cons.mpr ⟨tg_V (ci := 30) (r := CLr 30) (y := 291) rfl ⟨rfl, by decide⟩ rfl q3206 q3208 qs42 q139 q3209 ⟨cn_34.1, cn_34.2, pd_48⟩ dX4_addRoad_56, (List.forall_mem_nil _)⟩) hd_no, m_cv⟩ (
  lkp_c (P := OkP 322) ⟨ok_iret rfl rfl (by decide) dX4_addRoad_59, m_ret⟩ (
  lkp_c (P := OkP 322) ⟨(PuOK.ok (ok_aload_n dX4_addRoad_60 rfl)), m_aload⟩ (
  lkp_c (P := OkP 322) ⟨(PuOK.ok (ok_iload_n dX4_addRoad_61 rfl)), m_iload⟩ (
  lkp_c (P := OkP 322) ⟨(PuOK.ok (ok_iload_n dX4_addRoad_62 rfl)), m_iload⟩ (
  lkp_c (P := OkP 322) ⟨ok_cv (List.forall_mem_cons.mpr ⟨tg_V (ci := 30) (r := CLr 30) (y := 310) rfl ⟨rfl, by decide⟩ rfl q3295 q3297 qs55 q139 q3298 ⟨cn_34.1, cn_34.2, pd_1⟩ dX4_addRoad_63, (List.forall_mem_nil _)⟩) hd_no, m_cv⟩ (
  trivial))))))))))))))))))))))))))))))))))))
theorem c_322_1 : LkP (OkP 322) [(66, o_push 1 (.int (-1))), (67, o_icmp (fun x y => decide (¬ x = y)) 82), (70, o_aload 0 1), (71, o_get 148), (74, o_push 2 (.int 9)), (76, o_rdI 0), (77, o_push 2 (.int 40)), (79, o_icmp (fun x y => decide (¬ x = y)) 90), (82, o_aload 0 1), (83, o_push 1 (.int 3)), (84, o_cv [(30, 291)] 1 3 false none), (87, o_goto 99), (90, o_aload 0 1), (91, o_iload 1 1), (92, o_iload 2 1), (93, o_iload 3 1), (94, o_iload 4 2), (96, o_cv [(30, 311)] 4 3 false none), (99, o_ret 1)] := lkp_c (P := OkP 322) ⟨(PuOK.ok (ok_iconst dX4_addRoad_66 rfl)), m_push⟩ (
  lkp_c (P := OkP 322) ⟨(PuOK.ok (ok_icmp_ne dX4_addRoad_67 rfl)), m_icmp⟩ (
  lkp_c (P := OkP 322) ⟨(PuOK.ok (ok_aload_n dX4_addRoad_70 rfl)), m_aload⟩ (
  lkp_c (P := OkP 322) ⟨ok_get ⟨"TollRoadModel", q3080, Or.inl rfl⟩ dX4_addRoad_71, m_get⟩ (
  lkp_c (P := OkP 322) ⟨(PuOK.ok (ok_bipush dX4_addRoad_74 rfl)), m_push⟩ (
  lkp_c (P := OkP 322) ⟨ok_iald dX4_addRoad_76, m_rdI⟩ (
  lkp_c (P := OkP 322) ⟨(PuOK.ok (ok_bipush dX4_addRoad_77 rfl)), m_push⟩ (
  lkp_c (P := OkP 322) ⟨(PuOK.ok (ok_icmp_ne dX4_addRoad_79 rfl)), m_icmp⟩ (
  lkp_c (P := OkP 322) ⟨(PuOK.ok (ok_aload_n dX4_addRoad_82 rfl)), m_aload⟩ (
  lkp_c (P := OkP 322) ⟨(PuOK.ok (ok_iconst dX4_addRoad_83 rfl)), m_push⟩ (
  lkp_c (P := OkP 322) ⟨ok_cv (List.forall_mem_cons.mpr ⟨tg_V (ci := 30) (r := CLr 30) (y := 291) rfl ⟨rfl, by decide⟩ rfl q3206 q3208 qs42 q139 q3209 ⟨cn_34.1, cn_34.2, pd_48⟩ dX4_addRoad_84, (List.forall_mem_nil _)⟩) hd_no, m_cv⟩ (
  lkp_c (P := OkP 322) ⟨(PuOK.ok (ok_goto dX4_addRoad_87 rfl)), m_goto⟩ (
  lkp_c (P := OkP 322) ⟨(PuOK.ok (ok_aload_n dX4_addRoad_90 rfl)), m_aload⟩ (
  lkp_c (P := OkP 322) ⟨(PuOK.ok (ok_iload_n dX4_addRoad_91 rfl)), m_iload⟩ (
  lkp_c (P := OkP 322) ⟨(PuOK.ok (ok_iload_n dX4_addRoad_92 rfl)), m_iload⟩ (
  lkp_c (P := OkP 322) ⟨(PuOK.ok (ok_iload_n dX4_addRoad_93 rfl)), m_iload⟩ (
  lkp_c (P := OkP 322) ⟨(PuOK.ok (ok_iload dX4_addRoad_94)), m_iload⟩ (
  lkp_c (P := OkP 322) ⟨ok_cv (List.forall_mem_cons.mpr ⟨tg_V (ci := 30) (r := CLr 30) (y := 311) rfl ⟨rfl, by decide⟩ rfl q3299 q3301 qs56 q139 q3302 ⟨cn_34.1, cn_34.2, pd_62⟩ dX4_addRoad_96, (List.forall_mem_nil _)⟩) hd_no, m_cv⟩ (
  lkp_c (P := OkP 322) ⟨ok_iret rfl rfl (by decide) dX4_addRoad_99, m_ret⟩ (
  trivial)))))))))))))))))))
theorem mt_322 : MtOK TB NT IT 322 := ⟨by decide +kernel, rfl, (fun h => by cases h), Or.inl ⟨rfl, rfl⟩, rfl, by decide, lk2_all (P := OkP 322) ⟨c_322_0, c_322_1, trivial⟩⟩
def dkwX4_isGantry_0 : List UInt8 := [27, 3, 42, 180, 0, 7, 16, 8, 46, 4, 100, 184, 0, 91, 172]
abbrev dktX4_isGantry_0 : List UInt8 := dkwX4_isGantry_0 ++ []
theorem dksX4_isGantry_0 : cX4_isGantry.data.toList.drop 0 = dktX4_isGantry_0 := by decide +kernel
theorem dX4_isGantry_0 : decode cX4_isGantry 0 = .ok (.iload_n 1, 1) := dk_27 (dk_at dksX4_isGantry_0 0 rfl rfl)
theorem dX4_isGantry_1 : decode cX4_isGantry 1 = .ok (.iconst 0, 1) := dk_3 (dk_at dksX4_isGantry_0 1 rfl rfl)
theorem dX4_isGantry_2 : decode cX4_isGantry 2 = .ok (.aload_n 0, 1) := dk_42 (dk_at dksX4_isGantry_0 2 rfl rfl)
theorem dX4_isGantry_3 : decode cX4_isGantry 3 = .ok (.getfield 7, 3) := dk_180 0 7 (dk_at dksX4_isGantry_0 3 rfl rfl)
theorem dX4_isGantry_6 : decode cX4_isGantry 6 = .ok (.bipush 8, 2) := dk_16 8 (dk_at dksX4_isGantry_0 6 rfl rfl)
theorem dX4_isGantry_8 : decode cX4_isGantry 8 = .ok (.iaload, 1) := dk_46 (dk_at dksX4_isGantry_0 8 rfl rfl)
theorem dX4_isGantry_9 : decode cX4_isGantry 9 = .ok (.iconst 1, 1) := dk_4 (dk_at dksX4_isGantry_0 9 rfl rfl)
theorem dX4_isGantry_10 : decode cX4_isGantry 10 = .ok (.isub, 1) := dk_100 (dk_at dksX4_isGantry_0 10 rfl rfl)
theorem dX4_isGantry_11 : decode cX4_isGantry 11 = .ok (.invokestatic 91, 3) := dk_184 0 91 (dk_at dksX4_isGantry_0 11 rfl rfl)
theorem dX4_isGantry_14 : decode cX4_isGantry 14 = .ok (.ireturn, 1) := dk_172 (dk_at dksX4_isGantry_0 14 rfl rfl)
theorem c_323_0 : LkP (OkP 323) [(0, o_iload 1 1), (1, o_push 1 (.int 0)), (2, o_aload 0 1), (3, o_get 148), (6, o_push 2 (.int 8)), (8, o_rdI 0), (9, o_push 1 (.int 1)), (10, o_iop (fun x y => x - y)), (11, o_cs 293 3 false none), (14, o_ret 5)] := lkp_c (P := OkP 323) ⟨(PuOK.ok (ok_iload_n dX4_isGantry_0 rfl)), m_iload⟩ (
  lkp_c (P := OkP 323) ⟨(PuOK.ok (ok_iconst dX4_isGantry_1 rfl)), m_push⟩ (
  lkp_c (P := OkP 323) ⟨(PuOK.ok (ok_aload_n dX4_isGantry_2 rfl)), m_aload⟩ (
  lkp_c (P := OkP 323) ⟨ok_get ⟨"TollRoadModel", q3080, Or.inl rfl⟩ dX4_isGantry_3, m_get⟩ (
  lkp_c (P := OkP 323) ⟨(PuOK.ok (ok_bipush dX4_isGantry_6 rfl)), m_push⟩ (
  lkp_c (P := OkP 323) ⟨ok_iald dX4_isGantry_8, m_rdI⟩ (
  lkp_c (P := OkP 323) ⟨(PuOK.ok (ok_iconst dX4_isGantry_9 rfl)), m_push⟩ (
  lkp_c (P := OkP 323) ⟨(PuOK.ok (ok_isub dX4_isGantry_10)), m_iop⟩ (
  lkp_c (P := OkP 323) ⟨ok_cs (tg_S ⟨rfl, by decide⟩ q3214 q3215 q139 q3216 ⟨cn_34.1, cn_34.2, pd_121⟩ dX4_isGantry_11) hd_no, m_cs⟩ (
  lkp_c (P := OkP 323) ⟨ok_iret rfl rfl (by decide) dX4_isGantry_14, m_ret⟩ (
  trivial))))))))))
theorem mt_323 : MtOK TB NT IT 323 := ⟨by decide +kernel, rfl, (fun h => by cases h), Or.inl ⟨rfl, rfl⟩, rfl, by decide, lk2_all (P := OkP 323) ⟨c_323_0, trivial⟩⟩
def dkwX4_addAccount_2 : List UInt8 := [16, 10, 46, 16, 8, 160, 0, 11, 42, 5, 182, 0, 87, 167, 0, 10, 42, 27, 28, 29, 182, 0, 179, 172]
abbrev dktX4_addAccount_2 : List UInt8 := dkwX4_addAccount_2 ++ []
def dkwX4_addAccount_1 : List UInt8 := [153, 0, 13, 29, 3, 16, 50, 184, 0, 91, 154, 0, 9, 42, 4, 182, 0, 87, 172, 42, 180, 0, 7]
abbrev dktX4_addAccount_1 : List UInt8 := dkwX4_addAccount_1 ++ dktX4_addAccount_2
def dkwX4_addAccount_0 : List UInt8 := [42, 3, 181, 0, 81, 27, 3, 18, 178, 184, 0, 91, 153, 0, 23, 28, 3, 16, 50, 184, 0, 91]
abbrev dktX4_addAccount_0 : List UInt8 := dkwX4_addAccount_0 ++ dktX4_addAccount_1
theorem dksX4_addAccount_0 : cX4_addAccount.data.toList.drop 0 = dktX4_addAccount_0 := by decide +kernel
theorem dksX4_addAccount_1 : cX4_addAccount.data.toList.drop 22 = dktX4_addAccount_1 := dk_seg dksX4_addAccount_0 22 rfl rfl
theorem dksX4_addAccount_2 : cX4_addAccount.data.toList.drop 45 = dktX4_addAccount_2 := dk_seg dksX4_addAccount_1 23 rfl rfl
theorem dX4_addAccount_0 : decode cX4_addAccount 0 = .ok (.aload_n 0, 1) := dk_42 (dk_at dksX4_addAccount_0 0 rfl rfl)
theorem dX4_addAccount_1 : decode cX4_addAccount 1 = .ok (.iconst 0, 1) := dk_3 (dk_at dksX4_addAccount_0 1 rfl rfl)
theorem dX4_addAccount_2 : decode cX4_addAccount 2 = .ok (.putfield 81, 3) := dk_181 0 81 (dk_at dksX4_addAccount_0 2 rfl rfl)
theorem dX4_addAccount_5 : decode cX4_addAccount 5 = .ok (.iload_n 1, 1) := dk_27 (dk_at dksX4_addAccount_0 5 rfl rfl)
theorem dX4_addAccount_6 : decode cX4_addAccount 6 = .ok (.iconst 0, 1) := dk_3 (dk_at dksX4_addAccount_0 6 rfl rfl)
theorem dX4_addAccount_7 : decode cX4_addAccount 7 = .ok (.ldc 178, 2) := dk_18 178 (dk_at dksX4_addAccount_0 7 rfl rfl)
theorem dX4_addAccount_9 : decode cX4_addAccount 9 = .ok (.invokestatic 91, 3) := dk_184 0 91 (dk_at dksX4_addAccount_0 9 rfl rfl)
theorem dX4_addAccount_12 : decode cX4_addAccount 12 = .ok (.ifCond .eq 23, 3) := dk_153 0 23 (dk_at dksX4_addAccount_0 12 rfl rfl)
theorem dX4_addAccount_15 : decode cX4_addAccount 15 = .ok (.iload_n 2, 1) := dk_28 (dk_at dksX4_addAccount_0 15 rfl rfl)
theorem dX4_addAccount_16 : decode cX4_addAccount 16 = .ok (.iconst 0, 1) := dk_3 (dk_at dksX4_addAccount_0 16 rfl rfl)
theorem dX4_addAccount_17 : decode cX4_addAccount 17 = .ok (.bipush 50, 2) := dk_16 50 (dk_at dksX4_addAccount_0 17 rfl rfl)
theorem dX4_addAccount_19 : decode cX4_addAccount 19 = .ok (.invokestatic 91, 3) := dk_184 0 91 (dk_at dksX4_addAccount_0 19 rfl rfl)
theorem dX4_addAccount_22 : decode cX4_addAccount 22 = .ok (.ifCond .eq 13, 3) := dk_153 0 13 (dk_at dksX4_addAccount_1 0 rfl rfl)
theorem dX4_addAccount_25 : decode cX4_addAccount 25 = .ok (.iload_n 3, 1) := dk_29 (dk_at dksX4_addAccount_1 3 rfl rfl)
theorem dX4_addAccount_26 : decode cX4_addAccount 26 = .ok (.iconst 0, 1) := dk_3 (dk_at dksX4_addAccount_1 4 rfl rfl)
theorem dX4_addAccount_27 : decode cX4_addAccount 27 = .ok (.bipush 50, 2) := dk_16 50 (dk_at dksX4_addAccount_1 5 rfl rfl)
theorem dX4_addAccount_29 : decode cX4_addAccount 29 = .ok (.invokestatic 91, 3) := dk_184 0 91 (dk_at dksX4_addAccount_1 7 rfl rfl)
theorem dX4_addAccount_32 : decode cX4_addAccount 32 = .ok (.ifCond .ne 9, 3) := dk_154 0 9 (dk_at dksX4_addAccount_1 10 rfl rfl)
theorem dX4_addAccount_35 : decode cX4_addAccount 35 = .ok (.aload_n 0, 1) := dk_42 (dk_at dksX4_addAccount_1 13 rfl rfl)
theorem dX4_addAccount_36 : decode cX4_addAccount 36 = .ok (.iconst 1, 1) := dk_4 (dk_at dksX4_addAccount_1 14 rfl rfl)
theorem dX4_addAccount_37 : decode cX4_addAccount 37 = .ok (.invokevirtual 87, 3) := dk_182 0 87 (dk_at dksX4_addAccount_1 15 rfl rfl)
theorem dX4_addAccount_40 : decode cX4_addAccount 40 = .ok (.ireturn, 1) := dk_172 (dk_at dksX4_addAccount_1 18 rfl rfl)
theorem dX4_addAccount_41 : decode cX4_addAccount 41 = .ok (.aload_n 0, 1) := dk_42 (dk_at dksX4_addAccount_1 19 rfl rfl)
theorem dX4_addAccount_42 : decode cX4_addAccount 42 = .ok (.getfield 7, 3) := dk_180 0 7 (dk_at dksX4_addAccount_1 20 rfl rfl)
theorem dX4_addAccount_45 : decode cX4_addAccount 45 = .ok (.bipush 10, 2) := dk_16 10 (dk_at dksX4_addAccount_2 0 rfl rfl)
theorem dX4_addAccount_47 : decode cX4_addAccount 47 = .ok (.iaload, 1) := dk_46 (dk_at dksX4_addAccount_2 2 rfl rfl)
theorem dX4_addAccount_48 : decode cX4_addAccount 48 = .ok (.bipush 8, 2) := dk_16 8 (dk_at dksX4_addAccount_2 3 rfl rfl)
theorem dX4_addAccount_50 : decode cX4_addAccount 50 = .ok (.if_icmp .ne 11, 3) := dk_160 0 11 (dk_at dksX4_addAccount_2 5 rfl rfl)
theorem dX4_addAccount_53 : decode cX4_addAccount 53 = .ok (.aload_n 0, 1) := dk_42 (dk_at dksX4_addAccount_2 8 rfl rfl)
theorem dX4_addAccount_54 : decode cX4_addAccount 54 = .ok (.iconst 2, 1) := dk_5 (dk_at dksX4_addAccount_2 9 rfl rfl)
theorem dX4_addAccount_55 : decode cX4_addAccount 55 = .ok (.invokevirtual 87, 3) := dk_182 0 87 (dk_at dksX4_addAccount_2 10 rfl rfl)
theorem dX4_addAccount_58 : decode cX4_addAccount 58 = .ok (.goto 10, 3) := dk_167 0 10 (dk_at dksX4_addAccount_2 13 rfl rfl)
theorem dX4_addAccount_61 : decode cX4_addAccount 61 = .ok (.aload_n 0, 1) := dk_42 (dk_at dksX4_addAccount_2 16 rfl rfl)
theorem dX4_addAccount_62 : decode cX4_addAccount 62 = .ok (.iload_n 1, 1) := dk_27 (dk_at dksX4_addAccount_2 17 rfl rfl)
theorem dX4_addAccount_63 : decode cX4_addAccount 63 = .ok (.iload_n 2, 1) := dk_28 (dk_at dksX4_addAccount_2 18 rfl rfl)
theorem dX4_addAccount_64 : decode cX4_addAccount 64 = .ok (.iload_n 3, 1) := dk_29 (dk_at dksX4_addAccount_2 19 rfl rfl)
theorem dX4_addAccount_65 : decode cX4_addAccount 65 = .ok (.invokevirtual 179, 3) := dk_182 0 179 (dk_at dksX4_addAccount_2 20 rfl rfl)
theorem dX4_addAccount_68 : decode cX4_addAccount 68 = .ok (.ireturn, 1) := dk_172 (dk_at dksX4_addAccount_2 23 rfl rfl)
theorem c_324_0 : LkP (OkP 324) [(0, o_aload 0 1), (1, o_push 1 (.int 0)), (2, o_put 155 1), (5, o_iload 1 1), (6, o_push 1 (.int 0)), (7, o_push 2 (.int 100000)), (9, o_cs 293 3 false none), (12, o_if (fun x => decide (x = 0)) 35), (15, o_iload 2 1), (16, o_push 1 (.int 0)), (17, o_push 2 (.int 50)), (19, o_cs 293 3 false none), (22, o_if (fun x => decide (x = 0)) 35), (25, o_iload 3 1), (26, o_push 1 (.int 0)), (27, o_push 2 (.int 50)), (29, o_cs 293 3 false none), (32, o_if (fun x => decide (¬ x = 0)) 41), (35, o_aload 0 1), (36, o_push 1 (.int 1)), (37, o_cv [(30, 291)] 1 3 false none), (40, o_ret 1), (41, o_aload 0 1), (42, o_get 148), (45, o_push 2 (.int 10)), (47, o_rdI 0), (48, o_push 2 (.int 8)), (50, o_icmp (fun x y => decide (¬ x = y)) 61), (53, o_aload 0 1), (54, o_push 1 (.int 2)), (55, o_cv [(30, 291)] 1 3 false none), (58, o_goto 68), (61, o_aload 0 1), (62, o_iload 1 1), (63, o_iload 2 1)] := lkp_c (P := OkP 324) ⟨(PuOK.ok (ok_aload_n dX4_addAccount_0 rfl)), m_aload⟩ (
  lkp_c (P := OkP 324) ⟨(PuOK.ok (ok_iconst dX4_addAccount_1 rfl)), m_push⟩ (
  lkp_c (P := OkP 324) ⟨ok_put ⟨"TollRoadModel", q3087, Or.inl rfl⟩ rfl fd_155 rfl dX4_addAccount_2, m_put⟩ (
  lkp_c (P := OkP 324) ⟨(PuOK.ok (ok_iload_n dX4_addAccount_5 rfl)), m_iload⟩ (
  lkp_c (P := OkP 324) ⟨(PuOK.ok (ok_iconst dX4_addAccount_6 rfl)), m_push⟩ (
  lkp_c (P := OkP 324) ⟨(PuOK.ok (ok_ldc q3308 dX4_addAccount_7)), m_push⟩ (
  lkp_c (P := OkP 324) ⟨ok_cs (tg_S ⟨rfl, by decide⟩ q3214 q3215 q139 q3216 ⟨cn_34.1, cn_34.2, pd_121⟩ dX4_addAccount_9) hd_no, m_cs⟩ (
  lkp_c (P := OkP 324) ⟨(PuOK.ok (ok_if_eq dX4_addAccount_12 rfl)), m_if⟩ (
  lkp_c (P := OkP 324) ⟨(PuOK.ok (ok_iload_n dX4_addAccount_15 rfl)), m_iload⟩ (
  lkp_c (P := OkP 324) ⟨(PuOK.ok (ok_iconst dX4_addAccount_16 rfl)), m_push⟩ (
  lkp_c (P := OkP 324) ⟨(PuOK.ok (ok_bipush dX4_addAccount_17 rfl)), m_push⟩ (
  lkp_c (P := OkP 324) ⟨ok_cs (tg_S ⟨rfl, by decide⟩ q3214 q3215 q139 q3216 ⟨cn_34.1, cn_34.2, pd_121⟩ dX4_addAccount_19) hd_no, m_cs⟩ (
  lkp_c (P := OkP 324) ⟨(PuOK.ok (ok_if_eq dX4_addAccount_22 rfl)), m_if⟩ (
  lkp_c (P := OkP 324) ⟨(PuOK.ok (ok_iload_n dX4_addAccount_25 rfl)), m_iload⟩ (
  lkp_c (P := OkP 324) ⟨(PuOK.ok (ok_iconst dX4_addAccount_26 rfl)), m_push⟩ (
  lkp_c (P := OkP 324) ⟨(PuOK.ok (ok_bipush dX4_addAccount_27 rfl)), m_push⟩ (
  lkp_c (P := OkP 324) ⟨ok_cs (tg_S ⟨rfl, by decide⟩ q3214 q3215 q139 q3216 ⟨cn_34.1, cn_34.2, pd_121⟩ dX4_addAccount_29) hd_no, m_cs⟩ (
  lkp_c (P := OkP 324) ⟨(PuOK.ok (ok_if_ne dX4_addAccount_32 rfl)), m_if⟩ (
  lkp_c (P := OkP 324) ⟨(PuOK.ok (ok_aload_n dX4_addAccount_35 rfl)), m_aload⟩ (
  lkp_c (P := OkP 324) ⟨(PuOK.ok (ok_iconst dX4_addAccount_36 rfl)), m_push⟩ (
  lkp_c (P := OkP 324) ⟨ok_cv (List.forall_mem_cons.mpr ⟨tg_V (ci := 30) (r := CLr 30) (y := 291) rfl ⟨rfl, by decide⟩ rfl q3206 q3208 qs42 q139 q3209 ⟨cn_34.1, cn_34.2, pd_48⟩ dX4_addAccount_37, (List.forall_mem_nil _)⟩) hd_no, m_cv⟩ (
  lkp_c (P := OkP 324) ⟨ok_iret rfl rfl (by decide) dX4_addAccount_40, m_ret⟩ (
  lkp_c (P := OkP 324) ⟨(PuOK.ok (ok_aload_n dX4_addAccount_41 rfl)), m_aload⟩ (
  lkp_c (P := OkP 324) ⟨ok_get ⟨"TollRoadModel", q3080, Or.inl rfl⟩ dX4_addAccount_42, m_get⟩ (
  lkp_c (P := OkP 324) ⟨(PuOK.ok (ok_bipush dX4_addAccount_45 rfl)), m_push⟩ (
  lkp_c (P := OkP 324) ⟨ok_iald dX4_addAccount_47, m_rdI⟩ (
  lkp_c (P := OkP 324) ⟨(PuOK.ok (ok_bipush dX4_addAccount_48 rfl)), m_push⟩ (
  lkp_c (P := OkP 324) ⟨(PuOK.ok (ok_icmp_ne dX4_addAccount_50 rfl)), m_icmp⟩ (
  lkp_c (P := OkP 324) ⟨(PuOK.ok (ok_aload_n dX4_addAccount_53 rfl)), m_aload⟩ (
  lkp_c (P := OkP 324) ⟨(PuOK.ok (ok_iconst dX4_addAccount_54 rfl)), m_push⟩ (
  lkp_c (P := OkP 324) ⟨ok_cv (List.forall_mem_cons.mpr ⟨tg_V (ci := 30) (r := CLr 30) (y := 291) rfl ⟨rfl, by decide⟩ rfl q3206 q3208 qs42 q139 q3209 ⟨cn_34.1, cn_34.2, pd_48⟩ dX4_addAccount_55, (List.forall_mem_nil _)⟩) hd_no, m_cv⟩ (
  lkp_c (P := OkP 324) ⟨(PuOK.ok (ok_goto dX4_addAccount_58 rfl)), m_goto⟩ (
  lkp_c (P := OkP 324) ⟨(PuOK.ok (ok_aload_n dX4_addAccount_61 rfl)), m_aload⟩ (
  lkp_c (P := OkP 324) ⟨(PuOK.ok (ok_iload_n dX4_addAccount_62 rfl)), m_iload⟩ (
  lkp_c (P := OkP 324) ⟨(PuOK.ok (ok_iload_n dX4_addAccount_63 rfl)), m_iload⟩ (
  trivial)))))))))))))))))))))))))))))))))))
theorem c_324_1 : LkP (OkP 324) [(64, o_iload 3 1), (65, o_cv [(30, 313)] 3 3 false none), (68, o_ret 1)] := lkp_c (P := OkP 324) ⟨(PuOK.ok (ok_iload_n dX4_addAccount_64 rfl)), m_iload⟩ (
  lkp_c (P := OkP 324) ⟨ok_cv (List.forall_mem_cons.mpr ⟨tg_V (ci := 30) (r := CLr 30) (y := 313) rfl ⟨rfl, by decide⟩ rfl q3309 q3311 qs58 q139 q3312 ⟨cn_34.1, cn_34.2, pd_25⟩ dX4_addAccount_65, (List.forall_mem_nil _)⟩) hd_no, m_cv⟩ (
  lkp_c (P := OkP 324) ⟨ok_iret rfl rfl (by decide) dX4_addAccount_68, m_ret⟩ (
  trivial)))
theorem mt_324 : MtOK TB NT IT 324 := ⟨by decide +kernel, rfl, (fun h => by cases h), Or.inl ⟨rfl, rfl⟩, rfl, by decide, lk2_all (P := OkP 324) ⟨c_324_0, c_324_1, trivial⟩⟩
def dkwX4_addVehicle_2 : List UInt8 := [160, 0, 11, 42, 6, 182, 0, 87, 167, 0, 9, 42, 27, 28, 182, 0, 188, 172]
abbrev dktX4_addVehicle_2 : List UInt8 := dkwX4_addVehicle_2 ++ []
def dkwX4_addVehicle_1 : List UInt8 := [27, 4, 7, 184, 0, 91, 154, 0, 9, 42, 5, 182, 0, 87, 172, 42, 180, 0, 7, 16, 11, 46, 16, 15]
abbrev dktX4_addVehicle_1 : List UInt8 := dkwX4_addVehicle_1 ++ dktX4_addVehicle_2
def dkwX4_addVehicle_0 : List UInt8 := [42, 3, 181, 0, 81, 28, 2, 159, 0, 17, 42, 28, 182, 0, 228, 154, 0, 9, 42, 4, 182, 0, 87, 172]
abbrev dktX4_addVehicle_0 : List UInt8 := dkwX4_addVehicle_0 ++ dktX4_addVehicle_1
theorem dksX4_addVehicle_0 : cX4_addVehicle.data.toList.drop 0 = dktX4_addVehicle_0 := by decide +kernel
theorem dksX4_addVehicle_1 : cX4_addVehicle.data.toList.drop 24 = dktX4_addVehicle_1 := dk_seg dksX4_addVehicle_0 24 rfl rfl
theorem dksX4_addVehicle_2 : cX4_addVehicle.data.toList.drop 48 = dktX4_addVehicle_2 := dk_seg dksX4_addVehicle_1 24 rfl rfl
theorem dX4_addVehicle_0 : decode cX4_addVehicle 0 = .ok (.aload_n 0, 1) := dk_42 (dk_at dksX4_addVehicle_0 0 rfl rfl)
theorem dX4_addVehicle_1 : decode cX4_addVehicle 1 = .ok (.iconst 0, 1) := dk_3 (dk_at dksX4_addVehicle_0 1 rfl rfl)
theorem dX4_addVehicle_2 : decode cX4_addVehicle 2 = .ok (.putfield 81, 3) := dk_181 0 81 (dk_at dksX4_addVehicle_0 2 rfl rfl)
theorem dX4_addVehicle_5 : decode cX4_addVehicle 5 = .ok (.iload_n 2, 1) := dk_28 (dk_at dksX4_addVehicle_0 5 rfl rfl)
theorem dX4_addVehicle_6 : decode cX4_addVehicle 6 = .ok (.iconst (-1), 1) := dk_2 (dk_at dksX4_addVehicle_0 6 rfl rfl)
theorem dX4_addVehicle_7 : decode cX4_addVehicle 7 = .ok (.if_icmp .eq 17, 3) := dk_159 0 17 (dk_at dksX4_addVehicle_0 7 rfl rfl)
theorem dX4_addVehicle_10 : decode cX4_addVehicle 10 = .ok (.aload_n 0, 1) := dk_42 (dk_at dksX4_addVehicle_0 10 rfl rfl)
theorem dX4_addVehicle_11 : decode cX4_addVehicle 11 = .ok (.iload_n 2, 1) := dk_28 (dk_at dksX4_addVehicle_0 11 rfl rfl)
theorem dX4_addVehicle_12 : decode cX4_addVehicle 12 = .ok (.invokevirtual 228, 3) := dk_182 0 228 (dk_at dksX4_addVehicle_0 12 rfl rfl)
theorem dX4_addVehicle_15 : decode cX4_addVehicle 15 = .ok (.ifCond .ne 9, 3) := dk_154 0 9 (dk_at dksX4_addVehicle_0 15 rfl rfl)
theorem dX4_addVehicle_18 : decode cX4_addVehicle 18 = .ok (.aload_n 0, 1) := dk_42 (dk_at dksX4_addVehicle_0 18 rfl rfl)
theorem dX4_addVehicle_19 : decode cX4_addVehicle 19 = .ok (.iconst 1, 1) := dk_4 (dk_at dksX4_addVehicle_0 19 rfl rfl)
theorem dX4_addVehicle_20 : decode cX4_addVehicle 20 = .ok (.invokevirtual 87, 3) := dk_182 0 87 (dk_at dksX4_addVehicle_0 20 rfl rfl)
theorem dX4_addVehicle_23 : decode cX4_addVehicle 23 = .ok (.ireturn, 1) := dk_172 (dk_at dksX4_addVehicle_0 23 rfl rfl)
theorem dX4_addVehicle_24 : decode cX4_addVehicle 24 = .ok (.iload_n 1, 1) := dk_27 (dk_at dksX4_addVehicle_1 0 rfl rfl)
theorem dX4_addVehicle_25 : decode cX4_addVehicle 25 = .ok (.iconst 1, 1) := dk_4 (dk_at dksX4_addVehicle_1 1 rfl rfl)
theorem dX4_addVehicle_26 : decode cX4_addVehicle 26 = .ok (.iconst 4, 1) := dk_7 (dk_at dksX4_addVehicle_1 2 rfl rfl)
theorem dX4_addVehicle_27 : decode cX4_addVehicle 27 = .ok (.invokestatic 91, 3) := dk_184 0 91 (dk_at dksX4_addVehicle_1 3 rfl rfl)
theorem dX4_addVehicle_30 : decode cX4_addVehicle 30 = .ok (.ifCond .ne 9, 3) := dk_154 0 9 (dk_at dksX4_addVehicle_1 6 rfl rfl)
theorem dX4_addVehicle_33 : decode cX4_addVehicle 33 = .ok (.aload_n 0, 1) := dk_42 (dk_at dksX4_addVehicle_1 9 rfl rfl)
theorem dX4_addVehicle_34 : decode cX4_addVehicle 34 = .ok (.iconst 2, 1) := dk_5 (dk_at dksX4_addVehicle_1 10 rfl rfl)
theorem dX4_addVehicle_35 : decode cX4_addVehicle 35 = .ok (.invokevirtual 87, 3) := dk_182 0 87 (dk_at dksX4_addVehicle_1 11 rfl rfl)
theorem dX4_addVehicle_38 : decode cX4_addVehicle 38 = .ok (.ireturn, 1) := dk_172 (dk_at dksX4_addVehicle_1 14 rfl rfl)
theorem dX4_addVehicle_39 : decode cX4_addVehicle 39 = .ok (.aload_n 0, 1) := dk_42 (dk_at dksX4_addVehicle_1 15 rfl rfl)
theorem dX4_addVehicle_40 : decode cX4_addVehicle 40 = .ok (.getfield 7, 3) := dk_180 0 7 (dk_at dksX4_addVehicle_1 16 rfl rfl)
theorem dX4_addVehicle_43 : decode cX4_addVehicle 43 = .ok (.bipush 11, 2) := dk_16 11 (dk_at dksX4_addVehicle_1 19 rfl rfl)
theorem dX4_addVehicle_45 : decode cX4_addVehicle 45 = .ok (.iaload, 1) := dk_46 (dk_at dksX4_addVehicle_1 21 rfl rfl)
theorem dX4_addVehicle_46 : decode cX4_addVehicle 46 = .ok (.bipush 15, 2) := dk_16 15 (dk_at dksX4_addVehicle_1 22 rfl rfl)
theorem dX4_addVehicle_48 : decode cX4_addVehicle 48 = .ok (.if_icmp .ne 11, 3) := dk_160 0 11 (dk_at dksX4_addVehicle_2 0 rfl rfl)
theorem dX4_addVehicle_51 : decode cX4_addVehicle 51 = .ok (.aload_n 0, 1) := dk_42 (dk_at dksX4_addVehicle_2 3 rfl rfl)
theorem dX4_addVehicle_52 : decode cX4_addVehicle 52 = .ok (.iconst 3, 1) := dk_6 (dk_at dksX4_addVehicle_2 4 rfl rfl)
theorem dX4_addVehicle_53 : decode cX4_addVehicle 53 = .ok (.invokevirtual 87, 3) := dk_182 0 87 (dk_at dksX4_addVehicle_2 5 rfl rfl)
theorem dX4_addVehicle_56 : decode cX4_addVehicle 56 = .ok (.goto 9, 3) := dk_167 0 9 (dk_at dksX4_addVehicle_2 8 rfl rfl)
theorem dX4_addVehicle_59 : decode cX4_addVehicle 59 = .ok (.aload_n 0, 1) := dk_42 (dk_at dksX4_addVehicle_2 11 rfl rfl)
theorem dX4_addVehicle_60 : decode cX4_addVehicle 60 = .ok (.iload_n 1, 1) := dk_27 (dk_at dksX4_addVehicle_2 12 rfl rfl)
theorem dX4_addVehicle_61 : decode cX4_addVehicle 61 = .ok (.iload_n 2, 1) := dk_28 (dk_at dksX4_addVehicle_2 13 rfl rfl)
theorem dX4_addVehicle_62 : decode cX4_addVehicle 62 = .ok (.invokevirtual 188, 3) := dk_182 0 188 (dk_at dksX4_addVehicle_2 14 rfl rfl)
theorem dX4_addVehicle_65 : decode cX4_addVehicle 65 = .ok (.ireturn, 1) := dk_172 (dk_at dksX4_addVehicle_2 17 rfl rfl)
theorem c_325_0 : LkP (OkP 325) [(0, o_aload 0 1), (1, o_push 1 (.int 0)), (2, o_put 155 1), (5, o_iload 2 1), (6, o_push 1 (.int (-1))), (7, o_icmp (fun x y => decide (x = y)) 24), (10, o_aload 0 1), (11, o_iload 2 1), (12, o_cv [(30, 326)] 1 3 false none), (15, o_if (fun x => decide (¬ x = 0)) 24), (18, o_aload 0 1), (19, o_push 1 (.int 1)), (20, o_cv [(30, 291)] 1 3 false none), (23, o_ret 1), (24, o_iload 1 1), (25, o_push 1 (.int 1)), (26, o_push 1 (.int 4)), (27, o_cs 293 3 false none), (30, o_if (fun x => decide (¬ x = 0)) 39), (33, o_aload 0 1), (34, o_push 1 (.int 2)), (35, o_cv [(30, 291)] 1 3 false none), (38, o_ret 1), (39, o_aload 0 1), (40, o_get 148), (43, o_push 2 (.int 11)), (45, o_rdI 0), (46, o_push 2 (.int 15)), (48, o_icmp (fun x y => decide (¬ x = y)) 59), (51, o_aload 0 1), (52, o_push 1 (.int 3)), (53, o_cv [(30, 291)] 1 3 false none), (56, o_goto 65), (59, o_aload 0 1), (60, o_iload 1 1), (61, o_iload 2 1), (62, o_cv [(30, 317)] 2 3 false none)] := lkp_c (P := OkP 325) ⟨(PuOK.ok (ok_aload_n dX4_addVehicle_0 rfl)), m_aload⟩ (
  lkp_c (P := OkP 325) ⟨(PuOK.ok (ok_iconst dX4_addVehicle_1 rfl)), m_push⟩ (
  lkp_c (P := OkP 325) ⟨ok_put ⟨"TollRoadModel", q3087, Or.inl rfl⟩ rfl fd_155 rfl dX4_addVehicle_2, m_put⟩ (
  lkp_c (P := OkP 325) ⟨(PuOK.ok (ok_iload_n dX4_addVehicle_5 rfl)), m_iload⟩ (
  lkp_c (P := OkP 325) ⟨(PuOK.ok (ok_iconst dX4_addVehicle_6 rfl)), m_push⟩ (
  lkp_c (P := OkP 325) ⟨(PuOK.ok (ok_icmp_eq dX4_addVehicle_7 rfl)), m_icmp⟩ (
  lkp_c (P := OkP 325) ⟨(PuOK.ok (ok_aload_n dX4_addVehicle_10 rfl)), m_aload⟩ (
  lkp_c (P := OkP 325) ⟨(PuOK.ok (ok_iload_n dX4_addVehicle_11 rfl)), m_iload⟩ (
  lkp_c (P := OkP 325) ⟨ok_cv (List.forall_mem_cons.mpr ⟨tg_V (ci := 30) (r := CLr 30) (y := 326) rfl ⟨rfl, by decide⟩ rfl q3363 q3365 qs65 q139 q3366 ⟨cn_34.1, cn_34.2, pd_77⟩ dX4_addVehicle_12, (List.forall_mem_nil _)⟩) hd_no, m_cv⟩ (
  lkp_c (P := OkP 325) ⟨(PuOK.ok (ok_if_ne dX4_addVehicle_15 rfl)), m_if⟩ (
  lkp_c (P := OkP 325) ⟨(PuOK.ok (ok_aload_n dX4_addVehicle_18 rfl)), m_aload⟩ (
  lkp_c (P := OkP 325) ⟨(PuOK.ok (ok_iconst dX4_addVehicle_19 rfl)), m_push⟩ (
  lkp_c (P := OkP 325) ⟨ok_cv (List.forall_mem_cons.mpr ⟨tg_V (ci := 30) (r := CLr 30) (y := 291) rfl ⟨rfl, by decide⟩ rfl q3206 q3208 qs42 q139 q3209 ⟨cn_34.1, cn_34.2, pd_48⟩ dX4_addVehicle_20, (List.forall_mem_nil _)⟩) hd_no, m_cv⟩ (
  lkp_c (P := OkP 325) ⟨ok_iret rfl rfl (by decide) dX4_addVehicle_23, m_ret⟩ (
  lkp_c (P := OkP 325) ⟨(PuOK.ok (ok_iload_n dX4_addVehicle_24 rfl)), m_iload⟩ (
  lkp_c (P := OkP 325) ⟨(PuOK.ok (ok_iconst dX4_addVehicle_25 rfl)), m_push⟩ (
  lkp_c (P := OkP 325) ⟨(PuOK.ok (ok_iconst dX4_addVehicle_26 rfl)), m_push⟩ (
  lkp_c (P := OkP 325) ⟨ok_cs (tg_S ⟨rfl, by decide⟩ q3214 q3215 q139 q3216 ⟨cn_34.1, cn_34.2, pd_121⟩ dX4_addVehicle_27) hd_no, m_cs⟩ (
  lkp_c (P := OkP 325) ⟨(PuOK.ok (ok_if_ne dX4_addVehicle_30 rfl)), m_if⟩ (
  lkp_c (P := OkP 325) ⟨(PuOK.ok (ok_aload_n dX4_addVehicle_33 rfl)), m_aload⟩ (
  lkp_c (P := OkP 325) ⟨(PuOK.ok (ok_iconst dX4_addVehicle_34 rfl)), m_push⟩ (
  lkp_c (P := OkP 325) ⟨ok_cv (List.forall_mem_cons.mpr ⟨tg_V (ci := 30) (r := CLr 30) (y := 291) rfl ⟨rfl, by decide⟩ rfl q3206 q3208 qs42 q139 q3209 ⟨cn_34.1, cn_34.2, pd_48⟩ dX4_addVehicle_35, (List.forall_mem_nil _)⟩) hd_no, m_cv⟩ (
  lkp_c (P := OkP 325) ⟨ok_iret rfl rfl (by decide) dX4_addVehicle_38, m_ret⟩ (
  lkp_c (P := OkP 325) ⟨(PuOK.ok (ok_aload_n dX4_addVehicle_39 rfl)), m_aload⟩ (
  lkp_c (P := OkP 325) ⟨ok_get ⟨"TollRoadModel", q3080, Or.inl rfl⟩ dX4_addVehicle_40, m_get⟩ (
  lkp_c (P := OkP 325) ⟨(PuOK.ok (ok_bipush dX4_addVehicle_43 rfl)), m_push⟩ (
  lkp_c (P := OkP 325) ⟨ok_iald dX4_addVehicle_45, m_rdI⟩ (
  lkp_c (P := OkP 325) ⟨(PuOK.ok (ok_bipush dX4_addVehicle_46 rfl)), m_push⟩ (
  lkp_c (P := OkP 325) ⟨(PuOK.ok (ok_icmp_ne dX4_addVehicle_48 rfl)), m_icmp⟩ (
  lkp_c (P := OkP 325) ⟨(PuOK.ok (ok_aload_n dX4_addVehicle_51 rfl)), m_aload⟩ (
  lkp_c (P := OkP 325) ⟨(PuOK.ok (ok_iconst dX4_addVehicle_52 rfl)), m_push⟩ (
  lkp_c (P := OkP 325) ⟨ok_cv (List.forall_mem_cons.mpr ⟨tg_V (ci := 30) (r := CLr 30) (y := 291) rfl ⟨rfl, by decide⟩ rfl q3206 q3208 qs42 q139 q3209 ⟨cn_34.1, cn_34.2, pd_48⟩ dX4_addVehicle_53, (List.forall_mem_nil _)⟩) hd_no, m_cv⟩ (
  lkp_c (P := OkP 325) ⟨(PuOK.ok (ok_goto dX4_addVehicle_56 rfl)), m_goto⟩ (
  lkp_c (P := OkP 325) ⟨(PuOK.ok (ok_aload_n dX4_addVehicle_59 rfl)), m_aload⟩ (
  lkp_c (P := OkP 325) ⟨(PuOK.ok (ok_iload_n dX4_addVehicle_60 rfl)), m_iload⟩ (
  lkp_c (P := OkP 325) ⟨(PuOK.ok (ok_iload_n dX4_addVehicle_61 rfl)), m_iload⟩ (
  lkp_c (P := OkP 325) ⟨ok_cv (List.forall_mem_cons.mpr ⟨tg_V (ci := 30) (r := CLr 30) (y := 317) rfl ⟨rfl, by decide⟩ rfl q3326 q3328 qs62 q139 q3329 ⟨cn_34.1, cn_34.2, pd_1⟩ dX4_addVehicle_62, (List.forall_mem_nil _)⟩) hd_no, m_cv⟩ (
  trivial)))))))))))))))))))))))))))))))))))))
theorem c_325_1 : LkP (OkP 325) [(65, o_ret 1)] := lkp_c (P := OkP 325) ⟨ok_iret rfl rfl (by decide) dX4_addVehicle_65, m_ret⟩ (
  trivial)
theorem mt_325 : MtOK TB NT IT 325 := ⟨by decide +kernel, rfl, (fun h => by cases h), Or.inl ⟨rfl, rfl⟩, rfl, by decide, lk2_all (P := OkP 325) ⟨c_325_0, c_325_1, trivial⟩⟩
def dkwX4_isAccount_0 : List UInt8 := [27, 3, 42, 180, 0, 7, 16, 10, 46, 4, 100, 184, 0, 91, 172]
abbrev dktX4_isAccount_0 : List UInt8 := dkwX4_isAccount_0 ++ []
theorem dksX4_isAccount_0 : cX4_isAccount.data.toList.drop 0 = dktX4_isAccount_0 := by decide +kernel
theorem dX4_isAccount_0 : decode cX4_isAccount 0 = .ok (.iload_n 1, 1) := dk_27 (dk_at dksX4_isAccount_0 0 rfl rfl)
theorem dX4_isAccount_1 : decode cX4_isAccount 1 = .ok (.iconst 0, 1) := dk_3 (dk_at dksX4_isAccount_0 1 rfl rfl)
theorem dX4_isAccount_2 : decode cX4_isAccount 2 = .ok (.aload_n 0, 1) := dk_42 (dk_at dksX4_isAccount_0 2 rfl rfl)
theorem dX4_isAccount_3 : decode cX4_isAccount 3 = .ok (.getfield 7, 3) := dk_180 0 7 (dk_at dksX4_isAccount_0 3 rfl rfl)
theorem dX4_isAccount_6 : decode cX4_isAccount 6 = .ok (.bipush 10, 2) := dk_16 10 (dk_at dksX4_isAccount_0 6 rfl rfl)
theorem dX4_isAccount_8 : decode cX4_isAccount 8 = .ok (.iaload, 1) := dk_46 (dk_at dksX4_isAccount_0 8 rfl rfl)
theorem dX4_isAccount_9 : decode cX4_isAccount 9 = .ok (.iconst 1, 1) := dk_4 (dk_at dksX4_isAccount_0 9 rfl rfl)
theorem dX4_isAccount_10 : decode cX4_isAccount 10 = .ok (.isub, 1) := dk_100 (dk_at dksX4_isAccount_0 10 rfl rfl)
theorem dX4_isAccount_11 : decode cX4_isAccount 11 = .ok (.invokestatic 91, 3) := dk_184 0 91 (dk_at dksX4_isAccount_0 11 rfl rfl)
theorem dX4_isAccount_14 : decode cX4_isAccount 14 = .ok (.ireturn, 1) := dk_172 (dk_at dksX4_isAccount_0 14 rfl rfl)
theorem c_326_0 : LkP (OkP 326) [(0, o_iload 1 1), (1, o_push 1 (.int 0)), (2, o_aload 0 1), (3, o_get 148), (6, o_push 2 (.int 10)), (8, o_rdI 0), (9, o_push 1 (.int 1)), (10, o_iop (fun x y => x - y)), (11, o_cs 293 3 false none), (14, o_ret 5)] := lkp_c (P := OkP 326) ⟨(PuOK.ok (ok_iload_n dX4_isAccount_0 rfl)), m_iload⟩ (
  lkp_c (P := OkP 326) ⟨(PuOK.ok (ok_iconst dX4_isAccount_1 rfl)), m_push⟩ (
  lkp_c (P := OkP 326) ⟨(PuOK.ok (ok_aload_n dX4_isAccount_2 rfl)), m_aload⟩ (
  lkp_c (P := OkP 326) ⟨ok_get ⟨"TollRoadModel", q3080, Or.inl rfl⟩ dX4_isAccount_3, m_get⟩ (
  lkp_c (P := OkP 326) ⟨(PuOK.ok (ok_bipush dX4_isAccount_6 rfl)), m_push⟩ (
  lkp_c (P := OkP 326) ⟨ok_iald dX4_isAccount_8, m_rdI⟩ (
  lkp_c (P := OkP 326) ⟨(PuOK.ok (ok_iconst dX4_isAccount_9 rfl)), m_push⟩ (
  lkp_c (P := OkP 326) ⟨(PuOK.ok (ok_isub dX4_isAccount_10)), m_iop⟩ (
  lkp_c (P := OkP 326) ⟨ok_cs (tg_S ⟨rfl, by decide⟩ q3214 q3215 q139 q3216 ⟨cn_34.1, cn_34.2, pd_121⟩ dX4_isAccount_11) hd_no, m_cs⟩ (
  lkp_c (P := OkP 326) ⟨ok_iret rfl rfl (by decide) dX4_isAccount_14, m_ret⟩ (
  trivial))))))))))
theorem mt_326 : MtOK TB NT IT 326 := ⟨by decide +kernel, rfl, (fun h => by cases h), Or.inl ⟨rfl, rfl⟩, rfl, by decide, lk2_all (P := OkP 326) ⟨c_326_0, trivial⟩⟩
def dkwX4_set_2 : List UInt8 := [180, 0, 7, 3, 27, 96, 28, 79, 29, 172]
abbrev dktX4_set_2 : List UInt8 := dkwX4_set_2 ++ []
def dkwX4_set_1 : List UInt8 := [180, 0, 29, 27, 46, 184, 0, 91, 154, 0, 9, 42, 4, 182, 0, 87, 172, 42, 27, 182, 0, 231, 62, 42]
abbrev dktX4_set_1 : List UInt8 := dkwX4_set_1 ++ dktX4_set_2
def dkwX4_set_0 : List UInt8 := [42, 3, 181, 0, 81, 27, 3, 16, 7, 184, 0, 91, 153, 0, 22, 28, 42, 180, 0, 26, 27, 46, 42]
abbrev dktX4_set_0 : List UInt8 := dkwX4_set_0 ++ dktX4_set_1
theorem dksX4_set_0 : cX4_set.data.toList.drop 0 = dktX4_set_0 := by decide +kernel
theorem dksX4_set_1 : cX4_set.data.toList.drop 23 = dktX4_set_1 := dk_seg dksX4_set_0 23 rfl rfl
theorem dksX4_set_2 : cX4_set.data.toList.drop 47 = dktX4_set_2 := dk_seg dksX4_set_1 24 rfl rfl
theorem dX4_set_0 : decode cX4_set 0 = .ok (.aload_n 0, 1) := dk_42 (dk_at dksX4_set_0 0 rfl rfl)
theorem dX4_set_1 : decode cX4_set 1 = .ok (.iconst 0, 1) := dk_3 (dk_at dksX4_set_0 1 rfl rfl)
theorem dX4_set_2 : decode cX4_set 2 = .ok (.putfield 81, 3) := dk_181 0 81 (dk_at dksX4_set_0 2 rfl rfl)
theorem dX4_set_5 : decode cX4_set 5 = .ok (.iload_n 1, 1) := dk_27 (dk_at dksX4_set_0 5 rfl rfl)
theorem dX4_set_6 : decode cX4_set 6 = .ok (.iconst 0, 1) := dk_3 (dk_at dksX4_set_0 6 rfl rfl)
theorem dX4_set_7 : decode cX4_set 7 = .ok (.bipush 7, 2) := dk_16 7 (dk_at dksX4_set_0 7 rfl rfl)
theorem dX4_set_9 : decode cX4_set 9 = .ok (.invokestatic 91, 3) := dk_184 0 91 (dk_at dksX4_set_0 9 rfl rfl)
theorem dX4_set_12 : decode cX4_set 12 = .ok (.ifCond .eq 22, 3) := dk_153 0 22 (dk_at dksX4_set_0 12 rfl rfl)
theorem dX4_set_15 : decode cX4_set 15 = .ok (.iload_n 2, 1) := dk_28 (dk_at dksX4_set_0 15 rfl rfl)
theorem dX4_set_16 : decode cX4_set 16 = .ok (.aload_n 0, 1) := dk_42 (dk_at dksX4_set_0 16 rfl rfl)
theorem dX4_set_17 : decode cX4_set 17 = .ok (.getfield 26, 3) := dk_180 0 26 (dk_at dksX4_set_0 17 rfl rfl)
theorem dX4_set_20 : decode cX4_set 20 = .ok (.iload_n 1, 1) := dk_27 (dk_at dksX4_set_0 20 rfl rfl)
theorem dX4_set_21 : decode cX4_set 21 = .ok (.iaload, 1) := dk_46 (dk_at dksX4_set_0 21 rfl rfl)
theorem dX4_set_22 : decode cX4_set 22 = .ok (.aload_n 0, 1) := dk_42 (dk_at dksX4_set_0 22 rfl rfl)
theorem dX4_set_23 : decode cX4_set 23 = .ok (.getfield 29, 3) := dk_180 0 29 (dk_at dksX4_set_1 0 rfl rfl)
theorem dX4_set_26 : decode cX4_set 26 = .ok (.iload_n 1, 1) := dk_27 (dk_at dksX4_set_1 3 rfl rfl)
theorem dX4_set_27 : decode cX4_set 27 = .ok (.iaload, 1) := dk_46 (dk_at dksX4_set_1 4 rfl rfl)
theorem dX4_set_28 : decode cX4_set 28 = .ok (.invokestatic 91, 3) := dk_184 0 91 (dk_at dksX4_set_1 5 rfl rfl)
theorem dX4_set_31 : decode cX4_set 31 = .ok (.ifCond .ne 9, 3) := dk_154 0 9 (dk_at dksX4_set_1 8 rfl rfl)
theorem dX4_set_34 : decode cX4_set 34 = .ok (.aload_n 0, 1) := dk_42 (dk_at dksX4_set_1 11 rfl rfl)
theorem dX4_set_35 : decode cX4_set 35 = .ok (.iconst 1, 1) := dk_4 (dk_at dksX4_set_1 12 rfl rfl)
theorem dX4_set_36 : decode cX4_set 36 = .ok (.invokevirtual 87, 3) := dk_182 0 87 (dk_at dksX4_set_1 13 rfl rfl)
theorem dX4_set_39 : decode cX4_set 39 = .ok (.ireturn, 1) := dk_172 (dk_at dksX4_set_1 16 rfl rfl)
theorem dX4_set_40 : decode cX4_set 40 = .ok (.aload_n 0, 1) := dk_42 (dk_at dksX4_set_1 17 rfl rfl)
theorem dX4_set_41 : decode cX4_set 41 = .ok (.iload_n 1, 1) := dk_27 (dk_at dksX4_set_1 18 rfl rfl)
theorem dX4_set_42 : decode cX4_set 42 = .ok (.invokevirtual 231, 3) := dk_182 0 231 (dk_at dksX4_set_1 19 rfl rfl)
theorem dX4_set_45 : decode cX4_set 45 = .ok (.istore_n 3, 1) := dk_62 (dk_at dksX4_set_1 22 rfl rfl)
theorem dX4_set_46 : decode cX4_set 46 = .ok (.aload_n 0, 1) := dk_42 (dk_at dksX4_set_1 23 rfl rfl)
theorem dX4_set_47 : decode cX4_set 47 = .ok (.getfield 7, 3) := dk_180 0 7 (dk_at dksX4_set_2 0 rfl rfl)
theorem dX4_set_50 : decode cX4_set 50 = .ok (.iconst 0, 1) := dk_3 (dk_at dksX4_set_2 3 rfl rfl)
theorem dX4_set_51 : decode cX4_set 51 = .ok (.iload_n 1, 1) := dk_27 (dk_at dksX4_set_2 4 rfl rfl)
theorem dX4_set_52 : decode cX4_set 52 = .ok (.iadd, 1) := dk_96 (dk_at dksX4_set_2 5 rfl rfl)
theorem dX4_set_53 : decode cX4_set 53 = .ok (.iload_n 2, 1) := dk_28 (dk_at dksX4_set_2 6 rfl rfl)
theorem dX4_set_54 : decode cX4_set 54 = .ok (.iastore, 1) := dk_79 (dk_at dksX4_set_2 7 rfl rfl)
theorem dX4_set_55 : decode cX4_set 55 = .ok (.iload_n 3, 1) := dk_29 (dk_at dksX4_set_2 8 rfl rfl)
theorem dX4_set_56 : decode cX4_set 56 = .ok (.ireturn, 1) := dk_172 (dk_at dksX4_set_2 9 rfl rfl)
theorem c_327_0 : LkP (OkP 327) [(0, o_aload 0 1), (1, o_push 1 (.int 0)), (2, o_put 155 1), (5, o_iload 1 1), (6, o_push 1 (.int 0)), (7, o_push 2 (.int 7)), (9, o_cs 293 3 false none), (12, o_if (fun x => decide (x = 0)) 34), (15, o_iload 2 1), (16, o_aload 0 1), (17, o_get 153), (20, o_iload 1 1), (21, o_rdI 0), (22, o_aload 0 1), (23, o_get 154), (26, o_iload 1 1), (27, o_rdI 0), (28, o_cs 293 3 false none), (31, o_if (fun x => decide (¬ x = 0)) 40), (34, o_aload 0 1), (35, o_push 1 (.int 1)), (36, o_cv [(30, 291)] 1 3 false none), (39, o_ret 1), (40, o_aload 0 1), (41, o_iload 1 1), (42, o_cv [(30, 328)] 1 3 false none), (45, o_istore 3 1), (46, o_aload 0 1), (47, o_get 148), (50, o_push 1 (.int 0)), (51, o_iload 1 1), (52, o_iop (fun x y => x + y)), (53, o_iload 2 1), (54, o_wrI 0), (55, o_iload 3 1), (56, o_ret 1)] := lkp_c (P := OkP 327) ⟨(PuOK.ok (ok_aload_n dX4_set_0 rfl)), m_aload⟩ (
  lkp_c (P := OkP 327) ⟨(PuOK.ok (ok_iconst dX4_set_1 rfl)), m_push⟩ (
  lkp_c (P := OkP 327) ⟨ok_put ⟨"TollRoadModel", q3087, Or.inl rfl⟩ rfl fd_155 rfl dX4_set_2, m_put⟩ (
  lkp_c (P := OkP 327) ⟨(PuOK.ok (ok_iload_n dX4_set_5 rfl)), m_iload⟩ (
  lkp_c (P := OkP 327) ⟨(PuOK.ok (ok_iconst dX4_set_6 rfl)), m_push⟩ (
  lkp_c (P := OkP 327) ⟨(PuOK.ok (ok_bipush dX4_set_7 rfl)), m_push⟩ (
  lkp_c (P := OkP 327) ⟨ok_cs (tg_S ⟨rfl, by decide⟩ q3214 q3215 q139 q3216 ⟨cn_34.1, cn_34.2, pd_121⟩ dX4_set_9) hd_no, m_cs⟩ (
  lkp_c (P := OkP 327) ⟨(PuOK.ok (ok_if_eq dX4_set_12 rfl)), m_if⟩ (
  lkp_c (P := OkP 327) ⟨(PuOK.ok (ok_iload_n dX4_set_15 rfl)), m_iload⟩ (
  lkp_c (P := OkP 327) ⟨(PuOK.ok (ok_aload_n dX4_set_16 rfl)), m_aload⟩ (
  lkp_c (P := OkP 327) ⟨ok_get ⟨"TollRoadModel", q3085, Or.inl rfl⟩ dX4_set_17, m_get⟩ (
  lkp_c (P := OkP 327) ⟨(PuOK.ok (ok_iload_n dX4_set_20 rfl)), m_iload⟩ (
  lkp_c (P := OkP 327) ⟨ok_iald dX4_set_21, m_rdI⟩ (
  lkp_c (P := OkP 327) ⟨(PuOK.ok (ok_aload_n dX4_set_22 rfl)), m_aload⟩ (
  lkp_c (P := OkP 327) ⟨ok_get ⟨"TollRoadModel", q3086, Or.inl rfl⟩ dX4_set_23, m_get⟩ (
  lkp_c (P := OkP 327) ⟨(PuOK.ok (ok_iload_n dX4_set_26 rfl)), m_iload⟩ (
  lkp_c (P := OkP 327) ⟨ok_iald dX4_set_27, m_rdI⟩ (
  lkp_c (P := OkP 327) ⟨ok_cs (tg_S ⟨rfl, by decide⟩ q3214 q3215 q139 q3216 ⟨cn_34.1, cn_34.2, pd_121⟩ dX4_set_28) hd_no, m_cs⟩ (
  lkp_c (P := OkP 327) ⟨(PuOK.ok (ok_if_ne dX4_set_31 rfl)), m_if⟩ (
  lkp_c (P := OkP 327) ⟨(PuOK.ok (ok_aload_n dX4_set_34 rfl)), m_aload⟩ (
  lkp_c (P := OkP 327) ⟨(PuOK.ok (ok_iconst dX4_set_35 rfl)), m_push⟩ (
  lkp_c (P := OkP 327) ⟨ok_cv (List.forall_mem_cons.mpr ⟨tg_V (ci := 30) (r := CLr 30) (y := 291) rfl ⟨rfl, by decide⟩ rfl q3206 q3208 qs42 q139 q3209 ⟨cn_34.1, cn_34.2, pd_48⟩ dX4_set_36, (List.forall_mem_nil _)⟩) hd_no, m_cv⟩ (
  lkp_c (P := OkP 327) ⟨ok_iret rfl rfl (by decide) dX4_set_39, m_ret⟩ (
  lkp_c (P := OkP 327) ⟨(PuOK.ok (ok_aload_n dX4_set_40 rfl)), m_aload⟩ (
  lkp_c (P := OkP 327) ⟨(PuOK.ok (ok_iload_n dX4_set_41 rfl)), m_iload⟩ (
  lkp_c (P := OkP 327) ⟨ok_cv (List.forall_mem_cons.mpr ⟨tg_V (ci := 30) (r := CLr 30) (y := 328) rfl ⟨rfl, by decide⟩ rfl q3371 q3373 qs66 q139 q3374 ⟨cn_34.1, cn_34.2, pd_48⟩ dX4_set_42, (List.forall_mem_nil _)⟩) hd_no, m_cv⟩ (
  lkp_c (P := OkP 327) ⟨(PuOK.ok (ok_istore_n dX4_set_45 rfl)), m_istore⟩ (
  lkp_c (P := OkP 327) ⟨(PuOK.ok (ok_aload_n dX4_set_46 rfl)), m_aload⟩ (
  lkp_c (P := OkP 327) ⟨ok_get ⟨"TollRoadModel", q3080, Or.inl rfl⟩ dX4_set_47, m_get⟩ (
  lkp_c (P := OkP 327) ⟨(PuOK.ok (ok_iconst dX4_set_50 rfl)), m_push⟩ (
  lkp_c (P := OkP 327) ⟨(PuOK.ok (ok_iload_n dX4_set_51 rfl)), m_iload⟩ (
  lkp_c (P := OkP 327) ⟨(PuOK.ok (ok_iadd dX4_set_52)), m_iop⟩ (
  lkp_c (P := OkP 327) ⟨(PuOK.ok (ok_iload_n dX4_set_53 rfl)), m_iload⟩ (
  lkp_c (P := OkP 327) ⟨ok_iast dX4_set_54, m_wrI⟩ (
  lkp_c (P := OkP 327) ⟨(PuOK.ok (ok_iload_n dX4_set_55 rfl)), m_iload⟩ (
  lkp_c (P := OkP 327) ⟨ok_iret rfl rfl (by decide) dX4_set_56, m_ret⟩ (
  trivial))))))))))))))))))))))))))))))))))))
theorem mt_327 : MtOK TB NT IT 327 := ⟨by decide +kernel, rfl, (fun h => by cases h), Or.inl ⟨rfl, rfl⟩, rfl, by decide, lk2_all (P := OkP 327) ⟨c_327_0, trivial⟩⟩
def dkwX4_setting_0 : List UInt8 := [42, 180, 0, 7, 3, 27, 96, 46, 172]
abbrev dktX4_setting_0 : List UInt8 := dkwX4_setting_0 ++ []
theorem dksX4_setting_0 : cX4_setting.data.toList.drop 0 = dktX4_setting_0 := by decide +kernel
theorem dX4_setting_0 : decode cX4_setting 0 = .ok (.aload_n 0, 1) := dk_42 (dk_at dksX4_setting_0 0 rfl rfl)
theorem dX4_setting_1 : decode cX4_setting 1 = .ok (.getfield 7, 3) := dk_180 0 7 (dk_at dksX4_setting_0 1 rfl rfl)
theorem dX4_setting_4 : decode cX4_setting 4 = .ok (.iconst 0, 1) := dk_3 (dk_at dksX4_setting_0 4 rfl rfl)
theorem dX4_setting_5 : decode cX4_setting 5 = .ok (.iload_n 1, 1) := dk_27 (dk_at dksX4_setting_0 5 rfl rfl)
theorem dX4_setting_6 : decode cX4_setting 6 = .ok (.iadd, 1) := dk_96 (dk_at dksX4_setting_0 6 rfl rfl)
theorem dX4_setting_7 : decode cX4_setting 7 = .ok (.iaload, 1) := dk_46 (dk_at dksX4_setting_0 7 rfl rfl)
theorem dX4_setting_8 : decode cX4_setting 8 = .ok (.ireturn, 1) := dk_172 (dk_at dksX4_setting_0 8 rfl rfl)
theorem c_328_0 : LkP (OkP 328) [(0, o_aload 0 1), (1, o_get 148), (4, o_push 1 (.int 0)), (5, o_iload 1 1), (6, o_iop (fun x y => x + y)), (7, o_rdI 0), (8, o_ret 1)] := lkp_c (P := OkP 328) ⟨(PuOK.ok (ok_aload_n dX4_setting_0 rfl)), m_aload⟩ (
  lkp_c (P := OkP 328) ⟨ok_get ⟨"TollRoadModel", q3080, Or.inl rfl⟩ dX4_setting_1, m_get⟩ (
  lkp_c (P := OkP 328) ⟨(PuOK.ok (ok_iconst dX4_setting_4 rfl)), m_push⟩ (
  lkp_c (P := OkP 328) ⟨(PuOK.ok (ok_iload_n dX4_setting_5 rfl)), m_iload⟩ (
  lkp_c (P := OkP 328) ⟨(PuOK.ok (ok_iadd dX4_setting_6)), m_iop⟩ (
  lkp_c (P := OkP 328) ⟨ok_iald dX4_setting_7, m_rdI⟩ (
  lkp_c (P := OkP 328) ⟨ok_iret rfl rfl (by decide) dX4_setting_8, m_ret⟩ (
  trivial)))))))
theorem mt_328 : MtOK TB NT IT 328 := ⟨by decide +kernel, rfl, (fun h => by cases h), Or.inl ⟨rfl, rfl⟩, rfl, by decide, lk2_all (P := OkP 328) ⟨c_328_0, trivial⟩⟩
def dkwX4_count_2 : List UInt8 := [42, 27, 16, 16, 160, 0, 7, 4, 167, 0, 4, 3, 182, 0, 243, 172]
abbrev dktX4_count_2 : List UInt8 := dkwX4_count_2 ++ []
def dkwX4_count_1 : List UInt8 := [162, 0, 10, 42, 180, 0, 7, 27, 46, 172, 27, 16, 14, 160, 0, 11, 42, 3, 182, 0, 240, 167, 0, 18]
abbrev dktX4_count_1 : List UInt8 := dkwX4_count_1 ++ dktX4_count_2
def dkwX4_count_0 : List UInt8 := [42, 3, 181, 0, 81, 27, 3, 16, 16, 184, 0, 91, 154, 0, 9, 42, 4, 182, 0, 87, 172, 27, 16, 14]
abbrev dktX4_count_0 : List UInt8 := dkwX4_count_0 ++ dktX4_count_1
theorem dksX4_count_0 : cX4_count.data.toList.drop 0 = dktX4_count_0 := by decide +kernel
theorem dksX4_count_1 : cX4_count.data.toList.drop 24 = dktX4_count_1 := dk_seg dksX4_count_0 24 rfl rfl
theorem dksX4_count_2 : cX4_count.data.toList.drop 48 = dktX4_count_2 := dk_seg dksX4_count_1 24 rfl rfl
theorem dX4_count_0 : decode cX4_count 0 = .ok (.aload_n 0, 1) := dk_42 (dk_at dksX4_count_0 0 rfl rfl)
theorem dX4_count_1 : decode cX4_count 1 = .ok (.iconst 0, 1) := dk_3 (dk_at dksX4_count_0 1 rfl rfl)
theorem dX4_count_2 : decode cX4_count 2 = .ok (.putfield 81, 3) := dk_181 0 81 (dk_at dksX4_count_0 2 rfl rfl)
theorem dX4_count_5 : decode cX4_count 5 = .ok (.iload_n 1, 1) := dk_27 (dk_at dksX4_count_0 5 rfl rfl)
theorem dX4_count_6 : decode cX4_count 6 = .ok (.iconst 0, 1) := dk_3 (dk_at dksX4_count_0 6 rfl rfl)
theorem dX4_count_7 : decode cX4_count 7 = .ok (.bipush 16, 2) := dk_16 16 (dk_at dksX4_count_0 7 rfl rfl)
theorem dX4_count_9 : decode cX4_count 9 = .ok (.invokestatic 91, 3) := dk_184 0 91 (dk_at dksX4_count_0 9 rfl rfl)
theorem dX4_count_12 : decode cX4_count 12 = .ok (.ifCond .ne 9, 3) := dk_154 0 9 (dk_at dksX4_count_0 12 rfl rfl)
theorem dX4_count_15 : decode cX4_count 15 = .ok (.aload_n 0, 1) := dk_42 (dk_at dksX4_count_0 15 rfl rfl)
theorem dX4_count_16 : decode cX4_count 16 = .ok (.iconst 1, 1) := dk_4 (dk_at dksX4_count_0 16 rfl rfl)
theorem dX4_count_17 : decode cX4_count 17 = .ok (.invokevirtual 87, 3) := dk_182 0 87 (dk_at dksX4_count_0 17 rfl rfl)
theorem dX4_count_20 : decode cX4_count 20 = .ok (.ireturn, 1) := dk_172 (dk_at dksX4_count_0 20 rfl rfl)
theorem dX4_count_21 : decode cX4_count 21 = .ok (.iload_n 1, 1) := dk_27 (dk_at dksX4_count_0 21 rfl rfl)
theorem dX4_count_22 : decode cX4_count 22 = .ok (.bipush 14, 2) := dk_16 14 (dk_at dksX4_count_0 22 rfl rfl)
theorem dX4_count_24 : decode cX4_count 24 = .ok (.if_icmp .ge 10, 3) := dk_162 0 10 (dk_at dksX4_count_1 0 rfl rfl)
theorem dX4_count_27 : decode cX4_count 27 = .ok (.aload_n 0, 1) := dk_42 (dk_at dksX4_count_1 3 rfl rfl)
theorem dX4_count_28 : decode cX4_count 28 = .ok (.getfield 7, 3) := dk_180 0 7 (dk_at dksX4_count_1 4 rfl rfl)
theorem dX4_count_31 : decode cX4_count 31 = .ok (.iload_n 1, 1) := dk_27 (dk_at dksX4_count_1 7 rfl rfl)
theorem dX4_count_32 : decode cX4_count 32 = .ok (.iaload, 1) := dk_46 (dk_at dksX4_count_1 8 rfl rfl)
theorem dX4_count_33 : decode cX4_count 33 = .ok (.ireturn, 1) := dk_172 (dk_at dksX4_count_1 9 rfl rfl)
theorem dX4_count_34 : decode cX4_count 34 = .ok (.iload_n 1, 1) := dk_27 (dk_at dksX4_count_1 10 rfl rfl)
theorem dX4_count_35 : decode cX4_count 35 = .ok (.bipush 14, 2) := dk_16 14 (dk_at dksX4_count_1 11 rfl rfl)
theorem dX4_count_37 : decode cX4_count 37 = .ok (.if_icmp .ne 11, 3) := dk_160 0 11 (dk_at dksX4_count_1 13 rfl rfl)
theorem dX4_count_40 : decode cX4_count 40 = .ok (.aload_n 0, 1) := dk_42 (dk_at dksX4_count_1 16 rfl rfl)
theorem dX4_count_41 : decode cX4_count 41 = .ok (.iconst 0, 1) := dk_3 (dk_at dksX4_count_1 17 rfl rfl)
theorem dX4_count_42 : decode cX4_count 42 = .ok (.invokevirtual 240, 3) := dk_182 0 240 (dk_at dksX4_count_1 18 rfl rfl)
theorem dX4_count_45 : decode cX4_count 45 = .ok (.goto 18, 3) := dk_167 0 18 (dk_at dksX4_count_1 21 rfl rfl)
theorem dX4_count_48 : decode cX4_count 48 = .ok (.aload_n 0, 1) := dk_42 (dk_at dksX4_count_2 0 rfl rfl)
theorem dX4_count_49 : decode cX4_count 49 = .ok (.iload_n 1, 1) := dk_27 (dk_at dksX4_count_2 1 rfl rfl)
theorem dX4_count_50 : decode cX4_count 50 = .ok (.bipush 16, 2) := dk_16 16 (dk_at dksX4_count_2 2 rfl rfl)
theorem dX4_count_52 : decode cX4_count 52 = .ok (.if_icmp .ne 7, 3) := dk_160 0 7 (dk_at dksX4_count_2 4 rfl rfl)
theorem dX4_count_55 : decode cX4_count 55 = .ok (.iconst 1, 1) := dk_4 (dk_at dksX4_count_2 7 rfl rfl)
theorem dX4_count_56 : decode cX4_count 56 = .ok (.goto 4, 3) := dk_167 0 4 (dk_at dksX4_count_2 8 rfl rfl)
theorem dX4_count_59 : decode cX4_count 59 = .ok (.iconst 0, 1) := dk_3 (dk_at dksX4_count_2 11 rfl rfl)
theorem dX4_count_60 : decode cX4_count 60 = .ok (.invokevirtual 243, 3) := dk_182 0 243 (dk_at dksX4_count_2 12 rfl rfl)
theorem dX4_count_63 : decode cX4_count 63 = .ok (.ireturn, 1) := dk_172 (dk_at dksX4_count_2 15 rfl rfl)
theorem c_329_0 : LkP (OkP 329) [(0, o_aload 0 1), (1, o_push 1 (.int 0)), (2, o_put 155 1), (5, o_iload 1 1), (6, o_push 1 (.int 0)), (7, o_push 2 (.int 16)), (9, o_cs 293 3 false none), (12, o_if (fun x => decide (¬ x = 0)) 21), (15, o_aload 0 1), (16, o_push 1 (.int 1)), (17, o_cv [(30, 291)] 1 3 false none), (20, o_ret 1), (21, o_iload 1 1), (22, o_push 2 (.int 14)), (24, o_icmp (fun x y => decide (y ≤ x)) 34), (27, o_aload 0 1), (28, o_get 148), (31, o_iload 1 1), (32, o_rdI 0), (33, o_ret 1), (34, o_iload 1 1), (35, o_push 2 (.int 14)), (37, o_icmp (fun x y => decide (¬ x = y)) 48), (40, o_aload 0 1), (41, o_push 1 (.int 0)), (42, o_cv [(30, 330)] 1 3 false none), (45, o_goto 63), (48, o_aload 0 1), (49, o_iload 1 1), (50, o_push 2 (.int 16)), (52, o_icmp (fun x y => decide (¬ x = y)) 59), (55, o_push 1 (.int 1)), (56, o_goto 60), (59, o_push 1 (.int 0)), (60, o_cv [(30, 332)] 1 3 false none), (63, o_ret 1)] := lkp_c (P := OkP 329) ⟨(PuOK.ok (ok_aload_n dX4_count_0 rfl)), m_aload⟩ (
  lkp_c (P := OkP 329) ⟨(PuOK.ok (ok_iconst dX4_count_1 rfl)), m_push⟩ (
  lkp_c (P := OkP 329) ⟨ok_put ⟨"TollRoadModel", q3087, Or.inl rfl⟩ rfl fd_155 rfl dX4_count_2, m_put⟩ (
  lkp_c (P := OkP 329) ⟨(PuOK.ok (ok_iload_n dX4_count_5 rfl)), m_iload⟩ (
  lkp_c (P := OkP 329) ⟨(PuOK.ok (ok_iconst dX4_count_6 rfl)), m_push⟩ (
  lkp_c (P := OkP 329) ⟨(PuOK.ok (ok_bipush dX4_count_7 rfl)), m_push⟩ (
  lkp_c (P := OkP 329) ⟨ok_cs (tg_S ⟨rfl, by decide⟩ q3214 q3215 q139 q3216 ⟨cn_34.1, cn_34.2, pd_121⟩ dX4_count_9) hd_no, m_cs⟩ (
  lkp_c (P := OkP 329) ⟨(PuOK.ok (ok_if_ne dX4_count_12 rfl)), m_if⟩ (
  lkp_c (P := OkP 329) ⟨(PuOK.ok (ok_aload_n dX4_count_15 rfl)), m_aload⟩ (
  lkp_c (P := OkP 329) ⟨(PuOK.ok (ok_iconst dX4_count_16 rfl)), m_push⟩ (
  lkp_c (P := OkP 329) ⟨ok_cv (List.forall_mem_cons.mpr ⟨tg_V (ci := 30) (r := CLr 30) (y := 291) rfl ⟨rfl, by decide⟩ rfl q3206 q3208 qs42 q139 q3209 ⟨cn_34.1, cn_34.2, pd_48⟩ dX4_count_17, (List.forall_mem_nil _)⟩) hd_no, m_cv⟩ (
  lkp_c (P := OkP 329) ⟨ok_iret rfl rfl (by decide) dX4_count_20, m_ret⟩ (
  lkp_c (P := OkP 329) ⟨(PuOK.ok (ok_iload_n dX4_count_21 rfl)), m_iload⟩ (
  lkp_c (P := OkP 329) ⟨(PuOK.ok (ok_bipush dX4_count_22 rfl)), m_push⟩ (
  lkp_c (P := OkP 329) ⟨(PuOK.ok (ok_icmp_ge dX4_count_24 rfl)), m_icmp⟩ (
  lkp_c (P := OkP 329) ⟨(PuOK.ok (ok_aload_n dX4_count_27 rfl)), m_aload⟩ (
  lkp_c (P := OkP 329) ⟨ok_get ⟨"TollRoadModel", q3080, Or.inl rfl⟩ dX4_count_28, m_get⟩ (
  lkp_c (P := OkP 329) ⟨(PuOK.ok (ok_iload_n dX4_count_31 rfl)), m_iload⟩ (
  lkp_c (P := OkP 329) ⟨ok_iald dX4_count_32, m_rdI⟩ (
  lkp_c (P := OkP 329) ⟨ok_iret rfl rfl (by decide) dX4_count_33, m_ret⟩ (
  lkp_c (P := OkP 329) ⟨(PuOK.ok (ok_iload_n dX4_count_34 rfl)), m_iload⟩ (
  lkp_c (P := OkP 329) ⟨(PuOK.ok (ok_bipush dX4_count_35 rfl)), m_push⟩ (
  lkp_c (P := OkP 329) ⟨(PuOK.ok (ok_icmp_ne dX4_count_37 rfl)), m_icmp⟩ (
  lkp_c (P := OkP 329) ⟨(PuOK.ok (ok_aload_n dX4_count_40 rfl)), m_aload⟩ (
  lkp_c (P := OkP 329) ⟨(PuOK.ok (ok_iconst dX4_count_41 rfl)), m_push⟩ (
  lkp_c (P := OkP 329) ⟨ok_cv (List.forall_mem_cons.mpr ⟨tg_V (ci := 30) (r := CLr 30) (y := 330) rfl ⟨rfl, by decide⟩ rfl q3379 q3381 qs67 q139 q3382 ⟨cn_34.1, cn_34.2, pd_48⟩ dX4_count_42, (List.forall_mem_nil _)⟩) hd_no, m_cv⟩ (
  lkp_c (P := OkP 329) ⟨(PuOK.ok (ok_goto dX4_count_45 rfl)), m_goto⟩ (
  lkp_c (P := OkP 329) ⟨(PuOK.ok (ok_aload_n dX4_count_48 rfl)), m_aload⟩ (
  lkp_c (P := OkP 329) ⟨(PuOK.ok (ok_iload_n dX4_count_49 rfl)), m_iload⟩ (
  lkp_c (P := OkP 329) ⟨(PuOK.ok (ok_bipush dX4_count_50 rfl)), m_push⟩ (
  lkp_c (P := OkP 329) ⟨(PuOK.ok (ok_icmp_ne dX4_count_52 rfl)), m_icmp⟩ (
  lkp_c (P := OkP 329) ⟨(PuOK.ok (ok_iconst dX4_count_55 rfl)), m_push⟩ (
  lkp_c (P := OkP 329) ⟨(PuOK.ok (ok_goto dX4_count_56 rfl)), m_goto⟩ (
  lkp_c (P := OkP 329) ⟨(PuOK.ok (ok_iconst dX4_count_59 rfl)), m_push⟩ (
  lkp_c (P := OkP 329) ⟨ok_cv (List.forall_mem_cons.mpr ⟨tg_V (ci := 30) (r := CLr 30) (y := 332) rfl ⟨rfl, by decide⟩ rfl q3387 q3389 qs69 q139 q3390 ⟨cn_34.1, cn_34.2, pd_78⟩ dX4_count_60, (List.forall_mem_nil _)⟩) hd_no, m_cv⟩ (
  lkp_c (P := OkP 329) ⟨ok_iret rfl rfl (by decide) dX4_count_63, m_ret⟩ (
  trivial))))))))))))))))))))))))))))))))))))
theorem mt_329 : MtOK TB NT IT 329 := ⟨by decide +kernel, rfl, (fun h => by cases h), Or.inl ⟨rfl, rfl⟩, rfl, by decide, lk2_all (P := OkP 329) ⟨c_329_0, trivial⟩⟩
def dkwX4_readsIn_1 : List UInt8 := [160, 0, 7, 4, 167, 0, 4, 3, 96, 61, 132, 3, 1, 167, 255, 224, 28, 172]
abbrev dktX4_readsIn_1 : List UInt8 := dkwX4_readsIn_1 ++ []
def dkwX4_readsIn_0 : List UInt8 := [3, 61, 3, 62, 29, 42, 180, 0, 7, 16, 12, 46, 162, 0, 27, 28, 42, 29, 8, 182, 0, 234, 27]
abbrev dktX4_readsIn_0 : List UInt8 := dkwX4_readsIn_0 ++ dktX4_readsIn_1
theorem dksX4_readsIn_0 : cX4_readsIn.data.toList.drop 0 = dktX4_readsIn_0 := by decide +kernel
theorem dksX4_readsIn_1 : cX4_readsIn.data.toList.drop 23 = dktX4_readsIn_1 := dk_seg dksX4_readsIn_0 23 rfl rfl
theorem dX4_readsIn_0 : decode cX4_readsIn 0 = .ok (.iconst 0, 1) := dk_3 (dk_at dksX4_readsIn_0 0 rfl rfl)
theorem dX4_readsIn_1 : decode cX4_readsIn 1 = .ok (.istore_n 2, 1) := dk_61 (dk_at dksX4_readsIn_0 1 rfl rfl)
theorem dX4_readsIn_2 : decode cX4_readsIn 2 = .ok (.iconst 0, 1) := dk_3 (dk_at dksX4_readsIn_0 2 rfl rfl)
theorem dX4_readsIn_3 : decode cX4_readsIn 3 = .ok (.istore_n 3, 1) := dk_62 (dk_at dksX4_readsIn_0 3 rfl rfl)
theorem dX4_readsIn_4 : decode cX4_readsIn 4 = .ok (.iload_n 3, 1) := dk_29 (dk_at dksX4_readsIn_0 4 rfl rfl)
theorem dX4_readsIn_5 : decode cX4_readsIn 5 = .ok (.aload_n 0, 1) := dk_42 (dk_at dksX4_readsIn_0 5 rfl rfl)
theorem dX4_readsIn_6 : decode cX4_readsIn 6 = .ok (.getfield 7, 3) := dk_180 0 7 (dk_at dksX4_readsIn_0 6 rfl rfl)
theorem dX4_readsIn_9 : decode cX4_readsIn 9 = .ok (.bipush 12, 2) := dk_16 12 (dk_at dksX4_readsIn_0 9 rfl rfl)
theorem dX4_readsIn_11 : decode cX4_readsIn 11 = .ok (.iaload, 1) := dk_46 (dk_at dksX4_readsIn_0 11 rfl rfl)
theorem dX4_readsIn_12 : decode cX4_readsIn 12 = .ok (.if_icmp .ge 27, 3) := dk_162 0 27 (dk_at dksX4_readsIn_0 12 rfl rfl)
theorem dX4_readsIn_15 : decode cX4_readsIn 15 = .ok (.iload_n 2, 1) := dk_28 (dk_at dksX4_readsIn_0 15 rfl rfl)
theorem dX4_readsIn_16 : decode cX4_readsIn 16 = .ok (.aload_n 0, 1) := dk_42 (dk_at dksX4_readsIn_0 16 rfl rfl)
theorem dX4_readsIn_17 : decode cX4_readsIn 17 = .ok (.iload_n 3, 1) := dk_29 (dk_at dksX4_readsIn_0 17 rfl rfl)
theorem dX4_readsIn_18 : decode cX4_readsIn 18 = .ok (.iconst 5, 1) := dk_8 (dk_at dksX4_readsIn_0 18 rfl rfl)
theorem dX4_readsIn_19 : decode cX4_readsIn 19 = .ok (.invokevirtual 234, 3) := dk_182 0 234 (dk_at dksX4_readsIn_0 19 rfl rfl)
theorem dX4_readsIn_22 : decode cX4_readsIn 22 = .ok (.iload_n 1, 1) := dk_27 (dk_at dksX4_readsIn_0 22 rfl rfl)
theorem dX4_readsIn_23 : decode cX4_readsIn 23 = .ok (.if_icmp .ne 7, 3) := dk_160 0 7 (dk_at dksX4_readsIn_1 0 rfl rfl)
theorem dX4_readsIn_26 : decode cX4_readsIn 26 = .ok (.iconst 1, 1) := dk_4 (dk_at dksX4_readsIn_1 3 rfl rfl)
theorem dX4_readsIn_27 : decode cX4_readsIn 27 = .ok (.goto 4, 3) := dk_167 0 4 (dk_at dksX4_readsIn_1 4 rfl rfl)
theorem dX4_readsIn_30 : decode cX4_readsIn 30 = .ok (.iconst 0, 1) := dk_3 (dk_at dksX4_readsIn_1 7 rfl rfl)
theorem dX4_readsIn_31 : decode cX4_readsIn 31 = .ok (.iadd, 1) := dk_96 (dk_at dksX4_readsIn_1 8 rfl rfl)
theorem dX4_readsIn_32 : decode cX4_readsIn 32 = .ok (.istore_n 2, 1) := dk_61 (dk_at dksX4_readsIn_1 9 rfl rfl)
theorem dX4_readsIn_33 : decode cX4_readsIn 33 = .ok (.iinc 3 1, 3) := dk_132 3 1 (dk_at dksX4_readsIn_1 10 rfl rfl)
theorem dX4_readsIn_36 : decode cX4_readsIn 36 = .ok (.goto (-32), 3) := dk_167 255 224 (dk_at dksX4_readsIn_1 13 rfl rfl)
theorem dX4_readsIn_39 : decode cX4_readsIn 39 = .ok (.iload_n 2, 1) := dk_28 (dk_at dksX4_readsIn_1 16 rfl rfl)
theorem dX4_readsIn_40 : decode cX4_readsIn 40 = .ok (.ireturn, 1) := dk_172 (dk_at dksX4_readsIn_1 17 rfl rfl)
theorem c_330_0 : LkP (OkP 330) [(0, o_push 1 (.int 0)), (1, o_istore 2 1), (2, o_push 1 (.int 0)), (3, o_istore 3 1), (4, o_iload 3 1), (5, o_aload 0 1), (6, o_get 148), (9, o_push 2 (.int 12)), (11, o_rdI 0), (12, o_icmp (fun x y => decide (y ≤ x)) 39), (15, o_iload 2 1), (16, o_aload 0 1), (17, o_iload 3 1), (18, o_push 1 (.int 5)), (19, o_cv [(30, 331)] 2 3 false none), (22, o_iload 1 1), (23, o_icmp (fun x y => decide (¬ x = y)) 30), (26, o_push 1 (.int 1)), (27, o_goto 31), (30, o_push 1 (.int 0)), (31, o_iop (fun x y => x + y)), (32, o_istore 2 1), (33, o_iinc 3 1), (36, o_goto 4), (39, o_iload 2 1), (40, o_ret 1)] := lkp_c (P := OkP 330) ⟨(PuOK.ok (ok_iconst dX4_readsIn_0 rfl)), m_push⟩ (
  lkp_c (P := OkP 330) ⟨(PuOK.ok (ok_istore_n dX4_readsIn_1 rfl)), m_istore⟩ (
  lkp_c (P := OkP 330) ⟨(PuOK.ok (ok_iconst dX4_readsIn_2 rfl)), m_push⟩ (
  lkp_c (P := OkP 330) ⟨(PuOK.ok (ok_istore_n dX4_readsIn_3 rfl)), m_istore⟩ (
  lkp_c (P := OkP 330) ⟨(PuOK.ok (ok_iload_n dX4_readsIn_4 rfl)), m_iload⟩ (
  lkp_c (P := OkP 330) ⟨(PuOK.ok (ok_aload_n dX4_readsIn_5 rfl)), m_aload⟩ (
  lkp_c (P := OkP 330) ⟨ok_get ⟨"TollRoadModel", q3080, Or.inl rfl⟩ dX4_readsIn_6, m_get⟩ (
  lkp_c (P := OkP 330) ⟨(PuOK.ok (ok_bipush dX4_readsIn_9 rfl)), m_push⟩ (
  lkp_c (P := OkP 330) ⟨ok_iald dX4_readsIn_11, m_rdI⟩ (
  lkp_c (P := OkP 330) ⟨(PuOK.ok (ok_icmp_ge dX4_readsIn_12 rfl)), m_icmp⟩ (
  lkp_c (P := OkP 330) ⟨(PuOK.ok (ok_iload_n dX4_readsIn_15 rfl)), m_iload⟩ (
  lkp_c (P := OkP 330) ⟨(PuOK.ok (ok_aload_n dX4_readsIn_16 rfl)), m_aload⟩ (
  lkp_c (P := OkP 330) ⟨(PuOK.ok (ok_iload_n dX4_readsIn_17 rfl)), m_iload⟩ (
  lkp_c (P := OkP 330) ⟨(PuOK.ok (ok_iconst dX4_readsIn_18 rfl)), m_push⟩ (
  lkp_c (P := OkP 330) ⟨ok_cv (List.forall_mem_cons.mpr ⟨tg_V (ci := 30) (r := CLr 30) (y := 331) rfl ⟨rfl, by decide⟩ rfl q3383 q3385 qs68 q139 q3386 ⟨cn_34.1, cn_34.2, pd_1⟩ dX4_readsIn_19, (List.forall_mem_nil _)⟩) hd_no, m_cv⟩ (
  lkp_c (P := OkP 330) ⟨(PuOK.ok (ok_iload_n dX4_readsIn_22 rfl)), m_iload⟩ (
  lkp_c (P := OkP 330) ⟨(PuOK.ok (ok_icmp_ne dX4_readsIn_23 rfl)), m_icmp⟩ (
  lkp_c (P := OkP 330) ⟨(PuOK.ok (ok_iconst dX4_readsIn_26 rfl)), m_push⟩ (
  lkp_c (P := OkP 330) ⟨(PuOK.ok (ok_goto dX4_readsIn_27 rfl)), m_goto⟩ (
  lkp_c (P := OkP 330) ⟨(PuOK.ok (ok_iconst dX4_readsIn_30 rfl)), m_push⟩ (
  lkp_c (P := OkP 330) ⟨(PuOK.ok (ok_iadd dX4_readsIn_31)), m_iop⟩ (
  lkp_c (P := OkP 330) ⟨(PuOK.ok (ok_istore_n dX4_readsIn_32 rfl)), m_istore⟩ (
  lkp_c (P := OkP 330) ⟨(PuOK.ok (ok_iinc dX4_readsIn_33 rfl)), m_iinc⟩ (
  lkp_c (P := OkP 330) ⟨(PuOK.ok (ok_goto dX4_readsIn_36 rfl)), m_goto⟩ (
  lkp_c (P := OkP 330) ⟨(PuOK.ok (ok_iload_n dX4_readsIn_39 rfl)), m_iload⟩ (
  lkp_c (P := OkP 330) ⟨ok_iret rfl rfl (by decide) dX4_readsIn_40, m_ret⟩ (
  trivial))))))))))))))))))))))))))
theorem mt_330 : MtOK TB NT IT 330 := ⟨by decide +kernel, rfl, (fun h => by cases h), Or.inl ⟨rfl, rfl⟩, rfl, by decide, lk2_all (P := OkP 330) ⟨c_330_0, trivial⟩⟩
def dkwX4_ofRead_0 : List UInt8 := [42, 180, 0, 7, 17, 1, 24, 16, 7, 27, 104, 96, 28, 96, 46, 172]
abbrev dktX4_ofRead_0 : List UInt8 := dkwX4_ofRead_0 ++ []
theorem dksX4_ofRead_0 : cX4_ofRead.data.toList.drop 0 = dktX4_ofRead_0 := by decide +kernel
theorem dX4_ofRead_0 : decode cX4_ofRead 0 = .ok (.aload_n 0, 1) := dk_42 (dk_at dksX4_ofRead_0 0 rfl rfl)
theorem dX4_ofRead_1 : decode cX4_ofRead 1 = .ok (.getfield 7, 3) := dk_180 0 7 (dk_at dksX4_ofRead_0 1 rfl rfl)
theorem dX4_ofRead_4 : decode cX4_ofRead 4 = .ok (.sipush 280, 3) := dk_17 1 24 (dk_at dksX4_ofRead_0 4 rfl rfl)
theorem dX4_ofRead_7 : decode cX4_ofRead 7 = .ok (.bipush 7, 2) := dk_16 7 (dk_at dksX4_ofRead_0 7 rfl rfl)
theorem dX4_ofRead_9 : decode cX4_ofRead 9 = .ok (.iload_n 1, 1) := dk_27 (dk_at dksX4_ofRead_0 9 rfl rfl)
theorem dX4_ofRead_10 : decode cX4_ofRead 10 = .ok (.imul, 1) := dk_104 (dk_at dksX4_ofRead_0 10 rfl rfl)
theorem dX4_ofRead_11 : decode cX4_ofRead 11 = .ok (.iadd, 1) := dk_96 (dk_at dksX4_ofRead_0 11 rfl rfl)
theorem dX4_ofRead_12 : decode cX4_ofRead 12 = .ok (.iload_n 2, 1) := dk_28 (dk_at dksX4_ofRead_0 12 rfl rfl)
theorem dX4_ofRead_13 : decode cX4_ofRead 13 = .ok (.iadd, 1) := dk_96 (dk_at dksX4_ofRead_0 13 rfl rfl)
theorem dX4_ofRead_14 : decode cX4_ofRead 14 = .ok (.iaload, 1) := dk_46 (dk_at dksX4_ofRead_0 14 rfl rfl)
theorem dX4_ofRead_15 : decode cX4_ofRead 15 = .ok (.ireturn, 1) := dk_172 (dk_at dksX4_ofRead_0 15 rfl rfl)
theorem c_331_0 : LkP (OkP 331) [(0, o_aload 0 1), (1, o_get 148), (4, o_push 3 (.int 280)), (7, o_push 2 (.int 7)), (9, o_iload 1 1), (10, o_iop (fun x y => x * y)), (11, o_iop (fun x y => x + y)), (12, o_iload 2 1), (13, o_iop (fun x y => x + y)), (14, o_rdI 0), (15, o_ret 1)] := lkp_c (P := OkP 331) ⟨(PuOK.ok (ok_aload_n dX4_ofRead_0 rfl)), m_aload⟩ (
  lkp_c (P := OkP 331) ⟨ok_get ⟨"TollRoadModel", q3080, Or.inl rfl⟩ dX4_ofRead_1, m_get⟩ (
  lkp_c (P := OkP 331) ⟨(PuOK.ok (ok_sipush dX4_ofRead_4 rfl)), m_push⟩ (
  lkp_c (P := OkP 331) ⟨(PuOK.ok (ok_bipush dX4_ofRead_7 rfl)), m_push⟩ (
  lkp_c (P := OkP 331) ⟨(PuOK.ok (ok_iload_n dX4_ofRead_9 rfl)), m_iload⟩ (
  lkp_c (P := OkP 331) ⟨(PuOK.ok (ok_imul dX4_ofRead_10)), m_iop⟩ (
  lkp_c (P := OkP 331) ⟨(PuOK.ok (ok_iadd dX4_ofRead_11)), m_iop⟩ (
  lkp_c (P := OkP 331) ⟨(PuOK.ok (ok_iload_n dX4_ofRead_12 rfl)), m_iload⟩ (
  lkp_c (P := OkP 331) ⟨(PuOK.ok (ok_iadd dX4_ofRead_13)), m_iop⟩ (
  lkp_c (P := OkP 331) ⟨ok_iald dX4_ofRead_14, m_rdI⟩ (
  lkp_c (P := OkP 331) ⟨ok_iret rfl rfl (by decide) dX4_ofRead_15, m_ret⟩ (
  trivial)))))))))))
theorem mt_331 : MtOK TB NT IT 331 := ⟨by decide +kernel, rfl, (fun h => by cases h), Or.inl ⟨rfl, rfl⟩, rfl, by decide, lk2_all (P := OkP 331) ⟨c_331_0, trivial⟩⟩
def dkwX4_disputed_2 : List UInt8 := [132, 3, 1, 167, 255, 209, 28, 172]
abbrev dktX4_disputed_2 : List UInt8 := dkwX4_disputed_2 ++ []
def dkwX4_disputed_1 : List UInt8 := [28, 21, 4, 4, 159, 0, 13, 21, 4, 5, 160, 0, 11, 27, 154, 0, 7, 4, 167, 0, 4, 3, 96, 61]
abbrev dktX4_disputed_1 : List UInt8 := dkwX4_disputed_1 ++ dktX4_disputed_2
def dkwX4_disputed_0 : List UInt8 := [3, 61, 3, 62, 29, 42, 180, 0, 7, 16, 13, 46, 162, 0, 42, 42, 29, 16, 11, 182, 0, 237, 54, 4]
abbrev dktX4_disputed_0 : List UInt8 := dkwX4_disputed_0 ++ dktX4_disputed_1
theorem dksX4_disputed_0 : cX4_disputed.data.toList.drop 0 = dktX4_disputed_0 := by decide +kernel
theorem dksX4_disputed_1 : cX4_disputed.data.toList.drop 24 = dktX4_disputed_1 := dk_seg dksX4_disputed_0 24 rfl rfl
theorem dksX4_disputed_2 : cX4_disputed.data.toList.drop 48 = dktX4_disputed_2 := dk_seg dksX4_disputed_1 24 rfl rfl
theorem dX4_disputed_0 : decode cX4_disputed 0 = .ok (.iconst 0, 1) := dk_3 (dk_at dksX4_disputed_0 0 rfl rfl)
theorem dX4_disputed_1 : decode cX4_disputed 1 = .ok (.istore_n 2, 1) := dk_61 (dk_at dksX4_disputed_0 1 rfl rfl)
theorem dX4_disputed_2 : decode cX4_disputed 2 = .ok (.iconst 0, 1) := dk_3 (dk_at dksX4_disputed_0 2 rfl rfl)
theorem dX4_disputed_3 : decode cX4_disputed 3 = .ok (.istore_n 3, 1) := dk_62 (dk_at dksX4_disputed_0 3 rfl rfl)
theorem dX4_disputed_4 : decode cX4_disputed 4 = .ok (.iload_n 3, 1) := dk_29 (dk_at dksX4_disputed_0 4 rfl rfl)
theorem dX4_disputed_5 : decode cX4_disputed 5 = .ok (.aload_n 0, 1) := dk_42 (dk_at dksX4_disputed_0 5 rfl rfl)
theorem dX4_disputed_6 : decode cX4_disputed 6 = .ok (.getfield 7, 3) := dk_180 0 7 (dk_at dksX4_disputed_0 6 rfl rfl)
theorem dX4_disputed_9 : decode cX4_disputed 9 = .ok (.bipush 13, 2) := dk_16 13 (dk_at dksX4_disputed_0 9 rfl rfl)
theorem dX4_disputed_11 : decode cX4_disputed 11 = .ok (.iaload, 1) := dk_46 (dk_at dksX4_disputed_0 11 rfl rfl)
theorem dX4_disputed_12 : decode cX4_disputed 12 = .ok (.if_icmp .ge 42, 3) := dk_162 0 42 (dk_at dksX4_disputed_0 12 rfl rfl)
theorem dX4_disputed_15 : decode cX4_disputed 15 = .ok (.aload_n 0, 1) := dk_42 (dk_at dksX4_disputed_0 15 rfl rfl)
theorem dX4_disputed_16 : decode cX4_disputed 16 = .ok (.iload_n 3, 1) := dk_29 (dk_at dksX4_disputed_0 16 rfl rfl)
theorem dX4_disputed_17 : decode cX4_disputed 17 = .ok (.bipush 11, 2) := dk_16 11 (dk_at dksX4_disputed_0 17 rfl rfl)
theorem dX4_disputed_19 : decode cX4_disputed 19 = .ok (.invokevirtual 237, 3) := dk_182 0 237 (dk_at dksX4_disputed_0 19 rfl rfl)
theorem dX4_disputed_22 : decode cX4_disputed 22 = .ok (.istore 4, 2) := dk_54 4 (dk_at dksX4_disputed_0 22 rfl rfl)
theorem dX4_disputed_24 : decode cX4_disputed 24 = .ok (.iload_n 2, 1) := dk_28 (dk_at dksX4_disputed_1 0 rfl rfl)
theorem dX4_disputed_25 : decode cX4_disputed 25 = .ok (.iload 4, 2) := dk_21 4 (dk_at dksX4_disputed_1 1 rfl rfl)
theorem dX4_disputed_27 : decode cX4_disputed 27 = .ok (.iconst 1, 1) := dk_4 (dk_at dksX4_disputed_1 3 rfl rfl)
theorem dX4_disputed_28 : decode cX4_disputed 28 = .ok (.if_icmp .eq 13, 3) := dk_159 0 13 (dk_at dksX4_disputed_1 4 rfl rfl)
theorem dX4_disputed_31 : decode cX4_disputed 31 = .ok (.iload 4, 2) := dk_21 4 (dk_at dksX4_disputed_1 7 rfl rfl)
theorem dX4_disputed_33 : decode cX4_disputed 33 = .ok (.iconst 2, 1) := dk_5 (dk_at dksX4_disputed_1 9 rfl rfl)
theorem dX4_disputed_34 : decode cX4_disputed 34 = .ok (.if_icmp .ne 11, 3) := dk_160 0 11 (dk_at dksX4_disputed_1 10 rfl rfl)
theorem dX4_disputed_37 : decode cX4_disputed 37 = .ok (.iload_n 1, 1) := dk_27 (dk_at dksX4_disputed_1 13 rfl rfl)
theorem dX4_disputed_38 : decode cX4_disputed 38 = .ok (.ifCond .ne 7, 3) := dk_154 0 7 (dk_at dksX4_disputed_1 14 rfl rfl)
theorem dX4_disputed_41 : decode cX4_disputed 41 = .ok (.iconst 1, 1) := dk_4 (dk_at dksX4_disputed_1 17 rfl rfl)
theorem dX4_disputed_42 : decode cX4_disputed 42 = .ok (.goto 4, 3) := dk_167 0 4 (dk_at dksX4_disputed_1 18 rfl rfl)
theorem dX4_disputed_45 : decode cX4_disputed 45 = .ok (.iconst 0, 1) := dk_3 (dk_at dksX4_disputed_1 21 rfl rfl)
theorem dX4_disputed_46 : decode cX4_disputed 46 = .ok (.iadd, 1) := dk_96 (dk_at dksX4_disputed_1 22 rfl rfl)
theorem dX4_disputed_47 : decode cX4_disputed 47 = .ok (.istore_n 2, 1) := dk_61 (dk_at dksX4_disputed_1 23 rfl rfl)
theorem dX4_disputed_48 : decode cX4_disputed 48 = .ok (.iinc 3 1, 3) := dk_132 3 1 (dk_at dksX4_disputed_2 0 rfl rfl)
theorem dX4_disputed_51 : decode cX4_disputed 51 = .ok (.goto (-47), 3) := dk_167 255 209 (dk_at dksX4_disputed_2 3 rfl rfl)
theorem dX4_disputed_54 : decode cX4_disputed 54 = .ok (.iload_n 2, 1) := dk_28 (dk_at dksX4_disputed_2 6 rfl rfl)
theorem dX4_disputed_55 : decode cX4_disputed 55 = .ok (.ireturn, 1) := dk_172 (dk_at dksX4_disputed_2 7 rfl rfl)
theorem c_332_0 : LkP (OkP 332) [(0, o_push 1 (.int 0)), (1, o_istore 2 1), (2, o_push 1 (.int 0)), (3, o_istore 3 1), (4, o_iload 3 1), (5, o_aload 0 1), (6, o_get 148), (9, o_push 2 (.int 13)), (11, o_rdI 0), (12, o_icmp (fun x y => decide (y ≤ x)) 54), (15, o_aload 0 1), (16, o_iload 3 1), (17, o_push 2 (.int 11)), (19, o_cv [(30, 333)] 2 3 false none), (22, o_istore 4 2), (24, o_iload 2 1), (25, o_iload 4 2), (27, o_push 1 (.int 1)), (28, o_icmp (fun x y => decide (x = y)) 41), (31, o_iload 4 2), (33, o_push 1 (.int 2)), (34, o_icmp (fun x y => decide (¬ x = y)) 45), (37, o_iload 1 1), (38, o_if (fun x => decide (¬ x = 0)) 45), (41, o_push 1 (.int 1)), (42, o_goto 46), (45, o_push 1 (.int 0)), (46, o_iop (fun x y => x + y)), (47, o_istore 2 1), (48, o_iinc 3 1), (51, o_goto 4), (54, o_iload 2 1), (55, o_ret 1)] := lkp_c (P := OkP 332) ⟨(PuOK.ok (ok_iconst dX4_disputed_0 rfl)), m_push⟩ (
  lkp_c (P := OkP 332) ⟨(PuOK.ok (ok_istore_n dX4_disputed_1 rfl)), m_istore⟩ (
  lkp_c (P := OkP 332) ⟨(PuOK.ok (ok_iconst dX4_disputed_2 rfl)), m_push⟩ (
  lkp_c (P := OkP 332) ⟨(PuOK.ok (ok_istore_n dX4_disputed_3 rfl)), m_istore⟩ (
  lkp_c (P := OkP 332) ⟨(PuOK.ok (ok_iload_n dX4_disputed_4 rfl)), m_iload⟩ (
  lkp_c (P := OkP 332) ⟨(PuOK.ok (ok_aload_n dX4_disputed_5 rfl)), m_aload⟩ (
  lkp_c (P := OkP 332) ⟨ok_get ⟨"TollRoadModel", q3080, Or.inl rfl⟩ dX4_disputed_6, m_get⟩ (
  lkp_c (P := OkP 332) ⟨(PuOK.ok (ok_bipush dX4_disputed_9 rfl)), m_push⟩ (
  lkp_c (P := OkP 332) ⟨ok_iald dX4_disputed_11, m_rdI⟩ (
  lkp_c (P := OkP 332) ⟨(PuOK.ok (ok_icmp_ge dX4_disputed_12 rfl)), m_icmp⟩ (
  lkp_c (P := OkP 332) ⟨(PuOK.ok (ok_aload_n dX4_disputed_15 rfl)), m_aload⟩ (
  lkp_c (P := OkP 332) ⟨(PuOK.ok (ok_iload_n dX4_disputed_16 rfl)), m_iload⟩ (
  lkp_c (P := OkP 332) ⟨(PuOK.ok (ok_bipush dX4_disputed_17 rfl)), m_push⟩ (
  lkp_c (P := OkP 332) ⟨ok_cv (List.forall_mem_cons.mpr ⟨tg_V (ci := 30) (r := CLr 30) (y := 333) rfl ⟨rfl, by decide⟩ rfl q3391 q3393 qs70 q139 q3394 ⟨cn_34.1, cn_34.2, pd_1⟩ dX4_disputed_19, (List.forall_mem_nil _)⟩) hd_no, m_cv⟩ (
  lkp_c (P := OkP 332) ⟨(PuOK.ok (ok_istore dX4_disputed_22)), m_istore⟩ (
  lkp_c (P := OkP 332) ⟨(PuOK.ok (ok_iload_n dX4_disputed_24 rfl)), m_iload⟩ (
  lkp_c (P := OkP 332) ⟨(PuOK.ok (ok_iload dX4_disputed_25)), m_iload⟩ (
  lkp_c (P := OkP 332) ⟨(PuOK.ok (ok_iconst dX4_disputed_27 rfl)), m_push⟩ (
  lkp_c (P := OkP 332) ⟨(PuOK.ok (ok_icmp_eq dX4_disputed_28 rfl)), m_icmp⟩ (
  lkp_c (P := OkP 332) ⟨(PuOK.ok (ok_iload dX4_disputed_31)), m_iload⟩ (
  lkp_c (P := OkP 332) ⟨(PuOK.ok (ok_iconst dX4_disputed_33 rfl)), m_push⟩ (
  lkp_c (P := OkP 332) ⟨(PuOK.ok (ok_icmp_ne dX4_disputed_34 rfl)), m_icmp⟩ (
  lkp_c (P := OkP 332) ⟨(PuOK.ok (ok_iload_n dX4_disputed_37 rfl)), m_iload⟩ (
  lkp_c (P := OkP 332) ⟨(PuOK.ok (ok_if_ne dX4_disputed_38 rfl)), m_if⟩ (
  lkp_c (P := OkP 332) ⟨(PuOK.ok (ok_iconst dX4_disputed_41 rfl)), m_push⟩ (
  lkp_c (P := OkP 332) ⟨(PuOK.ok (ok_goto dX4_disputed_42 rfl)), m_goto⟩ (
  lkp_c (P := OkP 332) ⟨(PuOK.ok (ok_iconst dX4_disputed_45 rfl)), m_push⟩ (
  lkp_c (P := OkP 332) ⟨(PuOK.ok (ok_iadd dX4_disputed_46)), m_iop⟩ (
  lkp_c (P := OkP 332) ⟨(PuOK.ok (ok_istore_n dX4_disputed_47 rfl)), m_istore⟩ (
  lkp_c (P := OkP 332) ⟨(PuOK.ok (ok_iinc dX4_disputed_48 rfl)), m_iinc⟩ (
  lkp_c (P := OkP 332) ⟨(PuOK.ok (ok_goto dX4_disputed_51 rfl)), m_goto⟩ (
  lkp_c (P := OkP 332) ⟨(PuOK.ok (ok_iload_n dX4_disputed_54 rfl)), m_iload⟩ (
  lkp_c (P := OkP 332) ⟨ok_iret rfl rfl (by decide) dX4_disputed_55, m_ret⟩ (
  trivial)))))))))))))))))))))))))))))))))
theorem mt_332 : MtOK TB NT IT 332 := ⟨by decide +kernel, rfl, (fun h => by cases h), Or.inl ⟨rfl, rfl⟩, rfl, by decide, lk2_all (P := OkP 332) ⟨c_332_0, trivial⟩⟩
def dkwX4_ofBill_0 : List UInt8 := [42, 180, 0, 7, 17, 4, 96, 16, 18, 27, 104, 96, 28, 96, 46, 172]
abbrev dktX4_ofBill_0 : List UInt8 := dkwX4_ofBill_0 ++ []
theorem dksX4_ofBill_0 : cX4_ofBill.data.toList.drop 0 = dktX4_ofBill_0 := by decide +kernel
theorem dX4_ofBill_0 : decode cX4_ofBill 0 = .ok (.aload_n 0, 1) := dk_42 (dk_at dksX4_ofBill_0 0 rfl rfl)
theorem dX4_ofBill_1 : decode cX4_ofBill 1 = .ok (.getfield 7, 3) := dk_180 0 7 (dk_at dksX4_ofBill_0 1 rfl rfl)
theorem dX4_ofBill_4 : decode cX4_ofBill 4 = .ok (.sipush 1120, 3) := dk_17 4 96 (dk_at dksX4_ofBill_0 4 rfl rfl)
theorem dX4_ofBill_7 : decode cX4_ofBill 7 = .ok (.bipush 18, 2) := dk_16 18 (dk_at dksX4_ofBill_0 7 rfl rfl)
theorem dX4_ofBill_9 : decode cX4_ofBill 9 = .ok (.iload_n 1, 1) := dk_27 (dk_at dksX4_ofBill_0 9 rfl rfl)
theorem dX4_ofBill_10 : decode cX4_ofBill 10 = .ok (.imul, 1) := dk_104 (dk_at dksX4_ofBill_0 10 rfl rfl)
theorem dX4_ofBill_11 : decode cX4_ofBill 11 = .ok (.iadd, 1) := dk_96 (dk_at dksX4_ofBill_0 11 rfl rfl)
theorem dX4_ofBill_12 : decode cX4_ofBill 12 = .ok (.iload_n 2, 1) := dk_28 (dk_at dksX4_ofBill_0 12 rfl rfl)
theorem dX4_ofBill_13 : decode cX4_ofBill 13 = .ok (.iadd, 1) := dk_96 (dk_at dksX4_ofBill_0 13 rfl rfl)
theorem dX4_ofBill_14 : decode cX4_ofBill 14 = .ok (.iaload, 1) := dk_46 (dk_at dksX4_ofBill_0 14 rfl rfl)
theorem dX4_ofBill_15 : decode cX4_ofBill 15 = .ok (.ireturn, 1) := dk_172 (dk_at dksX4_ofBill_0 15 rfl rfl)
theorem c_333_0 : LkP (OkP 333) [(0, o_aload 0 1), (1, o_get 148), (4, o_push 3 (.int 1120)), (7, o_push 2 (.int 18)), (9, o_iload 1 1), (10, o_iop (fun x y => x * y)), (11, o_iop (fun x y => x + y)), (12, o_iload 2 1), (13, o_iop (fun x y => x + y)), (14, o_rdI 0), (15, o_ret 1)] := lkp_c (P := OkP 333) ⟨(PuOK.ok (ok_aload_n dX4_ofBill_0 rfl)), m_aload⟩ (
  lkp_c (P := OkP 333) ⟨ok_get ⟨"TollRoadModel", q3080, Or.inl rfl⟩ dX4_ofBill_1, m_get⟩ (
  lkp_c (P := OkP 333) ⟨(PuOK.ok (ok_sipush dX4_ofBill_4 rfl)), m_push⟩ (
  lkp_c (P := OkP 333) ⟨(PuOK.ok (ok_bipush dX4_ofBill_7 rfl)), m_push⟩ (
  lkp_c (P := OkP 333) ⟨(PuOK.ok (ok_iload_n dX4_ofBill_9 rfl)), m_iload⟩ (
  lkp_c (P := OkP 333) ⟨(PuOK.ok (ok_imul dX4_ofBill_10)), m_iop⟩ (
  lkp_c (P := OkP 333) ⟨(PuOK.ok (ok_iadd dX4_ofBill_11)), m_iop⟩ (
  lkp_c (P := OkP 333) ⟨(PuOK.ok (ok_iload_n dX4_ofBill_12 rfl)), m_iload⟩ (
  lkp_c (P := OkP 333) ⟨(PuOK.ok (ok_iadd dX4_ofBill_13)), m_iop⟩ (
  lkp_c (P := OkP 333) ⟨ok_iald dX4_ofBill_14, m_rdI⟩ (
  lkp_c (P := OkP 333) ⟨ok_iret rfl rfl (by decide) dX4_ofBill_15, m_ret⟩ (
  trivial)))))))))))
theorem mt_333 : MtOK TB NT IT 333 := ⟨by decide +kernel, rfl, (fun h => by cases h), Or.inl ⟨rfl, rfl⟩, rfl, by decide, lk2_all (P := OkP 333) ⟨c_333_0, trivial⟩⟩
def dkwX4_account_1 : List UInt8 := [184, 0, 91, 153, 0, 12, 42, 27, 28, 182, 0, 247, 167, 0, 8, 42, 5, 182, 0, 87, 172]
abbrev dktX4_account_1 : List UInt8 := dkwX4_account_1 ++ []
def dkwX4_account_0 : List UInt8 := [42, 3, 181, 0, 81, 42, 27, 182, 0, 228, 154, 0, 9, 42, 4, 182, 0, 87, 172, 28, 3, 8]
abbrev dktX4_account_0 : List UInt8 := dkwX4_account_0 ++ dktX4_account_1
theorem dksX4_account_0 : cX4_account.data.toList.drop 0 = dktX4_account_0 := by decide +kernel
theorem dksX4_account_1 : cX4_account.data.toList.drop 22 = dktX4_account_1 := dk_seg dksX4_account_0 22 rfl rfl
theorem dX4_account_0 : decode cX4_account 0 = .ok (.aload_n 0, 1) := dk_42 (dk_at dksX4_account_0 0 rfl rfl)
theorem dX4_account_1 : decode cX4_account 1 = .ok (.iconst 0, 1) := dk_3 (dk_at dksX4_account_0 1 rfl rfl)
theorem dX4_account_2 : decode cX4_account 2 = .ok (.putfield 81, 3) := dk_181 0 81 (dk_at dksX4_account_0 2 rfl rfl)
theorem dX4_account_5 : decode cX4_account 5 = .ok (.aload_n 0, 1) := dk_42 (dk_at dksX4_account_0 5 rfl rfl)
theorem dX4_account_6 : decode cX4_account 6 = .ok (.iload_n 1, 1) := dk_27 (dk_at dksX4_account_0 6 rfl rfl)
theorem dX4_account_7 : decode cX4_account 7 = .ok (.invokevirtual 228, 3) := dk_182 0 228 (dk_at dksX4_account_0 7 rfl rfl)
theorem dX4_account_10 : decode cX4_account 10 = .ok (.ifCond .ne 9, 3) := dk_154 0 9 (dk_at dksX4_account_0 10 rfl rfl)
theorem dX4_account_13 : decode cX4_account 13 = .ok (.aload_n 0, 1) := dk_42 (dk_at dksX4_account_0 13 rfl rfl)
theorem dX4_account_14 : decode cX4_account 14 = .ok (.iconst 1, 1) := dk_4 (dk_at dksX4_account_0 14 rfl rfl)
theorem dX4_account_15 : decode cX4_account 15 = .ok (.invokevirtual 87, 3) := dk_182 0 87 (dk_at dksX4_account_0 15 rfl rfl)
theorem dX4_account_18 : decode cX4_account 18 = .ok (.ireturn, 1) := dk_172 (dk_at dksX4_account_0 18 rfl rfl)
theorem dX4_account_19 : decode cX4_account 19 = .ok (.iload_n 2, 1) := dk_28 (dk_at dksX4_account_0 19 rfl rfl)
theorem dX4_account_20 : decode cX4_account 20 = .ok (.iconst 0, 1) := dk_3 (dk_at dksX4_account_0 20 rfl rfl)
theorem dX4_account_21 : decode cX4_account 21 = .ok (.iconst 5, 1) := dk_8 (dk_at dksX4_account_0 21 rfl rfl)
theorem dX4_account_22 : decode cX4_account 22 = .ok (.invokestatic 91, 3) := dk_184 0 91 (dk_at dksX4_account_1 0 rfl rfl)
theorem dX4_account_25 : decode cX4_account 25 = .ok (.ifCond .eq 12, 3) := dk_153 0 12 (dk_at dksX4_account_1 3 rfl rfl)
theorem dX4_account_28 : decode cX4_account 28 = .ok (.aload_n 0, 1) := dk_42 (dk_at dksX4_account_1 6 rfl rfl)
theorem dX4_account_29 : decode cX4_account 29 = .ok (.iload_n 1, 1) := dk_27 (dk_at dksX4_account_1 7 rfl rfl)
theorem dX4_account_30 : decode cX4_account 30 = .ok (.iload_n 2, 1) := dk_28 (dk_at dksX4_account_1 8 rfl rfl)
theorem dX4_account_31 : decode cX4_account 31 = .ok (.invokevirtual 247, 3) := dk_182 0 247 (dk_at dksX4_account_1 9 rfl rfl)
theorem dX4_account_34 : decode cX4_account 34 = .ok (.goto 8, 3) := dk_167 0 8 (dk_at dksX4_account_1 12 rfl rfl)
theorem dX4_account_37 : decode cX4_account 37 = .ok (.aload_n 0, 1) := dk_42 (dk_at dksX4_account_1 15 rfl rfl)
theorem dX4_account_38 : decode cX4_account 38 = .ok (.iconst 2, 1) := dk_5 (dk_at dksX4_account_1 16 rfl rfl)
theorem dX4_account_39 : decode cX4_account 39 = .ok (.invokevirtual 87, 3) := dk_182 0 87 (dk_at dksX4_account_1 17 rfl rfl)
theorem dX4_account_42 : decode cX4_account 42 = .ok (.ireturn, 1) := dk_172 (dk_at dksX4_account_1 20 rfl rfl)
theorem c_334_0 : LkP (OkP 334) [(0, o_aload 0 1), (1, o_push 1 (.int 0)), (2, o_put 155 1), (5, o_aload 0 1), (6, o_iload 1 1), (7, o_cv [(30, 326)] 1 3 false none), (10, o_if (fun x => decide (¬ x = 0)) 19), (13, o_aload 0 1), (14, o_push 1 (.int 1)), (15, o_cv [(30, 291)] 1 3 false none), (18, o_ret 1), (19, o_iload 2 1), (20, o_push 1 (.int 0)), (21, o_push 1 (.int 5)), (22, o_cs 293 3 false none), (25, o_if (fun x => decide (x = 0)) 37), (28, o_aload 0 1), (29, o_iload 1 1), (30, o_iload 2 1), (31, o_cv [(30, 335)] 2 3 false none), (34, o_goto 42), (37, o_aload 0 1), (38, o_push 1 (.int 2)), (39, o_cv [(30, 291)] 1 3 false none), (42, o_ret 1)] := lkp_c (P := OkP 334) ⟨(PuOK.ok (ok_aload_n dX4_account_0 rfl)), m_aload⟩ (
  lkp_c (P := OkP 334) ⟨(PuOK.ok (ok_iconst dX4_account_1 rfl)), m_push⟩ (
  lkp_c (P := OkP 334) ⟨ok_put ⟨"TollRoadModel", q3087, Or.inl rfl⟩ rfl fd_155 rfl dX4_account_2, m_put⟩ (
  lkp_c (P := OkP 334) ⟨(PuOK.ok (ok_aload_n dX4_account_5 rfl)), m_aload⟩ (
  lkp_c (P := OkP 334) ⟨(PuOK.ok (ok_iload_n dX4_account_6 rfl)), m_iload⟩ (
  lkp_c (P := OkP 334) ⟨ok_cv (List.forall_mem_cons.mpr ⟨tg_V (ci := 30) (r := CLr 30) (y := 326) rfl ⟨rfl, by decide⟩ rfl q3363 q3365 qs65 q139 q3366 ⟨cn_34.1, cn_34.2, pd_77⟩ dX4_account_7, (List.forall_mem_nil _)⟩) hd_no, m_cv⟩ (
  lkp_c (P := OkP 334) ⟨(PuOK.ok (ok_if_ne dX4_account_10 rfl)), m_if⟩ (
  lkp_c (P := OkP 334) ⟨(PuOK.ok (ok_aload_n dX4_account_13 rfl)), m_aload⟩ (
  lkp_c (P := OkP 334) ⟨(PuOK.ok (ok_iconst dX4_account_14 rfl)), m_push⟩ (
  lkp_c (P := OkP 334) ⟨ok_cv (List.forall_mem_cons.mpr ⟨tg_V (ci := 30) (r := CLr 30) (y := 291) rfl ⟨rfl, by decide⟩ rfl q3206 q3208 qs42 q139 q3209 ⟨cn_34.1, cn_34.2, pd_48⟩ dX4_account_15, (List.forall_mem_nil _)⟩) hd_no, m_cv⟩ (
  lkp_c (P := OkP 334) ⟨ok_iret rfl rfl (by decide) dX4_account_18, m_ret⟩ (
  lkp_c (P := OkP 334) ⟨(PuOK.ok (ok_iload_n dX4_account_19 rfl)), m_iload⟩ (
  lkp_c (P := OkP 334) ⟨(PuOK.ok (ok_iconst dX4_account_20 rfl)), m_push⟩ (
  lkp_c (P := OkP 334) ⟨(PuOK.ok (ok_iconst dX4_account_21 rfl)), m_push⟩ (
  lkp_c (P := OkP 334) ⟨ok_cs (tg_S ⟨rfl, by decide⟩ q3214 q3215 q139 q3216 ⟨cn_34.1, cn_34.2, pd_121⟩ dX4_account_22) hd_no, m_cs⟩ (
  lkp_c (P := OkP 334) ⟨(PuOK.ok (ok_if_eq dX4_account_25 rfl)), m_if⟩ (
  lkp_c (P := OkP 334) ⟨(PuOK.ok (ok_aload_n dX4_account_28 rfl)), m_aload⟩ (
  lkp_c (P := OkP 334) ⟨(PuOK.ok (ok_iload_n dX4_account_29 rfl)), m_iload⟩ (
  lkp_c (P := OkP 334) ⟨(PuOK.ok (ok_iload_n dX4_account_30 rfl)), m_iload⟩ (
  lkp_c (P := OkP 334) ⟨ok_cv (List.forall_mem_cons.mpr ⟨tg_V (ci := 30) (r := CLr 30) (y := 335) rfl ⟨rfl, by decide⟩ rfl q3399 q3401 qs71 q139 q3402 ⟨cn_34.1, cn_34.2, pd_1⟩ dX4_account_31, (List.forall_mem_nil _)⟩) hd_no, m_cv⟩ (
  lkp_c (P := OkP 334) ⟨(PuOK.ok (ok_goto dX4_account_34 rfl)), m_goto⟩ (
  lkp_c (P := OkP 334) ⟨(PuOK.ok (ok_aload_n dX4_account_37 rfl)), m_aload⟩ (
  lkp_c (P := OkP 334) ⟨(PuOK.ok (ok_iconst dX4_account_38 rfl)), m_push⟩ (
  lkp_c (P := OkP 334) ⟨ok_cv (List.forall_mem_cons.mpr ⟨tg_V (ci := 30) (r := CLr 30) (y := 291) rfl ⟨rfl, by decide⟩ rfl q3206 q3208 qs42 q139 q3209 ⟨cn_34.1, cn_34.2, pd_48⟩ dX4_account_39, (List.forall_mem_nil _)⟩) hd_no, m_cv⟩ (
  lkp_c (P := OkP 334) ⟨ok_iret rfl rfl (by decide) dX4_account_42, m_ret⟩ (
  trivial)))))))))))))))))))))))))
theorem mt_334 : MtOK TB NT IT 334 := ⟨by decide +kernel, rfl, (fun h => by cases h), Or.inl ⟨rfl, rfl⟩, rfl, by decide, lk2_all (P := OkP 334) ⟨c_334_0, trivial⟩⟩
def dkwX4_of_0 : List UInt8 := [42, 180, 0, 7, 17, 0, 187, 16, 6, 27, 104, 96, 28, 96, 46, 172]
abbrev dktX4_of_0 : List UInt8 := dkwX4_of_0 ++ []
theorem dksX4_of_0 : cX4_of.data.toList.drop 0 = dktX4_of_0 := by decide +kernel
theorem dX4_of_0 : decode cX4_of 0 = .ok (.aload_n 0, 1) := dk_42 (dk_at dksX4_of_0 0 rfl rfl)
theorem dX4_of_1 : decode cX4_of 1 = .ok (.getfield 7, 3) := dk_180 0 7 (dk_at dksX4_of_0 1 rfl rfl)
theorem dX4_of_4 : decode cX4_of 4 = .ok (.sipush 187, 3) := dk_17 0 187 (dk_at dksX4_of_0 4 rfl rfl)
theorem dX4_of_7 : decode cX4_of 7 = .ok (.bipush 6, 2) := dk_16 6 (dk_at dksX4_of_0 7 rfl rfl)
theorem dX4_of_9 : decode cX4_of 9 = .ok (.iload_n 1, 1) := dk_27 (dk_at dksX4_of_0 9 rfl rfl)
theorem dX4_of_10 : decode cX4_of 10 = .ok (.imul, 1) := dk_104 (dk_at dksX4_of_0 10 rfl rfl)
theorem dX4_of_11 : decode cX4_of 11 = .ok (.iadd, 1) := dk_96 (dk_at dksX4_of_0 11 rfl rfl)
theorem dX4_of_12 : decode cX4_of 12 = .ok (.iload_n 2, 1) := dk_28 (dk_at dksX4_of_0 12 rfl rfl)
theorem dX4_of_13 : decode cX4_of 13 = .ok (.iadd, 1) := dk_96 (dk_at dksX4_of_0 13 rfl rfl)
theorem dX4_of_14 : decode cX4_of 14 = .ok (.iaload, 1) := dk_46 (dk_at dksX4_of_0 14 rfl rfl)
theorem dX4_of_15 : decode cX4_of 15 = .ok (.ireturn, 1) := dk_172 (dk_at dksX4_of_0 15 rfl rfl)
theorem c_335_0 : LkP (OkP 335) [(0, o_aload 0 1), (1, o_get 148), (4, o_push 3 (.int 187)), (7, o_push 2 (.int 6)), (9, o_iload 1 1), (10, o_iop (fun x y => x * y)), (11, o_iop (fun x y => x + y)), (12, o_iload 2 1), (13, o_iop (fun x y => x + y)), (14, o_rdI 0), (15, o_ret 1)] := lkp_c (P := OkP 335) ⟨(PuOK.ok (ok_aload_n dX4_of_0 rfl)), m_aload⟩ (
  lkp_c (P := OkP 335) ⟨ok_get ⟨"TollRoadModel", q3080, Or.inl rfl⟩ dX4_of_1, m_get⟩ (
  lkp_c (P := OkP 335) ⟨(PuOK.ok (ok_sipush dX4_of_4 rfl)), m_push⟩ (
  lkp_c (P := OkP 335) ⟨(PuOK.ok (ok_bipush dX4_of_7 rfl)), m_push⟩ (
  lkp_c (P := OkP 335) ⟨(PuOK.ok (ok_iload_n dX4_of_9 rfl)), m_iload⟩ (
  lkp_c (P := OkP 335) ⟨(PuOK.ok (ok_imul dX4_of_10)), m_iop⟩ (
  lkp_c (P := OkP 335) ⟨(PuOK.ok (ok_iadd dX4_of_11)), m_iop⟩ (
  lkp_c (P := OkP 335) ⟨(PuOK.ok (ok_iload_n dX4_of_12 rfl)), m_iload⟩ (
  lkp_c (P := OkP 335) ⟨(PuOK.ok (ok_iadd dX4_of_13)), m_iop⟩ (
  lkp_c (P := OkP 335) ⟨ok_iald dX4_of_14, m_rdI⟩ (
  lkp_c (P := OkP 335) ⟨ok_iret rfl rfl (by decide) dX4_of_15, m_ret⟩ (
  trivial)))))))))))
theorem mt_335 : MtOK TB NT IT 335 := ⟨by decide +kernel, rfl, (fun h => by cases h), Or.inl ⟨rfl, rfl⟩, rfl, by decide, lk2_all (P := OkP 335) ⟨c_335_0, trivial⟩⟩
def dkwX4_pay_2 : List UInt8 := [182, 0, 247, 172]
abbrev dktX4_pay_2 : List UInt8 := dkwX4_pay_2 ++ []
def dkwX4_pay_1 : List UInt8 := [184, 0, 91, 154, 0, 9, 42, 5, 182, 0, 87, 172, 42, 27, 3, 28, 182, 0, 224, 42, 27, 3]
abbrev dktX4_pay_1 : List UInt8 := dkwX4_pay_1 ++ dktX4_pay_2
def dkwX4_pay_0 : List UInt8 := [42, 3, 181, 0, 81, 42, 27, 182, 0, 228, 154, 0, 9, 42, 4, 182, 0, 87, 172, 28, 4, 18, 178]
abbrev dktX4_pay_0 : List UInt8 := dkwX4_pay_0 ++ dktX4_pay_1
theorem dksX4_pay_0 : cX4_pay.data.toList.drop 0 = dktX4_pay_0 := by decide +kernel
theorem dksX4_pay_1 : cX4_pay.data.toList.drop 23 = dktX4_pay_1 := dk_seg dksX4_pay_0 23 rfl rfl
theorem dksX4_pay_2 : cX4_pay.data.toList.drop 45 = dktX4_pay_2 := dk_seg dksX4_pay_1 22 rfl rfl
theorem dX4_pay_0 : decode cX4_pay 0 = .ok (.aload_n 0, 1) := dk_42 (dk_at dksX4_pay_0 0 rfl rfl)
theorem dX4_pay_1 : decode cX4_pay 1 = .ok (.iconst 0, 1) := dk_3 (dk_at dksX4_pay_0 1 rfl rfl)
theorem dX4_pay_2 : decode cX4_pay 2 = .ok (.putfield 81, 3) := dk_181 0 81 (dk_at dksX4_pay_0 2 rfl rfl)
theorem dX4_pay_5 : decode cX4_pay 5 = .ok (.aload_n 0, 1) := dk_42 (dk_at dksX4_pay_0 5 rfl rfl)
theorem dX4_pay_6 : decode cX4_pay 6 = .ok (.iload_n 1, 1) := dk_27 (dk_at dksX4_pay_0 6 rfl rfl)
theorem dX4_pay_7 : decode cX4_pay 7 = .ok (.invokevirtual 228, 3) := dk_182 0 228 (dk_at dksX4_pay_0 7 rfl rfl)
theorem dX4_pay_10 : decode cX4_pay 10 = .ok (.ifCond .ne 9, 3) := dk_154 0 9 (dk_at dksX4_pay_0 10 rfl rfl)
theorem dX4_pay_13 : decode cX4_pay 13 = .ok (.aload_n 0, 1) := dk_42 (dk_at dksX4_pay_0 13 rfl rfl)
theorem dX4_pay_14 : decode cX4_pay 14 = .ok (.iconst 1, 1) := dk_4 (dk_at dksX4_pay_0 14 rfl rfl)
theorem dX4_pay_15 : decode cX4_pay 15 = .ok (.invokevirtual 87, 3) := dk_182 0 87 (dk_at dksX4_pay_0 15 rfl rfl)
theorem dX4_pay_18 : decode cX4_pay 18 = .ok (.ireturn, 1) := dk_172 (dk_at dksX4_pay_0 18 rfl rfl)
theorem dX4_pay_19 : decode cX4_pay 19 = .ok (.iload_n 2, 1) := dk_28 (dk_at dksX4_pay_0 19 rfl rfl)
theorem dX4_pay_20 : decode cX4_pay 20 = .ok (.iconst 1, 1) := dk_4 (dk_at dksX4_pay_0 20 rfl rfl)
theorem dX4_pay_21 : decode cX4_pay 21 = .ok (.ldc 178, 2) := dk_18 178 (dk_at dksX4_pay_0 21 rfl rfl)
theorem dX4_pay_23 : decode cX4_pay 23 = .ok (.invokestatic 91, 3) := dk_184 0 91 (dk_at dksX4_pay_1 0 rfl rfl)
theorem dX4_pay_26 : decode cX4_pay 26 = .ok (.ifCond .ne 9, 3) := dk_154 0 9 (dk_at dksX4_pay_1 3 rfl rfl)
theorem dX4_pay_29 : decode cX4_pay 29 = .ok (.aload_n 0, 1) := dk_42 (dk_at dksX4_pay_1 6 rfl rfl)
theorem dX4_pay_30 : decode cX4_pay 30 = .ok (.iconst 2, 1) := dk_5 (dk_at dksX4_pay_1 7 rfl rfl)
theorem dX4_pay_31 : decode cX4_pay 31 = .ok (.invokevirtual 87, 3) := dk_182 0 87 (dk_at dksX4_pay_1 8 rfl rfl)
theorem dX4_pay_34 : decode cX4_pay 34 = .ok (.ireturn, 1) := dk_172 (dk_at dksX4_pay_1 11 rfl rfl)
theorem dX4_pay_35 : decode cX4_pay 35 = .ok (.aload_n 0, 1) := dk_42 (dk_at dksX4_pay_1 12 rfl rfl)
theorem dX4_pay_36 : decode cX4_pay 36 = .ok (.iload_n 1, 1) := dk_27 (dk_at dksX4_pay_1 13 rfl rfl)
theorem dX4_pay_37 : decode cX4_pay 37 = .ok (.iconst 0, 1) := dk_3 (dk_at dksX4_pay_1 14 rfl rfl)
theorem dX4_pay_38 : decode cX4_pay 38 = .ok (.iload_n 2, 1) := dk_28 (dk_at dksX4_pay_1 15 rfl rfl)
theorem dX4_pay_39 : decode cX4_pay 39 = .ok (.invokevirtual 224, 3) := dk_182 0 224 (dk_at dksX4_pay_1 16 rfl rfl)
theorem dX4_pay_42 : decode cX4_pay 42 = .ok (.aload_n 0, 1) := dk_42 (dk_at dksX4_pay_1 19 rfl rfl)
theorem dX4_pay_43 : decode cX4_pay 43 = .ok (.iload_n 1, 1) := dk_27 (dk_at dksX4_pay_1 20 rfl rfl)
theorem dX4_pay_44 : decode cX4_pay 44 = .ok (.iconst 0, 1) := dk_3 (dk_at dksX4_pay_1 21 rfl rfl)
theorem dX4_pay_45 : decode cX4_pay 45 = .ok (.invokevirtual 247, 3) := dk_182 0 247 (dk_at dksX4_pay_2 0 rfl rfl)
theorem dX4_pay_48 : decode cX4_pay 48 = .ok (.ireturn, 1) := dk_172 (dk_at dksX4_pay_2 3 rfl rfl)
theorem c_336_0 : LkP (OkP 336) [(0, o_aload 0 1), (1, o_push 1 (.int 0)), (2, o_put 155 1), (5, o_aload 0 1), (6, o_iload 1 1), (7, o_cv [(30, 326)] 1 3 false none), (10, o_if (fun x => decide (¬ x = 0)) 19), (13, o_aload 0 1), (14, o_push 1 (.int 1)), (15, o_cv [(30, 291)] 1 3 false none), (18, o_ret 1), (19, o_iload 2 1), (20, o_push 1 (.int 1)), (21, o_push 2 (.int 100000)), (23, o_cs 293 3 false none), (26, o_if (fun x => decide (¬ x = 0)) 35), (29, o_aload 0 1), (30, o_push 1 (.int 2)), (31, o_cv [(30, 291)] 1 3 false none), (34, o_ret 1), (35, o_aload 0 1), (36, o_iload 1 1), (37, o_push 1 (.int 0)), (38, o_iload 2 1), (39, o_cv [(30, 314)] 3 3 true none), (42, o_aload 0 1), (43, o_iload 1 1), (44, o_push 1 (.int 0)), (45, o_cv [(30, 335)] 2 3 false none), (48, o_ret 1)] := lkp_c (P := OkP 336) ⟨(PuOK.ok (ok_aload_n dX4_pay_0 rfl)), m_aload⟩ (
  lkp_c (P := OkP 336) ⟨(PuOK.ok (ok_iconst dX4_pay_1 rfl)), m_push⟩ (
  lkp_c (P := OkP 336) ⟨ok_put ⟨"TollRoadModel", q3087, Or.inl rfl⟩ rfl fd_155 rfl dX4_pay_2, m_put⟩ (
  lkp_c (P := OkP 336) ⟨(PuOK.ok (ok_aload_n dX4_pay_5 rfl)), m_aload⟩ (
  lkp_c (P := OkP 336) ⟨(PuOK.ok (ok_iload_n dX4_pay_6 rfl)), m_iload⟩ (
  lkp_c (P := OkP 336) ⟨ok_cv (List.forall_mem_cons.mpr ⟨tg_V (ci := 30) (r := CLr 30) (y := 326) rfl ⟨rfl, by decide⟩ rfl q3363 q3365 qs65 q139 q3366 ⟨cn_34.1, cn_34.2, pd_77⟩ dX4_pay_7, (List.forall_mem_nil _)⟩) hd_no, m_cv⟩ (
  lkp_c (P := OkP 336) ⟨(PuOK.ok (ok_if_ne dX4_pay_10 rfl)), m_if⟩ (
  lkp_c (P := OkP 336) ⟨(PuOK.ok (ok_aload_n dX4_pay_13 rfl)), m_aload⟩ (
  lkp_c (P := OkP 336) ⟨(PuOK.ok (ok_iconst dX4_pay_14 rfl)), m_push⟩ (
  lkp_c (P := OkP 336) ⟨ok_cv (List.forall_mem_cons.mpr ⟨tg_V (ci := 30) (r := CLr 30) (y := 291) rfl ⟨rfl, by decide⟩ rfl q3206 q3208 qs42 q139 q3209 ⟨cn_34.1, cn_34.2, pd_48⟩ dX4_pay_15, (List.forall_mem_nil _)⟩) hd_no, m_cv⟩ (
  lkp_c (P := OkP 336) ⟨ok_iret rfl rfl (by decide) dX4_pay_18, m_ret⟩ (
  lkp_c (P := OkP 336) ⟨(PuOK.ok (ok_iload_n dX4_pay_19 rfl)), m_iload⟩ (
  lkp_c (P := OkP 336) ⟨(PuOK.ok (ok_iconst dX4_pay_20 rfl)), m_push⟩ (
  lkp_c (P := OkP 336) ⟨(PuOK.ok (ok_ldc q3308 dX4_pay_21)), m_push⟩ (
  lkp_c (P := OkP 336) ⟨ok_cs (tg_S ⟨rfl, by decide⟩ q3214 q3215 q139 q3216 ⟨cn_34.1, cn_34.2, pd_121⟩ dX4_pay_23) hd_no, m_cs⟩ (
  lkp_c (P := OkP 336) ⟨(PuOK.ok (ok_if_ne dX4_pay_26 rfl)), m_if⟩ (
  lkp_c (P := OkP 336) ⟨(PuOK.ok (ok_aload_n dX4_pay_29 rfl)), m_aload⟩ (
  lkp_c (P := OkP 336) ⟨(PuOK.ok (ok_iconst dX4_pay_30 rfl)), m_push⟩ (
  lkp_c (P := OkP 336) ⟨ok_cv (List.forall_mem_cons.mpr ⟨tg_V (ci := 30) (r := CLr 30) (y := 291) rfl ⟨rfl, by decide⟩ rfl q3206 q3208 qs42 q139 q3209 ⟨cn_34.1, cn_34.2, pd_48⟩ dX4_pay_31, (List.forall_mem_nil _)⟩) hd_no, m_cv⟩ (
  lkp_c (P := OkP 336) ⟨ok_iret rfl rfl (by decide) dX4_pay_34, m_ret⟩ (
  lkp_c (P := OkP 336) ⟨(PuOK.ok (ok_aload_n dX4_pay_35 rfl)), m_aload⟩ (
  lkp_c (P := OkP 336) ⟨(PuOK.ok (ok_iload_n dX4_pay_36 rfl)), m_iload⟩ (
  lkp_c (P := OkP 336) ⟨(PuOK.ok (ok_iconst dX4_pay_37 rfl)), m_push⟩ (
  lkp_c (P := OkP 336) ⟨(PuOK.ok (ok_iload_n dX4_pay_38 rfl)), m_iload⟩ (
  lkp_c (P := OkP 336) ⟨ok_cv (List.forall_mem_cons.mpr ⟨tg_V (ci := 30) (r := CLr 30) (y := 314) rfl ⟨rfl, by decide⟩ rfl q3313 q3315 qs59 q139 q3316 ⟨cn_34.1, cn_34.2, pd_105⟩ dX4_pay_39, (List.forall_mem_nil _)⟩) hd_no, m_cv⟩ (
  lkp_c (P := OkP 336) ⟨(PuOK.ok (ok_aload_n dX4_pay_42 rfl)), m_aload⟩ (
  lkp_c (P := OkP 336) ⟨(PuOK.ok (ok_iload_n dX4_pay_43 rfl)), m_iload⟩ (
  lkp_c (P := OkP 336) ⟨(PuOK.ok (ok_iconst dX4_pay_44 rfl)), m_push⟩ (
  lkp_c (P := OkP 336) ⟨ok_cv (List.forall_mem_cons.mpr ⟨tg_V (ci := 30) (r := CLr 30) (y := 335) rfl ⟨rfl, by decide⟩ rfl q3399 q3401 qs71 q139 q3402 ⟨cn_34.1, cn_34.2, pd_1⟩ dX4_pay_45, (List.forall_mem_nil _)⟩) hd_no, m_cv⟩ (
  lkp_c (P := OkP 336) ⟨ok_iret rfl rfl (by decide) dX4_pay_48, m_ret⟩ (
  trivial))))))))))))))))))))))))))))))
theorem mt_336 : MtOK TB NT IT 336 := ⟨by decide +kernel, rfl, (fun h => by cases h), Or.inl ⟨rfl, rfl⟩, rfl, by decide, lk2_all (P := OkP 336) ⟨c_336_0, trivial⟩⟩
def dkwX4_vehicle_3 : List UInt8 := [182, 1, 8, 172, 42, 27, 182, 1, 11, 172, 42, 5, 182, 0, 87, 172]
abbrev dktX4_vehicle_3 : List UInt8 := dkwX4_vehicle_3 ++ []
def dkwX4_vehicle_2 : List UInt8 := [42, 27, 28, 182, 1, 2, 172, 42, 27, 4, 182, 1, 5, 172, 42, 27, 6, 182, 1, 5, 172, 42, 27]
abbrev dktX4_vehicle_2 : List UInt8 := dkwX4_vehicle_2 ++ dktX4_vehicle_3
def dkwX4_vehicle_1 : List UInt8 := [170, 0, 0, 0, 0, 0, 0, 77, 0, 0, 0, 0, 0, 0, 0, 6, 0, 0, 0, 44, 0, 0, 0, 44, 0, 0, 0, 44, 0, 0, 0, 51, 0, 0, 0, 58, 0, 0, 0, 65, 0, 0, 0, 71]
abbrev dktX4_vehicle_1 : List UInt8 := dkwX4_vehicle_1 ++ dktX4_vehicle_2
def dkwX4_vehicle_0 : List UInt8 := [42, 3, 181, 0, 81, 42, 27, 182, 0, 255, 154, 0, 9, 42, 4, 182, 0, 87, 172, 28]
abbrev dktX4_vehicle_0 : List UInt8 := dkwX4_vehicle_0 ++ dktX4_vehicle_1
theorem dksX4_vehicle_0 : cX4_vehicle.data.toList.drop 0 = dktX4_vehicle_0 := by decide +kernel
theorem dksX4_vehicle_1 : cX4_vehicle.data.toList.drop 20 = dktX4_vehicle_1 := dk_seg dksX4_vehicle_0 20 rfl rfl
theorem dksX4_vehicle_2 : cX4_vehicle.data.toList.drop 64 = dktX4_vehicle_2 := dk_seg dksX4_vehicle_1 44 rfl rfl
theorem dksX4_vehicle_3 : cX4_vehicle.data.toList.drop 87 = dktX4_vehicle_3 := dk_seg dksX4_vehicle_2 23 rfl rfl
theorem dX4_vehicle_0 : decode cX4_vehicle 0 = .ok (.aload_n 0, 1) := dk_42 (dk_at dksX4_vehicle_0 0 rfl rfl)
theorem dX4_vehicle_1 : decode cX4_vehicle 1 = .ok (.iconst 0, 1) := dk_3 (dk_at dksX4_vehicle_0 1 rfl rfl)
theorem dX4_vehicle_2 : decode cX4_vehicle 2 = .ok (.putfield 81, 3) := dk_181 0 81 (dk_at dksX4_vehicle_0 2 rfl rfl)
theorem dX4_vehicle_5 : decode cX4_vehicle 5 = .ok (.aload_n 0, 1) := dk_42 (dk_at dksX4_vehicle_0 5 rfl rfl)
theorem dX4_vehicle_6 : decode cX4_vehicle 6 = .ok (.iload_n 1, 1) := dk_27 (dk_at dksX4_vehicle_0 6 rfl rfl)
theorem dX4_vehicle_7 : decode cX4_vehicle 7 = .ok (.invokevirtual 255, 3) := dk_182 0 255 (dk_at dksX4_vehicle_0 7 rfl rfl)
theorem dX4_vehicle_10 : decode cX4_vehicle 10 = .ok (.ifCond .ne 9, 3) := dk_154 0 9 (dk_at dksX4_vehicle_0 10 rfl rfl)
theorem dX4_vehicle_13 : decode cX4_vehicle 13 = .ok (.aload_n 0, 1) := dk_42 (dk_at dksX4_vehicle_0 13 rfl rfl)
theorem dX4_vehicle_14 : decode cX4_vehicle 14 = .ok (.iconst 1, 1) := dk_4 (dk_at dksX4_vehicle_0 14 rfl rfl)
theorem dX4_vehicle_15 : decode cX4_vehicle 15 = .ok (.invokevirtual 87, 3) := dk_182 0 87 (dk_at dksX4_vehicle_0 15 rfl rfl)
theorem dX4_vehicle_18 : decode cX4_vehicle 18 = .ok (.ireturn, 1) := dk_172 (dk_at dksX4_vehicle_0 18 rfl rfl)
theorem dX4_vehicle_19 : decode cX4_vehicle 19 = .ok (.iload_n 2, 1) := dk_28 (dk_at dksX4_vehicle_0 19 rfl rfl)
theorem dX4_vehicle_20 : decode cX4_vehicle 20 = .ok (.tableswitch 77 0 6 #[44, 44, 44, 51, 58, 65, 71], 44) := by decide +kernel
theorem dX4_vehicle_64 : decode cX4_vehicle 64 = .ok (.aload_n 0, 1) := dk_42 (dk_at dksX4_vehicle_2 0 rfl rfl)
theorem dX4_vehicle_65 : decode cX4_vehicle 65 = .ok (.iload_n 1, 1) := dk_27 (dk_at dksX4_vehicle_2 1 rfl rfl)
theorem dX4_vehicle_66 : decode cX4_vehicle 66 = .ok (.iload_n 2, 1) := dk_28 (dk_at dksX4_vehicle_2 2 rfl rfl)
theorem dX4_vehicle_67 : decode cX4_vehicle 67 = .ok (.invokevirtual 258, 3) := dk_182 1 2 (dk_at dksX4_vehicle_2 3 rfl rfl)
theorem dX4_vehicle_70 : decode cX4_vehicle 70 = .ok (.ireturn, 1) := dk_172 (dk_at dksX4_vehicle_2 6 rfl rfl)
theorem dX4_vehicle_71 : decode cX4_vehicle 71 = .ok (.aload_n 0, 1) := dk_42 (dk_at dksX4_vehicle_2 7 rfl rfl)
theorem dX4_vehicle_72 : decode cX4_vehicle 72 = .ok (.iload_n 1, 1) := dk_27 (dk_at dksX4_vehicle_2 8 rfl rfl)
theorem dX4_vehicle_73 : decode cX4_vehicle 73 = .ok (.iconst 1, 1) := dk_4 (dk_at dksX4_vehicle_2 9 rfl rfl)
theorem dX4_vehicle_74 : decode cX4_vehicle 74 = .ok (.invokevirtual 261, 3) := dk_182 1 5 (dk_at dksX4_vehicle_2 10 rfl rfl)
theorem dX4_vehicle_77 : decode cX4_vehicle 77 = .ok (.ireturn, 1) := dk_172 (dk_at dksX4_vehicle_2 13 rfl rfl)
theorem dX4_vehicle_78 : decode cX4_vehicle 78 = .ok (.aload_n 0, 1) := dk_42 (dk_at dksX4_vehicle_2 14 rfl rfl)
theorem dX4_vehicle_79 : decode cX4_vehicle 79 = .ok (.iload_n 1, 1) := dk_27 (dk_at dksX4_vehicle_2 15 rfl rfl)
theorem dX4_vehicle_80 : decode cX4_vehicle 80 = .ok (.iconst 3, 1) := dk_6 (dk_at dksX4_vehicle_2 16 rfl rfl)
theorem dX4_vehicle_81 : decode cX4_vehicle 81 = .ok (.invokevirtual 261, 3) := dk_182 1 5 (dk_at dksX4_vehicle_2 17 rfl rfl)
theorem dX4_vehicle_84 : decode cX4_vehicle 84 = .ok (.ireturn, 1) := dk_172 (dk_at dksX4_vehicle_2 20 rfl rfl)
theorem dX4_vehicle_85 : decode cX4_vehicle 85 = .ok (.aload_n 0, 1) := dk_42 (dk_at dksX4_vehicle_2 21 rfl rfl)
theorem dX4_vehicle_86 : decode cX4_vehicle 86 = .ok (.iload_n 1, 1) := dk_27 (dk_at dksX4_vehicle_2 22 rfl rfl)
theorem dX4_vehicle_87 : decode cX4_vehicle 87 = .ok (.invokevirtual 264, 3) := dk_182 1 8 (dk_at dksX4_vehicle_3 0 rfl rfl)
theorem dX4_vehicle_90 : decode cX4_vehicle 90 = .ok (.ireturn, 1) := dk_172 (dk_at dksX4_vehicle_3 3 rfl rfl)
theorem dX4_vehicle_91 : decode cX4_vehicle 91 = .ok (.aload_n 0, 1) := dk_42 (dk_at dksX4_vehicle_3 4 rfl rfl)
theorem dX4_vehicle_92 : decode cX4_vehicle 92 = .ok (.iload_n 1, 1) := dk_27 (dk_at dksX4_vehicle_3 5 rfl rfl)
theorem dX4_vehicle_93 : decode cX4_vehicle 93 = .ok (.invokevirtual 267, 3) := dk_182 1 11 (dk_at dksX4_vehicle_3 6 rfl rfl)
theorem dX4_vehicle_96 : decode cX4_vehicle 96 = .ok (.ireturn, 1) := dk_172 (dk_at dksX4_vehicle_3 9 rfl rfl)
theorem dX4_vehicle_97 : decode cX4_vehicle 97 = .ok (.aload_n 0, 1) := dk_42 (dk_at dksX4_vehicle_3 10 rfl rfl)
theorem dX4_vehicle_98 : decode cX4_vehicle 98 = .ok (.iconst 2, 1) := dk_5 (dk_at dksX4_vehicle_3 11 rfl rfl)
theorem dX4_vehicle_99 : decode cX4_vehicle 99 = .ok (.invokevirtual 87, 3) := dk_182 0 87 (dk_at dksX4_vehicle_3 12 rfl rfl)
theorem dX4_vehicle_102 : decode cX4_vehicle 102 = .ok (.ireturn, 1) := dk_172 (dk_at dksX4_vehicle_3 15 rfl rfl)
theorem c_337_0 : LkP (OkP 337) [(0, o_aload 0 1), (1, o_push 1 (.int 0)), (2, o_put 155 1), (5, o_aload 0 1), (6, o_iload 1 1), (7, o_cv [(30, 338)] 1 3 false none), (10, o_if (fun x => decide (¬ x = 0)) 19), (13, o_aload 0 1), (14, o_push 1 (.int 1)), (15, o_cv [(30, 291)] 1 3 false none), (18, o_ret 1), (19, o_iload 2 1), (20, o_sw (swt 0 [64, 64, 64, 71, 78, 85, 91] 97))] := lkp_c (P := OkP 337) ⟨(PuOK.ok (ok_aload_n dX4_vehicle_0 rfl)), m_aload⟩ (
  lkp_c (P := OkP 337) ⟨(PuOK.ok (ok_iconst dX4_vehicle_1 rfl)), m_push⟩ (
  lkp_c (P := OkP 337) ⟨ok_put ⟨"TollRoadModel", q3087, Or.inl rfl⟩ rfl fd_155 rfl dX4_vehicle_2, m_put⟩ (
  lkp_c (P := OkP 337) ⟨(PuOK.ok (ok_aload_n dX4_vehicle_5 rfl)), m_aload⟩ (
  lkp_c (P := OkP 337) ⟨(PuOK.ok (ok_iload_n dX4_vehicle_6 rfl)), m_iload⟩ (
  lkp_c (P := OkP 337) ⟨ok_cv (List.forall_mem_cons.mpr ⟨tg_V (ci := 30) (r := CLr 30) (y := 338) rfl ⟨rfl, by decide⟩ rfl q3411 q3413 qs72 q139 q3414 ⟨cn_34.1, cn_34.2, pd_77⟩ dX4_vehicle_7, (List.forall_mem_nil _)⟩) hd_no, m_cv⟩ (
  lkp_c (P := OkP 337) ⟨(PuOK.ok (ok_if_ne dX4_vehicle_10 rfl)), m_if⟩ (
  lkp_c (P := OkP 337) ⟨(PuOK.ok (ok_aload_n dX4_vehicle_13 rfl)), m_aload⟩ (
  lkp_c (P := OkP 337) ⟨(PuOK.ok (ok_iconst dX4_vehicle_14 rfl)), m_push⟩ (
  lkp_c (P := OkP 337) ⟨ok_cv (List.forall_mem_cons.mpr ⟨tg_V (ci := 30) (r := CLr 30) (y := 291) rfl ⟨rfl, by decide⟩ rfl q3206 q3208 qs42 q139 q3209 ⟨cn_34.1, cn_34.2, pd_48⟩ dX4_vehicle_15, (List.forall_mem_nil _)⟩) hd_no, m_cv⟩ (
  lkp_c (P := OkP 337) ⟨ok_iret rfl rfl (by decide) dX4_vehicle_18, m_ret⟩ (
  lkp_c (P := OkP 337) ⟨(PuOK.ok (ok_iload_n dX4_vehicle_19 rfl)), m_iload⟩ (
  lkp_c (P := OkP 337) ⟨(PuOK.ok (ok_tsw dX4_vehicle_20 (by decide +kernel))), m_sw⟩ (
  trivial)))))))))))))
theorem c_337_1 : LkP (OkP 337) [(64, o_aload 0 1), (65, o_iload 1 1), (66, o_iload 2 1), (67, o_cv [(30, 339)] 2 3 false none), (70, o_ret 1), (71, o_aload 0 1), (72, o_iload 1 1), (73, o_push 1 (.int 1)), (74, o_cv [(30, 340)] 2 3 false none), (77, o_ret 1), (78, o_aload 0 1), (79, o_iload 1 1), (80, o_push 1 (.int 3)), (81, o_cv [(30, 340)] 2 3 false none), (84, o_ret 1), (85, o_aload 0 1), (86, o_iload 1 1), (87, o_cv [(30, 341)] 1 3 false none), (90, o_ret 1), (91, o_aload 0 1), (92, o_iload 1 1), (93, o_cv [(30, 342)] 1 3 false none), (96, o_ret 1), (97, o_aload 0 1), (98, o_push 1 (.int 2)), (99, o_cv [(30, 291)] 1 3 false none), (102, o_ret 1)] := lkp_c (P := OkP 337) ⟨(PuOK.ok (ok_aload_n dX4_vehicle_64 rfl)), m_aload⟩ (
  lkp_c (P := OkP 337) ⟨(PuOK.ok (ok_iload_n dX4_vehicle_65 rfl)), m_iload⟩ (
  lkp_c (P := OkP 337) ⟨(PuOK.ok (ok_iload_n dX4_vehicle_66 rfl)), m_iload⟩ (
  lkp_c (P := OkP 337) ⟨ok_cv (List.forall_mem_cons.mpr ⟨tg_V (ci := 30) (r := CLr 30) (y := 339) rfl ⟨rfl, by decide⟩ rfl q3415 q3417 qs73 q139 q3418 ⟨cn_34.1, cn_34.2, pd_1⟩ dX4_vehicle_67, (List.forall_mem_nil _)⟩) hd_no, m_cv⟩ (
  lkp_c (P := OkP 337) ⟨ok_iret rfl rfl (by decide) dX4_vehicle_70, m_ret⟩ (
  lkp_c (P := OkP 337) ⟨(PuOK.ok (ok_aload_n dX4_vehicle_71 rfl)), m_aload⟩ (
  lkp_c (P := OkP 337) ⟨(PuOK.ok (ok_iload_n dX4_vehicle_72 rfl)), m_iload⟩ (
  lkp_c (P := OkP 337) ⟨(PuOK.ok (ok_iconst dX4_vehicle_73 rfl)), m_push⟩ (
  lkp_c (P := OkP 337) ⟨ok_cv (List.forall_mem_cons.mpr ⟨tg_V (ci := 30) (r := CLr 30) (y := 340) rfl ⟨rfl, by decide⟩ rfl q3419 q3421 qs74 q139 q3422 ⟨cn_34.1, cn_34.2, pd_1⟩ dX4_vehicle_74, (List.forall_mem_nil _)⟩) hd_no, m_cv⟩ (
  lkp_c (P := OkP 337) ⟨ok_iret rfl rfl (by decide) dX4_vehicle_77, m_ret⟩ (
  lkp_c (P := OkP 337) ⟨(PuOK.ok (ok_aload_n dX4_vehicle_78 rfl)), m_aload⟩ (
  lkp_c (P := OkP 337) ⟨(PuOK.ok (ok_iload_n dX4_vehicle_79 rfl)), m_iload⟩ (
  lkp_c (P := OkP 337) ⟨(PuOK.ok (ok_iconst dX4_vehicle_80 rfl)), m_push⟩ (
  lkp_c (P := OkP 337) ⟨ok_cv (List.forall_mem_cons.mpr ⟨tg_V (ci := 30) (r := CLr 30) (y := 340) rfl ⟨rfl, by decide⟩ rfl q3419 q3421 qs74 q139 q3422 ⟨cn_34.1, cn_34.2, pd_1⟩ dX4_vehicle_81, (List.forall_mem_nil _)⟩) hd_no, m_cv⟩ (
  lkp_c (P := OkP 337) ⟨ok_iret rfl rfl (by decide) dX4_vehicle_84, m_ret⟩ (
  lkp_c (P := OkP 337) ⟨(PuOK.ok (ok_aload_n dX4_vehicle_85 rfl)), m_aload⟩ (
  lkp_c (P := OkP 337) ⟨(PuOK.ok (ok_iload_n dX4_vehicle_86 rfl)), m_iload⟩ (
  lkp_c (P := OkP 337) ⟨ok_cv (List.forall_mem_cons.mpr ⟨tg_V (ci := 30) (r := CLr 30) (y := 341) rfl ⟨rfl, by decide⟩ rfl q3423 q3425 qs75 q139 q3426 ⟨cn_34.1, cn_34.2, pd_48⟩ dX4_vehicle_87, (List.forall_mem_nil _)⟩) hd_no, m_cv⟩ (
  lkp_c (P := OkP 337) ⟨ok_iret rfl rfl (by decide) dX4_vehicle_90, m_ret⟩ (
  lkp_c (P := OkP 337) ⟨(PuOK.ok (ok_aload_n dX4_vehicle_91 rfl)), m_aload⟩ (
  lkp_c (P := OkP 337) ⟨(PuOK.ok (ok_iload_n dX4_vehicle_92 rfl)), m_iload⟩ (
  lkp_c (P := OkP 337) ⟨ok_cv (List.forall_mem_cons.mpr ⟨tg_V (ci := 30) (r := CLr 30) (y := 342) rfl ⟨rfl, by decide⟩ rfl q3428 q3430 qs76 q139 q3431 ⟨cn_34.1, cn_34.2, pd_48⟩ dX4_vehicle_93, (List.forall_mem_nil _)⟩) hd_no, m_cv⟩ (
  lkp_c (P := OkP 337) ⟨ok_iret rfl rfl (by decide) dX4_vehicle_96, m_ret⟩ (
  lkp_c (P := OkP 337) ⟨(PuOK.ok (ok_aload_n dX4_vehicle_97 rfl)), m_aload⟩ (
  lkp_c (P := OkP 337) ⟨(PuOK.ok (ok_iconst dX4_vehicle_98 rfl)), m_push⟩ (
  lkp_c (P := OkP 337) ⟨ok_cv (List.forall_mem_cons.mpr ⟨tg_V (ci := 30) (r := CLr 30) (y := 291) rfl ⟨rfl, by decide⟩ rfl q3206 q3208 qs42 q139 q3209 ⟨cn_34.1, cn_34.2, pd_48⟩ dX4_vehicle_99, (List.forall_mem_nil _)⟩) hd_no, m_cv⟩ (
  lkp_c (P := OkP 337) ⟨ok_iret rfl rfl (by decide) dX4_vehicle_102, m_ret⟩ (
  trivial)))))))))))))))))))))))))))
theorem mt_337 : MtOK TB NT IT 337 := ⟨by decide +kernel, rfl, (fun h => by cases h), Or.inl ⟨rfl, rfl⟩, rfl, by decide, lk2_all (P := OkP 337) ⟨c_337_0, c_337_1, trivial⟩⟩
def dkwX4_isVehicle_0 : List UInt8 := [27, 3, 42, 180, 0, 7, 16, 11, 46, 4, 100, 184, 0, 91, 172]
abbrev dktX4_isVehicle_0 : List UInt8 := dkwX4_isVehicle_0 ++ []
theorem dksX4_isVehicle_0 : cX4_isVehicle.data.toList.drop 0 = dktX4_isVehicle_0 := by decide +kernel
theorem dX4_isVehicle_0 : decode cX4_isVehicle 0 = .ok (.iload_n 1, 1) := dk_27 (dk_at dksX4_isVehicle_0 0 rfl rfl)
theorem dX4_isVehicle_1 : decode cX4_isVehicle 1 = .ok (.iconst 0, 1) := dk_3 (dk_at dksX4_isVehicle_0 1 rfl rfl)
theorem dX4_isVehicle_2 : decode cX4_isVehicle 2 = .ok (.aload_n 0, 1) := dk_42 (dk_at dksX4_isVehicle_0 2 rfl rfl)
theorem dX4_isVehicle_3 : decode cX4_isVehicle 3 = .ok (.getfield 7, 3) := dk_180 0 7 (dk_at dksX4_isVehicle_0 3 rfl rfl)
theorem dX4_isVehicle_6 : decode cX4_isVehicle 6 = .ok (.bipush 11, 2) := dk_16 11 (dk_at dksX4_isVehicle_0 6 rfl rfl)
theorem dX4_isVehicle_8 : decode cX4_isVehicle 8 = .ok (.iaload, 1) := dk_46 (dk_at dksX4_isVehicle_0 8 rfl rfl)
theorem dX4_isVehicle_9 : decode cX4_isVehicle 9 = .ok (.iconst 1, 1) := dk_4 (dk_at dksX4_isVehicle_0 9 rfl rfl)
theorem dX4_isVehicle_10 : decode cX4_isVehicle 10 = .ok (.isub, 1) := dk_100 (dk_at dksX4_isVehicle_0 10 rfl rfl)
theorem dX4_isVehicle_11 : decode cX4_isVehicle 11 = .ok (.invokestatic 91, 3) := dk_184 0 91 (dk_at dksX4_isVehicle_0 11 rfl rfl)
theorem dX4_isVehicle_14 : decode cX4_isVehicle 14 = .ok (.ireturn, 1) := dk_172 (dk_at dksX4_isVehicle_0 14 rfl rfl)
theorem c_338_0 : LkP (OkP 338) [(0, o_iload 1 1), (1, o_push 1 (.int 0)), (2, o_aload 0 1), (3, o_get 148), (6, o_push 2 (.int 11)), (8, o_rdI 0), (9, o_push 1 (.int 1)), (10, o_iop (fun x y => x - y)), (11, o_cs 293 3 false none), (14, o_ret 5)] := lkp_c (P := OkP 338) ⟨(PuOK.ok (ok_iload_n dX4_isVehicle_0 rfl)), m_iload⟩ (
  lkp_c (P := OkP 338) ⟨(PuOK.ok (ok_iconst dX4_isVehicle_1 rfl)), m_push⟩ (
  lkp_c (P := OkP 338) ⟨(PuOK.ok (ok_aload_n dX4_isVehicle_2 rfl)), m_aload⟩ (
  lkp_c (P := OkP 338) ⟨ok_get ⟨"TollRoadModel", q3080, Or.inl rfl⟩ dX4_isVehicle_3, m_get⟩ (
  lkp_c (P := OkP 338) ⟨(PuOK.ok (ok_bipush dX4_isVehicle_6 rfl)), m_push⟩ (
  lkp_c (P := OkP 338) ⟨ok_iald dX4_isVehicle_8, m_rdI⟩ (
  lkp_c (P := OkP 338) ⟨(PuOK.ok (ok_iconst dX4_isVehicle_9 rfl)), m_push⟩ (
  lkp_c (P := OkP 338) ⟨(PuOK.ok (ok_isub dX4_isVehicle_10)), m_iop⟩ (
  lkp_c (P := OkP 338) ⟨ok_cs (tg_S ⟨rfl, by decide⟩ q3214 q3215 q139 q3216 ⟨cn_34.1, cn_34.2, pd_121⟩ dX4_isVehicle_11) hd_no, m_cs⟩ (
  lkp_c (P := OkP 338) ⟨ok_iret rfl rfl (by decide) dX4_isVehicle_14, m_ret⟩ (
  trivial))))))))))
theorem mt_338 : MtOK TB NT IT 338 := ⟨by decide +kernel, rfl, (fun h => by cases h), Or.inl ⟨rfl, rfl⟩, rfl, by decide, lk2_all (P := OkP 338) ⟨c_338_0, trivial⟩⟩
def dkwX4_ofVehicle_0 : List UInt8 := [42, 180, 0, 7, 17, 0, 235, 6, 27, 104, 96, 28, 96, 46, 172]
abbrev dktX4_ofVehicle_0 : List UInt8 := dkwX4_ofVehicle_0 ++ []
theorem dksX4_ofVehicle_0 : cX4_ofVehicle.data.toList.drop 0 = dktX4_ofVehicle_0 := by decide +kernel
theorem dX4_ofVehicle_0 : decode cX4_ofVehicle 0 = .ok (.aload_n 0, 1) := dk_42 (dk_at dksX4_ofVehicle_0 0 rfl rfl)
theorem dX4_ofVehicle_1 : decode cX4_ofVehicle 1 = .ok (.getfield 7, 3) := dk_180 0 7 (dk_at dksX4_ofVehicle_0 1 rfl rfl)
theorem dX4_ofVehicle_4 : decode cX4_ofVehicle 4 = .ok (.sipush 235, 3) := dk_17 0 235 (dk_at dksX4_ofVehicle_0 4 rfl rfl)
theorem dX4_ofVehicle_7 : decode cX4_ofVehicle 7 = .ok (.iconst 3, 1) := dk_6 (dk_at dksX4_ofVehicle_0 7 rfl rfl)
theorem dX4_ofVehicle_8 : decode cX4_ofVehicle 8 = .ok (.iload_n 1, 1) := dk_27 (dk_at dksX4_ofVehicle_0 8 rfl rfl)
theorem dX4_ofVehicle_9 : decode cX4_ofVehicle 9 = .ok (.imul, 1) := dk_104 (dk_at dksX4_ofVehicle_0 9 rfl rfl)
theorem dX4_ofVehicle_10 : decode cX4_ofVehicle 10 = .ok (.iadd, 1) := dk_96 (dk_at dksX4_ofVehicle_0 10 rfl rfl)
theorem dX4_ofVehicle_11 : decode cX4_ofVehicle 11 = .ok (.iload_n 2, 1) := dk_28 (dk_at dksX4_ofVehicle_0 11 rfl rfl)
theorem dX4_ofVehicle_12 : decode cX4_ofVehicle 12 = .ok (.iadd, 1) := dk_96 (dk_at dksX4_ofVehicle_0 12 rfl rfl)
theorem dX4_ofVehicle_13 : decode cX4_ofVehicle 13 = .ok (.iaload, 1) := dk_46 (dk_at dksX4_ofVehicle_0 13 rfl rfl)
theorem dX4_ofVehicle_14 : decode cX4_ofVehicle 14 = .ok (.ireturn, 1) := dk_172 (dk_at dksX4_ofVehicle_0 14 rfl rfl)
theorem c_339_0 : LkP (OkP 339) [(0, o_aload 0 1), (1, o_get 148), (4, o_push 3 (.int 235)), (7, o_push 1 (.int 3)), (8, o_iload 1 1), (9, o_iop (fun x y => x * y)), (10, o_iop (fun x y => x + y)), (11, o_iload 2 1), (12, o_iop (fun x y => x + y)), (13, o_rdI 0), (14, o_ret 1)] := lkp_c (P := OkP 339) ⟨(PuOK.ok (ok_aload_n dX4_ofVehicle_0 rfl)), m_aload⟩ (
  lkp_c (P := OkP 339) ⟨ok_get ⟨"TollRoadModel", q3080, Or.inl rfl⟩ dX4_ofVehicle_1, m_get⟩ (
  lkp_c (P := OkP 339) ⟨(PuOK.ok (ok_sipush dX4_ofVehicle_4 rfl)), m_push⟩ (
  lkp_c (P := OkP 339) ⟨(PuOK.ok (ok_iconst dX4_ofVehicle_7 rfl)), m_push⟩ (
  lkp_c (P := OkP 339) ⟨(PuOK.ok (ok_iload_n dX4_ofVehicle_8 rfl)), m_iload⟩ (
  lkp_c (P := OkP 339) ⟨(PuOK.ok (ok_imul dX4_ofVehicle_9)), m_iop⟩ (
  lkp_c (P := OkP 339) ⟨(PuOK.ok (ok_iadd dX4_ofVehicle_10)), m_iop⟩ (
  lkp_c (P := OkP 339) ⟨(PuOK.ok (ok_iload_n dX4_ofVehicle_11 rfl)), m_iload⟩ (
  lkp_c (P := OkP 339) ⟨(PuOK.ok (ok_iadd dX4_ofVehicle_12)), m_iop⟩ (
  lkp_c (P := OkP 339) ⟨ok_iald dX4_ofVehicle_13, m_rdI⟩ (
  lkp_c (P := OkP 339) ⟨ok_iret rfl rfl (by decide) dX4_ofVehicle_14, m_ret⟩ (
  trivial)))))))))))
theorem mt_339 : MtOK TB NT IT 339 := ⟨by decide +kernel, rfl, (fun h => by cases h), Or.inl ⟨rfl, rfl⟩, rfl, by decide, lk2_all (P := OkP 339) ⟨c_339_0, trivial⟩⟩
def dkwX4_readsOf_2 : List UInt8 := [62, 132, 4, 1, 167, 255, 211, 29, 172]
abbrev dktX4_readsOf_2 : List UInt8 := dkwX4_readsOf_2 ++ []
def dkwX4_readsOf_1 : List UInt8 := [182, 0, 234, 27, 160, 0, 18, 42, 21, 4, 8, 182, 0, 234, 28, 160, 0, 7, 4, 167, 0, 4, 3, 96]
abbrev dktX4_readsOf_1 : List UInt8 := dkwX4_readsOf_1 ++ dktX4_readsOf_2
def dkwX4_readsOf_0 : List UInt8 := [3, 62, 3, 54, 4, 21, 4, 42, 180, 0, 7, 16, 12, 46, 162, 0, 39, 29, 42, 21, 4, 3]
abbrev dktX4_readsOf_0 : List UInt8 := dkwX4_readsOf_0 ++ dktX4_readsOf_1
theorem dksX4_readsOf_0 : cX4_readsOf.data.toList.drop 0 = dktX4_readsOf_0 := by decide +kernel
theorem dksX4_readsOf_1 : cX4_readsOf.data.toList.drop 22 = dktX4_readsOf_1 := dk_seg dksX4_readsOf_0 22 rfl rfl
theorem dksX4_readsOf_2 : cX4_readsOf.data.toList.drop 46 = dktX4_readsOf_2 := dk_seg dksX4_readsOf_1 24 rfl rfl
theorem dX4_readsOf_0 : decode cX4_readsOf 0 = .ok (.iconst 0, 1) := dk_3 (dk_at dksX4_readsOf_0 0 rfl rfl)
theorem dX4_readsOf_1 : decode cX4_readsOf 1 = .ok (.istore_n 3, 1) := dk_62 (dk_at dksX4_readsOf_0 1 rfl rfl)
theorem dX4_readsOf_2 : decode cX4_readsOf 2 = .ok (.iconst 0, 1) := dk_3 (dk_at dksX4_readsOf_0 2 rfl rfl)
theorem dX4_readsOf_3 : decode cX4_readsOf 3 = .ok (.istore 4, 2) := dk_54 4 (dk_at dksX4_readsOf_0 3 rfl rfl)
theorem dX4_readsOf_5 : decode cX4_readsOf 5 = .ok (.iload 4, 2) := dk_21 4 (dk_at dksX4_readsOf_0 5 rfl rfl)
theorem dX4_readsOf_7 : decode cX4_readsOf 7 = .ok (.aload_n 0, 1) := dk_42 (dk_at dksX4_readsOf_0 7 rfl rfl)
theorem dX4_readsOf_8 : decode cX4_readsOf 8 = .ok (.getfield 7, 3) := dk_180 0 7 (dk_at dksX4_readsOf_0 8 rfl rfl)
theorem dX4_readsOf_11 : decode cX4_readsOf 11 = .ok (.bipush 12, 2) := dk_16 12 (dk_at dksX4_readsOf_0 11 rfl rfl)
theorem dX4_readsOf_13 : decode cX4_readsOf 13 = .ok (.iaload, 1) := dk_46 (dk_at dksX4_readsOf_0 13 rfl rfl)
theorem dX4_readsOf_14 : decode cX4_readsOf 14 = .ok (.if_icmp .ge 39, 3) := dk_162 0 39 (dk_at dksX4_readsOf_0 14 rfl rfl)
theorem dX4_readsOf_17 : decode cX4_readsOf 17 = .ok (.iload_n 3, 1) := dk_29 (dk_at dksX4_readsOf_0 17 rfl rfl)
theorem dX4_readsOf_18 : decode cX4_readsOf 18 = .ok (.aload_n 0, 1) := dk_42 (dk_at dksX4_readsOf_0 18 rfl rfl)
theorem dX4_readsOf_19 : decode cX4_readsOf 19 = .ok (.iload 4, 2) := dk_21 4 (dk_at dksX4_readsOf_0 19 rfl rfl)
theorem dX4_readsOf_21 : decode cX4_readsOf 21 = .ok (.iconst 0, 1) := dk_3 (dk_at dksX4_readsOf_0 21 rfl rfl)
theorem dX4_readsOf_22 : decode cX4_readsOf 22 = .ok (.invokevirtual 234, 3) := dk_182 0 234 (dk_at dksX4_readsOf_1 0 rfl rfl)
theorem dX4_readsOf_25 : decode cX4_readsOf 25 = .ok (.iload_n 1, 1) := dk_27 (dk_at dksX4_readsOf_1 3 rfl rfl)
theorem dX4_readsOf_26 : decode cX4_readsOf 26 = .ok (.if_icmp .ne 18, 3) := dk_160 0 18 (dk_at dksX4_readsOf_1 4 rfl rfl)
theorem dX4_readsOf_29 : decode cX4_readsOf 29 = .ok (.aload_n 0, 1) := dk_42 (dk_at dksX4_readsOf_1 7 rfl rfl)
theorem dX4_readsOf_30 : decode cX4_readsOf 30 = .ok (.iload 4, 2) := dk_21 4 (dk_at dksX4_readsOf_1 8 rfl rfl)
theorem dX4_readsOf_32 : decode cX4_readsOf 32 = .ok (.iconst 5, 1) := dk_8 (dk_at dksX4_readsOf_1 10 rfl rfl)
theorem dX4_readsOf_33 : decode cX4_readsOf 33 = .ok (.invokevirtual 234, 3) := dk_182 0 234 (dk_at dksX4_readsOf_1 11 rfl rfl)
theorem dX4_readsOf_36 : decode cX4_readsOf 36 = .ok (.iload_n 2, 1) := dk_28 (dk_at dksX4_readsOf_1 14 rfl rfl)
theorem dX4_readsOf_37 : decode cX4_readsOf 37 = .ok (.if_icmp .ne 7, 3) := dk_160 0 7 (dk_at dksX4_readsOf_1 15 rfl rfl)
theorem dX4_readsOf_40 : decode cX4_readsOf 40 = .ok (.iconst 1, 1) := dk_4 (dk_at dksX4_readsOf_1 18 rfl rfl)
theorem dX4_readsOf_41 : decode cX4_readsOf 41 = .ok (.goto 4, 3) := dk_167 0 4 (dk_at dksX4_readsOf_1 19 rfl rfl)
theorem dX4_readsOf_44 : decode cX4_readsOf 44 = .ok (.iconst 0, 1) := dk_3 (dk_at dksX4_readsOf_1 22 rfl rfl)
theorem dX4_readsOf_45 : decode cX4_readsOf 45 = .ok (.iadd, 1) := dk_96 (dk_at dksX4_readsOf_1 23 rfl rfl)
theorem dX4_readsOf_46 : decode cX4_readsOf 46 = .ok (.istore_n 3, 1) := dk_62 (dk_at dksX4_readsOf_2 0 rfl rfl)
theorem dX4_readsOf_47 : decode cX4_readsOf 47 = .ok (.iinc 4 1, 3) := dk_132 4 1 (dk_at dksX4_readsOf_2 1 rfl rfl)
theorem dX4_readsOf_50 : decode cX4_readsOf 50 = .ok (.goto (-45), 3) := dk_167 255 211 (dk_at dksX4_readsOf_2 4 rfl rfl)
theorem dX4_readsOf_53 : decode cX4_readsOf 53 = .ok (.iload_n 3, 1) := dk_29 (dk_at dksX4_readsOf_2 7 rfl rfl)
theorem dX4_readsOf_54 : decode cX4_readsOf 54 = .ok (.ireturn, 1) := dk_172 (dk_at dksX4_readsOf_2 8 rfl rfl)
theorem c_340_0 : LkP (OkP 340) [(0, o_push 1 (.int 0)), (1, o_istore 3 1), (2, o_push 1 (.int 0)), (3, o_istore 4 2), (5, o_iload 4 2), (7, o_aload 0 1), (8, o_get 148), (11, o_push 2 (.int 12)), (13, o_rdI 0), (14, o_icmp (fun x y => decide (y ≤ x)) 53), (17, o_iload 3 1), (18, o_aload 0 1), (19, o_iload 4 2), (21, o_push 1 (.int 0)), (22, o_cv [(30, 331)] 2 3 false none), (25, o_iload 1 1), (26, o_icmp (fun x y => decide (¬ x = y)) 44), (29, o_aload 0 1), (30, o_iload 4 2), (32, o_push 1 (.int 5)), (33, o_cv [(30, 331)] 2 3 false none), (36, o_iload 2 1), (37, o_icmp (fun x y => decide (¬ x = y)) 44), (40, o_push 1 (.int 1)), (41, o_goto 45), (44, o_push 1 (.int 0)), (45, o_iop (fun x y => x + y)), (46, o_istore 3 1), (47, o_iinc 4 1), (50, o_goto 5), (53, o_iload 3 1), (54, o_ret 1)] := lkp_c (P := OkP 340) ⟨(PuOK.ok (ok_iconst dX4_readsOf_0 rfl)), m_push⟩ (
  lkp_c (P := OkP 340) ⟨(PuOK.ok (ok_istore_n dX4_readsOf_1 rfl)), m_istore⟩ (
  lkp_c (P := OkP 340) ⟨(PuOK.ok (ok_iconst dX4_readsOf_2 rfl)), m_push⟩ (
  lkp_c (P := OkP 340) ⟨(PuOK.ok (ok_istore dX4_readsOf_3)), m_istore⟩ (
  lkp_c (P := OkP 340) ⟨(PuOK.ok (ok_iload dX4_readsOf_5)), m_iload⟩ (
  lkp_c (P := OkP 340) ⟨(PuOK.ok (ok_aload_n dX4_readsOf_7 rfl)), m_aload⟩ (
  lkp_c (P := OkP 340) ⟨ok_get ⟨"TollRoadModel", q3080, Or.inl rfl⟩ dX4_readsOf_8, m_get⟩ (
  lkp_c (P := OkP 340) ⟨(PuOK.ok (ok_bipush dX4_readsOf_11 rfl)), m_push⟩ (
  lkp_c (P := OkP 340) ⟨ok_iald dX4_readsOf_13, m_rdI⟩ (
  lkp_c (P := OkP 340) ⟨(PuOK.ok (ok_icmp_ge dX4_readsOf_14 rfl)), m_icmp⟩ (
  lkp_c (P := OkP 340) ⟨(PuOK.ok (ok_iload_n dX4_readsOf_17 rfl)), m_iload⟩ (
  lkp_c (P := OkP 340) ⟨(PuOK.ok (ok_aload_n dX4_readsOf_18 rfl)), m_aload⟩ (
  lkp_c (P := OkP 340) ⟨(PuOK.ok (ok_iload dX4_readsOf_19)), m_iload⟩ (
  lkp_c (P := OkP 340) ⟨(PuOK.ok (ok_iconst dX4_readsOf_21 rfl)), m_push⟩ (
  lkp_c (P := OkP 340) ⟨ok_cv (List.forall_mem_cons.mpr ⟨tg_V (ci := 30) (r := CLr 30) (y := 331) rfl ⟨rfl, by decide⟩ rfl q3383 q3385 qs68 q139 q3386 ⟨cn_34.1, cn_34.2, pd_1⟩ dX4_readsOf_22, (List.forall_mem_nil _)⟩) hd_no, m_cv⟩ (
  lkp_c (P := OkP 340) ⟨(PuOK.ok (ok_iload_n dX4_readsOf_25 rfl)), m_iload⟩ (
  lkp_c (P := OkP 340) ⟨(PuOK.ok (ok_icmp_ne dX4_readsOf_26 rfl)), m_icmp⟩ (
  lkp_c (P := OkP 340) ⟨(PuOK.ok (ok_aload_n dX4_readsOf_29 rfl)), m_aload⟩ (
  lkp_c (P := OkP 340) ⟨(PuOK.ok (ok_iload dX4_readsOf_30)), m_iload⟩ (
  lkp_c (P := OkP 340) ⟨(PuOK.ok (ok_iconst dX4_readsOf_32 rfl)), m_push⟩ (
  lkp_c (P := OkP 340) ⟨ok_cv (List.forall_mem_cons.mpr ⟨tg_V (ci := 30) (r := CLr 30) (y := 331) rfl ⟨rfl, by decide⟩ rfl q3383 q3385 qs68 q139 q3386 ⟨cn_34.1, cn_34.2, pd_1⟩ dX4_readsOf_33, (List.forall_mem_nil _)⟩) hd_no, m_cv⟩ (
  lkp_c (P := OkP 340) ⟨(PuOK.ok (ok_iload_n dX4_readsOf_36 rfl)), m_iload⟩ (
  lkp_c (P := OkP 340) ⟨(PuOK.ok (ok_icmp_ne dX4_readsOf_37 rfl)), m_icmp⟩ (
  lkp_c (P := OkP 340) ⟨(PuOK.ok (ok_iconst dX4_readsOf_40 rfl)), m_push⟩ (
  lkp_c (P := OkP 340) ⟨(PuOK.ok (ok_goto dX4_readsOf_41 rfl)), m_goto⟩ (
  lkp_c (P := OkP 340) ⟨(PuOK.ok (ok_iconst dX4_readsOf_44 rfl)), m_push⟩ (
  lkp_c (P := OkP 340) ⟨(PuOK.ok (ok_iadd dX4_readsOf_45)), m_iop⟩ (
  lkp_c (P := OkP 340) ⟨(PuOK.ok (ok_istore_n dX4_readsOf_46 rfl)), m_istore⟩ (
  lkp_c (P := OkP 340) ⟨(PuOK.ok (ok_iinc dX4_readsOf_47 rfl)), m_iinc⟩ (
  lkp_c (P := OkP 340) ⟨(PuOK.ok (ok_goto dX4_readsOf_50 rfl)), m_goto⟩ (
  lkp_c (P := OkP 340) ⟨(PuOK.ok (ok_iload_n dX4_readsOf_53 rfl)), m_iload⟩ (
  lkp_c (P := OkP 340) ⟨ok_iret rfl rfl (by decide) dX4_readsOf_54, m_ret⟩ (
  trivial))))))))))))))))))))))))))))))))
theorem mt_340 : MtOK TB NT IT 340 := ⟨by decide +kernel, rfl, (fun h => by cases h), Or.inl ⟨rfl, rfl⟩, rfl, by decide, lk2_all (P := OkP 340) ⟨c_340_0, trivial⟩⟩
def dkwX4_latestBilled_3 : List UInt8 := [28, 172]
abbrev dktX4_latestBilled_3 : List UInt8 := dkwX4_latestBilled_3 ++ []
def dkwX4_latestBilled_2 : List UInt8 := [153, 0, 16, 28, 42, 29, 5, 182, 0, 234, 184, 0, 250, 167, 0, 4, 28, 61, 132, 3, 1, 167, 255, 195]
abbrev dktX4_latestBilled_2 : List UInt8 := dkwX4_latestBilled_2 ++ dktX4_latestBilled_3
def dkwX4_latestBilled_1 : List UInt8 := [160, 0, 17, 42, 29, 8, 182, 0, 234, 6, 160, 0, 7, 4, 167, 0, 4, 3, 54, 4, 21, 4]
abbrev dktX4_latestBilled_1 : List UInt8 := dkwX4_latestBilled_1 ++ dktX4_latestBilled_2
def dkwX4_latestBilled_0 : List UInt8 := [2, 61, 3, 62, 29, 42, 180, 0, 7, 16, 12, 46, 162, 0, 56, 42, 29, 3, 182, 0, 234, 27]
abbrev dktX4_latestBilled_0 : List UInt8 := dkwX4_latestBilled_0 ++ dktX4_latestBilled_1
theorem dksX4_latestBilled_0 : cX4_latestBilled.data.toList.drop 0 = dktX4_latestBilled_0 := by decide +kernel
theorem dksX4_latestBilled_1 : cX4_latestBilled.data.toList.drop 22 = dktX4_latestBilled_1 := dk_seg dksX4_latestBilled_0 22 rfl rfl
theorem dksX4_latestBilled_2 : cX4_latestBilled.data.toList.drop 44 = dktX4_latestBilled_2 := dk_seg dksX4_latestBilled_1 22 rfl rfl
theorem dksX4_latestBilled_3 : cX4_latestBilled.data.toList.drop 68 = dktX4_latestBilled_3 := dk_seg dksX4_latestBilled_2 24 rfl rfl
theorem dX4_latestBilled_0 : decode cX4_latestBilled 0 = .ok (.iconst (-1), 1) := dk_2 (dk_at dksX4_latestBilled_0 0 rfl rfl)
theorem dX4_latestBilled_1 : decode cX4_latestBilled 1 = .ok (.istore_n 2, 1) := dk_61 (dk_at dksX4_latestBilled_0 1 rfl rfl)
theorem dX4_latestBilled_2 : decode cX4_latestBilled 2 = .ok (.iconst 0, 1) := dk_3 (dk_at dksX4_latestBilled_0 2 rfl rfl)
theorem dX4_latestBilled_3 : decode cX4_latestBilled 3 = .ok (.istore_n 3, 1) := dk_62 (dk_at dksX4_latestBilled_0 3 rfl rfl)
theorem dX4_latestBilled_4 : decode cX4_latestBilled 4 = .ok (.iload_n 3, 1) := dk_29 (dk_at dksX4_latestBilled_0 4 rfl rfl)
theorem dX4_latestBilled_5 : decode cX4_latestBilled 5 = .ok (.aload_n 0, 1) := dk_42 (dk_at dksX4_latestBilled_0 5 rfl rfl)
theorem dX4_latestBilled_6 : decode cX4_latestBilled 6 = .ok (.getfield 7, 3) := dk_180 0 7 (dk_at dksX4_latestBilled_0 6 rfl rfl)
theorem dX4_latestBilled_9 : decode cX4_latestBilled 9 = .ok (.bipush 12, 2) := dk_16 12 (dk_at dksX4_latestBilled_0 9 rfl rfl)
theorem dX4_latestBilled_11 : decode cX4_latestBilled 11 = .ok (.iaload, 1) := dk_46 (dk_at dksX4_latestBilled_0 11 rfl rfl)
theorem dX4_latestBilled_12 : decode cX4_latestBilled 12 = .ok (.if_icmp .ge 56, 3) := dk_162 0 56 (dk_at dksX4_latestBilled_0 12 rfl rfl)
theorem dX4_latestBilled_15 : decode cX4_latestBilled 15 = .ok (.aload_n 0, 1) := dk_42 (dk_at dksX4_latestBilled_0 15 rfl rfl)
theorem dX4_latestBilled_16 : decode cX4_latestBilled 16 = .ok (.iload_n 3, 1) := dk_29 (dk_at dksX4_latestBilled_0 16 rfl rfl)
theorem dX4_latestBilled_17 : decode cX4_latestBilled 17 = .ok (.iconst 0, 1) := dk_3 (dk_at dksX4_latestBilled_0 17 rfl rfl)
theorem dX4_latestBilled_18 : decode cX4_latestBilled 18 = .ok (.invokevirtual 234, 3) := dk_182 0 234 (dk_at dksX4_latestBilled_0 18 rfl rfl)
theorem dX4_latestBilled_21 : decode cX4_latestBilled 21 = .ok (.iload_n 1, 1) := dk_27 (dk_at dksX4_latestBilled_0 21 rfl rfl)
theorem dX4_latestBilled_22 : decode cX4_latestBilled 22 = .ok (.if_icmp .ne 17, 3) := dk_160 0 17 (dk_at dksX4_latestBilled_1 0 rfl rfl)
theorem dX4_latestBilled_25 : decode cX4_latestBilled 25 = .ok (.aload_n 0, 1) := dk_42 (dk_at dksX4_latestBilled_1 3 rfl rfl)
theorem dX4_latestBilled_26 : decode cX4_latestBilled 26 = .ok (.iload_n 3, 1) := dk_29 (dk_at dksX4_latestBilled_1 4 rfl rfl)
theorem dX4_latestBilled_27 : decode cX4_latestBilled 27 = .ok (.iconst 5, 1) := dk_8 (dk_at dksX4_latestBilled_1 5 rfl rfl)
theorem dX4_latestBilled_28 : decode cX4_latestBilled 28 = .ok (.invokevirtual 234, 3) := dk_182 0 234 (dk_at dksX4_latestBilled_1 6 rfl rfl)
theorem dX4_latestBilled_31 : decode cX4_latestBilled 31 = .ok (.iconst 3, 1) := dk_6 (dk_at dksX4_latestBilled_1 9 rfl rfl)
theorem dX4_latestBilled_32 : decode cX4_latestBilled 32 = .ok (.if_icmp .ne 7, 3) := dk_160 0 7 (dk_at dksX4_latestBilled_1 10 rfl rfl)
theorem dX4_latestBilled_35 : decode cX4_latestBilled 35 = .ok (.iconst 1, 1) := dk_4 (dk_at dksX4_latestBilled_1 13 rfl rfl)
theorem dX4_latestBilled_36 : decode cX4_latestBilled 36 = .ok (.goto 4, 3) := dk_167 0 4 (dk_at dksX4_latestBilled_1 14 rfl rfl)
theorem dX4_latestBilled_39 : decode cX4_latestBilled 39 = .ok (.iconst 0, 1) := dk_3 (dk_at dksX4_latestBilled_1 17 rfl rfl)
theorem dX4_latestBilled_40 : decode cX4_latestBilled 40 = .ok (.istore 4, 2) := dk_54 4 (dk_at dksX4_latestBilled_1 18 rfl rfl)
theorem dX4_latestBilled_42 : decode cX4_latestBilled 42 = .ok (.iload 4, 2) := dk_21 4 (dk_at dksX4_latestBilled_1 20 rfl rfl)
theorem dX4_latestBilled_44 : decode cX4_latestBilled 44 = .ok (.ifCond .eq 16, 3) := dk_153 0 16 (dk_at dksX4_latestBilled_2 0 rfl rfl)
theorem dX4_latestBilled_47 : decode cX4_latestBilled 47 = .ok (.iload_n 2, 1) := dk_28 (dk_at dksX4_latestBilled_2 3 rfl rfl)
theorem dX4_latestBilled_48 : decode cX4_latestBilled 48 = .ok (.aload_n 0, 1) := dk_42 (dk_at dksX4_latestBilled_2 4 rfl rfl)
theorem dX4_latestBilled_49 : decode cX4_latestBilled 49 = .ok (.iload_n 3, 1) := dk_29 (dk_at dksX4_latestBilled_2 5 rfl rfl)
theorem dX4_latestBilled_50 : decode cX4_latestBilled 50 = .ok (.iconst 2, 1) := dk_5 (dk_at dksX4_latestBilled_2 6 rfl rfl)
theorem dX4_latestBilled_51 : decode cX4_latestBilled 51 = .ok (.invokevirtual 234, 3) := dk_182 0 234 (dk_at dksX4_latestBilled_2 7 rfl rfl)
theorem dX4_latestBilled_54 : decode cX4_latestBilled 54 = .ok (.invokestatic 250, 3) := dk_184 0 250 (dk_at dksX4_latestBilled_2 10 rfl rfl)
theorem dX4_latestBilled_57 : decode cX4_latestBilled 57 = .ok (.goto 4, 3) := dk_167 0 4 (dk_at dksX4_latestBilled_2 13 rfl rfl)
theorem dX4_latestBilled_60 : decode cX4_latestBilled 60 = .ok (.iload_n 2, 1) := dk_28 (dk_at dksX4_latestBilled_2 16 rfl rfl)
theorem dX4_latestBilled_61 : decode cX4_latestBilled 61 = .ok (.istore_n 2, 1) := dk_61 (dk_at dksX4_latestBilled_2 17 rfl rfl)
theorem dX4_latestBilled_62 : decode cX4_latestBilled 62 = .ok (.iinc 3 1, 3) := dk_132 3 1 (dk_at dksX4_latestBilled_2 18 rfl rfl)
theorem dX4_latestBilled_65 : decode cX4_latestBilled 65 = .ok (.goto (-61), 3) := dk_167 255 195 (dk_at dksX4_latestBilled_2 21 rfl rfl)
theorem dX4_latestBilled_68 : decode cX4_latestBilled 68 = .ok (.iload_n 2, 1) := dk_28 (dk_at dksX4_latestBilled_3 0 rfl rfl)
theorem dX4_latestBilled_69 : decode cX4_latestBilled 69 = .ok (.ireturn, 1) := dk_172 (dk_at dksX4_latestBilled_3 1 rfl rfl)
theorem c_341_0 : LkP (OkP 341) [(0, o_push 1 (.int (-1))), (1, o_istore 2 1), (2, o_push 1 (.int 0)), (3, o_istore 3 1), (4, o_iload 3 1), (5, o_aload 0 1), (6, o_get 148), (9, o_push 2 (.int 12)), (11, o_rdI 0), (12, o_icmp (fun x y => decide (y ≤ x)) 68), (15, o_aload 0 1), (16, o_iload 3 1), (17, o_push 1 (.int 0)), (18, o_cv [(30, 331)] 2 3 false none), (21, o_iload 1 1), (22, o_icmp (fun x y => decide (¬ x = y)) 39), (25, o_aload 0 1), (26, o_iload 3 1), (27, o_push 1 (.int 5)), (28, o_cv [(30, 331)] 2 3 false none), (31, o_push 1 (.int 3)), (32, o_icmp (fun x y => decide (¬ x = y)) 39), (35, o_push 1 (.int 1)), (36, o_goto 40), (39, o_push 1 (.int 0)), (40, o_istore 4 2), (42, o_iload 4 2), (44, o_if (fun x => decide (x = 0)) 60), (47, o_iload 2 1), (48, o_aload 0 1), (49, o_iload 3 1), (50, o_push 1 (.int 2)), (51, o_cv [(30, 331)] 2 3 false none), (54, o_cs 6 2 false none), (57, o_goto 61), (60, o_iload 2 1), (61, o_istore 2 1), (62, o_iinc 3 1)] := lkp_c (P := OkP 341) ⟨(PuOK.ok (ok_iconst dX4_latestBilled_0 rfl)), m_push⟩ (
  lkp_c (P := OkP 341) ⟨(PuOK.ok (ok_istore_n dX4_latestBilled_1 rfl)), m_istore⟩ (
  lkp_c (P := OkP 341) ⟨(PuOK.ok (ok_iconst dX4_latestBilled_2 rfl)), m_push⟩ (
  lkp_c (P := OkP 341) ⟨(PuOK.ok (ok_istore_n dX4_latestBilled_3 rfl)), m_istore⟩ (
  lkp_c (P := OkP 341) ⟨(PuOK.ok (ok_iload_n dX4_latestBilled_4 rfl)), m_iload⟩ (
  lkp_c (P := OkP 341) ⟨(PuOK.ok (ok_aload_n dX4_latestBilled_5 rfl)), m_aload⟩ (
  lkp_c (P := OkP 341) ⟨ok_get ⟨"TollRoadModel", q3080, Or.inl rfl⟩ dX4_latestBilled_6, m_get⟩ (
  lkp_c (P := OkP 341) ⟨(PuOK.ok (ok_bipush dX4_latestBilled_9 rfl)), m_push⟩ (
  lkp_c (P := OkP 341) ⟨ok_iald dX4_latestBilled_11, m_rdI⟩ (
  lkp_c (P := OkP 341) ⟨(PuOK.ok (ok_icmp_ge dX4_latestBilled_12 rfl)), m_icmp⟩ (
  lkp_c (P := OkP 341) ⟨(PuOK.ok (ok_aload_n dX4_latestBilled_15 rfl)), m_aload⟩ (
  lkp_c (P := OkP 341) ⟨(PuOK.ok (ok_iload_n dX4_latestBilled_16 rfl)), m_iload⟩ (
  lkp_c (P := OkP 341) ⟨(PuOK.ok (ok_iconst dX4_latestBilled_17 rfl)), m_push⟩ (
  lkp_c (P := OkP 341) ⟨ok_cv (List.forall_mem_cons.mpr ⟨tg_V (ci := 30) (r := CLr 30) (y := 331) rfl ⟨rfl, by decide⟩ rfl q3383 q3385 qs68 q139 q3386 ⟨cn_34.1, cn_34.2, pd_1⟩ dX4_latestBilled_18, (List.forall_mem_nil _)⟩) hd_no, m_cv⟩ (
  lkp_c (P := OkP 341) ⟨(PuOK.ok (ok_iload_n dX4_latestBilled_21 rfl)), m_iload⟩ (
  lkp_c (P := OkP 341) ⟨(PuOK.ok (ok_icmp_ne dX4_latestBilled_22 rfl)), m_icmp⟩ (
  lkp_c (P := OkP 341) ⟨(PuOK.ok (ok_aload_n dX4_latestBilled_25 rfl)), m_aload⟩ (
  lkp_c (P := OkP 341) ⟨(PuOK.ok (ok_iload_n dX4_latestBilled_26 rfl)), m_iload⟩ (
  lkp_c (P := OkP 341) ⟨(PuOK.ok (ok_iconst dX4_latestBilled_27 rfl)), m_push⟩ (
  lkp_c (P := OkP 341) ⟨ok_cv (List.forall_mem_cons.mpr ⟨tg_V (ci := 30) (r := CLr 30) (y := 331) rfl ⟨rfl, by decide⟩ rfl q3383 q3385 qs68 q139 q3386 ⟨cn_34.1, cn_34.2, pd_1⟩ dX4_latestBilled_28, (List.forall_mem_nil _)⟩) hd_no, m_cv⟩ (
  lkp_c (P := OkP 341) ⟨(PuOK.ok (ok_iconst dX4_latestBilled_31 rfl)), m_push⟩ (
  lkp_c (P := OkP 341) ⟨(PuOK.ok (ok_icmp_ne dX4_latestBilled_32 rfl)), m_icmp⟩ (
  lkp_c (P := OkP 341) ⟨(PuOK.ok (ok_iconst dX4_latestBilled_35 rfl)), m_push⟩ (
  lkp_c (P := OkP 341) ⟨(PuOK.ok (ok_goto dX4_latestBilled_36 rfl)), m_goto⟩ (
  lkp_c (P := OkP 341) ⟨(PuOK.ok (ok_iconst dX4_latestBilled_39 rfl)), m_push⟩ (
  lkp_c (P := OkP 341) ⟨(PuOK.ok (ok_istore dX4_latestBilled_40)), m_istore⟩ (
  lkp_c (P := OkP 341) ⟨(PuOK.ok (ok_iload dX4_latestBilled_42)), m_iload⟩ (
  lkp_c (P := OkP 341) ⟨(PuOK.ok (ok_if_eq dX4_latestBilled_44 rfl)), m_if⟩ (
  lkp_c (P := OkP 341) ⟨(PuOK.ok (ok_iload_n dX4_latestBilled_47 rfl)), m_iload⟩ (
  lkp_c (P := OkP 341) ⟨(PuOK.ok (ok_aload_n dX4_latestBilled_48 rfl)), m_aload⟩ (
  lkp_c (P := OkP 341) ⟨(PuOK.ok (ok_iload_n dX4_latestBilled_49 rfl)), m_iload⟩ (
  lkp_c (P := OkP 341) ⟨(PuOK.ok (ok_iconst dX4_latestBilled_50 rfl)), m_push⟩ (
  lkp_c (P := OkP 341) ⟨ok_cv (List.forall_mem_cons.mpr ⟨tg_V (ci := 30) (r := CLr 30) (y := 331) rfl ⟨rfl, by decide⟩ rfl q3383 q3385 qs68 q139 q3386 ⟨cn_34.1, cn_34.2, pd_1⟩ dX4_latestBilled_51, (List.forall_mem_nil _)⟩) hd_no, m_cv⟩ (
  lkp_c (P := OkP 341) ⟨ok_cs (tg_S ⟨rfl, by decide⟩ q3427 q356 q130 q357 ⟨cn_1.1, cn_1.2, pd_1⟩ dX4_latestBilled_54) hd_no, m_cs⟩ (
  lkp_c (P := OkP 341) ⟨(PuOK.ok (ok_goto dX4_latestBilled_57 rfl)), m_goto⟩ (
  lkp_c (P := OkP 341) ⟨(PuOK.ok (ok_iload_n dX4_latestBilled_60 rfl)), m_iload⟩ (
  lkp_c (P := OkP 341) ⟨(PuOK.ok (ok_istore_n dX4_latestBilled_61 rfl)), m_istore⟩ (
  lkp_c (P := OkP 341) ⟨(PuOK.ok (ok_iinc dX4_latestBilled_62 rfl)), m_iinc⟩ (
  trivial))))))))))))))))))))))))))))))))))))))
theorem c_341_1 : LkP (OkP 341) [(65, o_goto 4), (68, o_iload 2 1), (69, o_ret 1)] := lkp_c (P := OkP 341) ⟨(PuOK.ok (ok_goto dX4_latestBilled_65 rfl)), m_goto⟩ (
  lkp_c (P := OkP 341) ⟨(PuOK.ok (ok_iload_n dX4_latestBilled_68 rfl)), m_iload⟩ (
  lkp_c (P := OkP 341) ⟨ok_iret rfl rfl (by decide) dX4_latestBilled_69, m_ret⟩ (
  trivial)))
theorem mt_341 : MtOK TB NT IT 341 := ⟨by decide +kernel, rfl, (fun h => by cases h), Or.inl ⟨rfl, rfl⟩, rfl, by decide, lk2_all (P := OkP 341) ⟨c_341_0, c_341_1, trivial⟩⟩
def dkwX4_billsOf_1 : List UInt8 := [160, 0, 7, 4, 167, 0, 4, 3, 96, 61, 132, 3, 1, 167, 255, 224, 28, 172]
abbrev dktX4_billsOf_1 : List UInt8 := dkwX4_billsOf_1 ++ []
def dkwX4_billsOf_0 : List UInt8 := [3, 61, 3, 62, 29, 42, 180, 0, 7, 16, 13, 46, 162, 0, 27, 28, 42, 29, 3, 182, 0, 237, 27]
abbrev dktX4_billsOf_0 : List UInt8 := dkwX4_billsOf_0 ++ dktX4_billsOf_1
theorem dksX4_billsOf_0 : cX4_billsOf.data.toList.drop 0 = dktX4_billsOf_0 := by decide +kernel
theorem dksX4_billsOf_1 : cX4_billsOf.data.toList.drop 23 = dktX4_billsOf_1 := dk_seg dksX4_billsOf_0 23 rfl rfl
theorem dX4_billsOf_0 : decode cX4_billsOf 0 = .ok (.iconst 0, 1) := dk_3 (dk_at dksX4_billsOf_0 0 rfl rfl)
theorem dX4_billsOf_1 : decode cX4_billsOf 1 = .ok (.istore_n 2, 1) := dk_61 (dk_at dksX4_billsOf_0 1 rfl rfl)
theorem dX4_billsOf_2 : decode cX4_billsOf 2 = .ok (.iconst 0, 1) := dk_3 (dk_at dksX4_billsOf_0 2 rfl rfl)
theorem dX4_billsOf_3 : decode cX4_billsOf 3 = .ok (.istore_n 3, 1) := dk_62 (dk_at dksX4_billsOf_0 3 rfl rfl)
theorem dX4_billsOf_4 : decode cX4_billsOf 4 = .ok (.iload_n 3, 1) := dk_29 (dk_at dksX4_billsOf_0 4 rfl rfl)
theorem dX4_billsOf_5 : decode cX4_billsOf 5 = .ok (.aload_n 0, 1) := dk_42 (dk_at dksX4_billsOf_0 5 rfl rfl)
theorem dX4_billsOf_6 : decode cX4_billsOf 6 = .ok (.getfield 7, 3) := dk_180 0 7 (dk_at dksX4_billsOf_0 6 rfl rfl)
theorem dX4_billsOf_9 : decode cX4_billsOf 9 = .ok (.bipush 13, 2) := dk_16 13 (dk_at dksX4_billsOf_0 9 rfl rfl)
theorem dX4_billsOf_11 : decode cX4_billsOf 11 = .ok (.iaload, 1) := dk_46 (dk_at dksX4_billsOf_0 11 rfl rfl)
theorem dX4_billsOf_12 : decode cX4_billsOf 12 = .ok (.if_icmp .ge 27, 3) := dk_162 0 27 (dk_at dksX4_billsOf_0 12 rfl rfl)
theorem dX4_billsOf_15 : decode cX4_billsOf 15 = .ok (.iload_n 2, 1) := dk_28 (dk_at dksX4_billsOf_0 15 rfl rfl)
theorem dX4_billsOf_16 : decode cX4_billsOf 16 = .ok (.aload_n 0, 1) := dk_42 (dk_at dksX4_billsOf_0 16 rfl rfl)
theorem dX4_billsOf_17 : decode cX4_billsOf 17 = .ok (.iload_n 3, 1) := dk_29 (dk_at dksX4_billsOf_0 17 rfl rfl)
theorem dX4_billsOf_18 : decode cX4_billsOf 18 = .ok (.iconst 0, 1) := dk_3 (dk_at dksX4_billsOf_0 18 rfl rfl)
theorem dX4_billsOf_19 : decode cX4_billsOf 19 = .ok (.invokevirtual 237, 3) := dk_182 0 237 (dk_at dksX4_billsOf_0 19 rfl rfl)
theorem dX4_billsOf_22 : decode cX4_billsOf 22 = .ok (.iload_n 1, 1) := dk_27 (dk_at dksX4_billsOf_0 22 rfl rfl)
theorem dX4_billsOf_23 : decode cX4_billsOf 23 = .ok (.if_icmp .ne 7, 3) := dk_160 0 7 (dk_at dksX4_billsOf_1 0 rfl rfl)
theorem dX4_billsOf_26 : decode cX4_billsOf 26 = .ok (.iconst 1, 1) := dk_4 (dk_at dksX4_billsOf_1 3 rfl rfl)
theorem dX4_billsOf_27 : decode cX4_billsOf 27 = .ok (.goto 4, 3) := dk_167 0 4 (dk_at dksX4_billsOf_1 4 rfl rfl)
theorem dX4_billsOf_30 : decode cX4_billsOf 30 = .ok (.iconst 0, 1) := dk_3 (dk_at dksX4_billsOf_1 7 rfl rfl)
theorem dX4_billsOf_31 : decode cX4_billsOf 31 = .ok (.iadd, 1) := dk_96 (dk_at dksX4_billsOf_1 8 rfl rfl)
theorem dX4_billsOf_32 : decode cX4_billsOf 32 = .ok (.istore_n 2, 1) := dk_61 (dk_at dksX4_billsOf_1 9 rfl rfl)
theorem dX4_billsOf_33 : decode cX4_billsOf 33 = .ok (.iinc 3 1, 3) := dk_132 3 1 (dk_at dksX4_billsOf_1 10 rfl rfl)
theorem dX4_billsOf_36 : decode cX4_billsOf 36 = .ok (.goto (-32), 3) := dk_167 255 224 (dk_at dksX4_billsOf_1 13 rfl rfl)
theorem dX4_billsOf_39 : decode cX4_billsOf 39 = .ok (.iload_n 2, 1) := dk_28 (dk_at dksX4_billsOf_1 16 rfl rfl)
theorem dX4_billsOf_40 : decode cX4_billsOf 40 = .ok (.ireturn, 1) := dk_172 (dk_at dksX4_billsOf_1 17 rfl rfl)
theorem c_342_0 : LkP (OkP 342) [(0, o_push 1 (.int 0)), (1, o_istore 2 1), (2, o_push 1 (.int 0)), (3, o_istore 3 1), (4, o_iload 3 1), (5, o_aload 0 1), (6, o_get 148), (9, o_push 2 (.int 13)), (11, o_rdI 0), (12, o_icmp (fun x y => decide (y ≤ x)) 39), (15, o_iload 2 1), (16, o_aload 0 1), (17, o_iload 3 1), (18, o_push 1 (.int 0)), (19, o_cv [(30, 333)] 2 3 false none), (22, o_iload 1 1), (23, o_icmp (fun x y => decide (¬ x = y)) 30), (26, o_push 1 (.int 1)), (27, o_goto 31), (30, o_push 1 (.int 0)), (31, o_iop (fun x y => x + y)), (32, o_istore 2 1), (33, o_iinc 3 1), (36, o_goto 4), (39, o_iload 2 1), (40, o_ret 1)] := lkp_c (P := OkP 342) ⟨(PuOK.ok (ok_iconst dX4_billsOf_0 rfl)), m_push⟩ (
  lkp_c (P := OkP 342) ⟨(PuOK.ok (ok_istore_n dX4_billsOf_1 rfl)), m_istore⟩ (
  lkp_c (P := OkP 342) ⟨(PuOK.ok (ok_iconst dX4_billsOf_2 rfl)), m_push⟩ (
  lkp_c (P := OkP 342) ⟨(PuOK.ok (ok_istore_n dX4_billsOf_3 rfl)), m_istore⟩ (
  lkp_c (P := OkP 342) ⟨(PuOK.ok (ok_iload_n dX4_billsOf_4 rfl)), m_iload⟩ (
  lkp_c (P := OkP 342) ⟨(PuOK.ok (ok_aload_n dX4_billsOf_5 rfl)), m_aload⟩ (
  lkp_c (P := OkP 342) ⟨ok_get ⟨"TollRoadModel", q3080, Or.inl rfl⟩ dX4_billsOf_6, m_get⟩ (
  lkp_c (P := OkP 342) ⟨(PuOK.ok (ok_bipush dX4_billsOf_9 rfl)), m_push⟩ (
  lkp_c (P := OkP 342) ⟨ok_iald dX4_billsOf_11, m_rdI⟩ (
  lkp_c (P := OkP 342) ⟨(PuOK.ok (ok_icmp_ge dX4_billsOf_12 rfl)), m_icmp⟩ (
  lkp_c (P := OkP 342) ⟨(PuOK.ok (ok_iload_n dX4_billsOf_15 rfl)), m_iload⟩ (
  lkp_c (P := OkP 342) ⟨(PuOK.ok (ok_aload_n dX4_billsOf_16 rfl)), m_aload⟩ (
  lkp_c (P := OkP 342) ⟨(PuOK.ok (ok_iload_n dX4_billsOf_17 rfl)), m_iload⟩ (
  lkp_c (P := OkP 342) ⟨(PuOK.ok (ok_iconst dX4_billsOf_18 rfl)), m_push⟩ (
  lkp_c (P := OkP 342) ⟨ok_cv (List.forall_mem_cons.mpr ⟨tg_V (ci := 30) (r := CLr 30) (y := 333) rfl ⟨rfl, by decide⟩ rfl q3391 q3393 qs70 q139 q3394 ⟨cn_34.1, cn_34.2, pd_1⟩ dX4_billsOf_19, (List.forall_mem_nil _)⟩) hd_no, m_cv⟩ (
  lkp_c (P := OkP 342) ⟨(PuOK.ok (ok_iload_n dX4_billsOf_22 rfl)), m_iload⟩ (
  lkp_c (P := OkP 342) ⟨(PuOK.ok (ok_icmp_ne dX4_billsOf_23 rfl)), m_icmp⟩ (
  lkp_c (P := OkP 342) ⟨(PuOK.ok (ok_iconst dX4_billsOf_26 rfl)), m_push⟩ (
  lkp_c (P := OkP 342) ⟨(PuOK.ok (ok_goto dX4_billsOf_27 rfl)), m_goto⟩ (
  lkp_c (P := OkP 342) ⟨(PuOK.ok (ok_iconst dX4_billsOf_30 rfl)), m_push⟩ (
  lkp_c (P := OkP 342) ⟨(PuOK.ok (ok_iadd dX4_billsOf_31)), m_iop⟩ (
  lkp_c (P := OkP 342) ⟨(PuOK.ok (ok_istore_n dX4_billsOf_32 rfl)), m_istore⟩ (
  lkp_c (P := OkP 342) ⟨(PuOK.ok (ok_iinc dX4_billsOf_33 rfl)), m_iinc⟩ (
  lkp_c (P := OkP 342) ⟨(PuOK.ok (ok_goto dX4_billsOf_36 rfl)), m_goto⟩ (
  lkp_c (P := OkP 342) ⟨(PuOK.ok (ok_iload_n dX4_billsOf_39 rfl)), m_iload⟩ (
  lkp_c (P := OkP 342) ⟨ok_iret rfl rfl (by decide) dX4_billsOf_40, m_ret⟩ (
  trivial))))))))))))))))))))))))))
theorem mt_342 : MtOK TB NT IT 342 := ⟨by decide +kernel, rfl, (fun h => by cases h), Or.inl ⟨rfl, rfl⟩, rfl, by decide, lk2_all (P := OkP 342) ⟨c_342_0, trivial⟩⟩
def dkwX4_setAccount_2 : List UInt8 := [27, 104, 96, 4, 96, 28, 79, 29, 172]
abbrev dktX4_setAccount_2 : List UInt8 := dkwX4_setAccount_2 ++ []
def dkwX4_setAccount_1 : List UInt8 := [154, 0, 9, 42, 4, 182, 0, 87, 172, 42, 27, 4, 182, 1, 2, 62, 42, 180, 0, 7, 17, 0, 235, 6]
abbrev dktX4_setAccount_1 : List UInt8 := dkwX4_setAccount_1 ++ dktX4_setAccount_2
def dkwX4_setAccount_0 : List UInt8 := [42, 3, 181, 0, 81, 42, 27, 182, 0, 255, 153, 0, 16, 28, 2, 159, 0, 17, 42, 28, 182, 0, 228]
abbrev dktX4_setAccount_0 : List UInt8 := dkwX4_setAccount_0 ++ dktX4_setAccount_1
theorem dksX4_setAccount_0 : cX4_setAccount.data.toList.drop 0 = dktX4_setAccount_0 := by decide +kernel
theorem dksX4_setAccount_1 : cX4_setAccount.data.toList.drop 23 = dktX4_setAccount_1 := dk_seg dksX4_setAccount_0 23 rfl rfl
theorem dksX4_setAccount_2 : cX4_setAccount.data.toList.drop 47 = dktX4_setAccount_2 := dk_seg dksX4_setAccount_1 24 rfl rfl
theorem dX4_setAccount_0 : decode cX4_setAccount 0 = .ok (.aload_n 0, 1) := dk_42 (dk_at dksX4_setAccount_0 0 rfl rfl)
theorem dX4_setAccount_1 : decode cX4_setAccount 1 = .ok (.iconst 0, 1) := dk_3 (dk_at dksX4_setAccount_0 1 rfl rfl)
theorem dX4_setAccount_2 : decode cX4_setAccount 2 = .ok (.putfield 81, 3) := dk_181 0 81 (dk_at dksX4_setAccount_0 2 rfl rfl)
theorem dX4_setAccount_5 : decode cX4_setAccount 5 = .ok (.aload_n 0, 1) := dk_42 (dk_at dksX4_setAccount_0 5 rfl rfl)
theorem dX4_setAccount_6 : decode cX4_setAccount 6 = .ok (.iload_n 1, 1) := dk_27 (dk_at dksX4_setAccount_0 6 rfl rfl)
theorem dX4_setAccount_7 : decode cX4_setAccount 7 = .ok (.invokevirtual 255, 3) := dk_182 0 255 (dk_at dksX4_setAccount_0 7 rfl rfl)
theorem dX4_setAccount_10 : decode cX4_setAccount 10 = .ok (.ifCond .eq 16, 3) := dk_153 0 16 (dk_at dksX4_setAccount_0 10 rfl rfl)
theorem dX4_setAccount_13 : decode cX4_setAccount 13 = .ok (.iload_n 2, 1) := dk_28 (dk_at dksX4_setAccount_0 13 rfl rfl)
theorem dX4_setAccount_14 : decode cX4_setAccount 14 = .ok (.iconst (-1), 1) := dk_2 (dk_at dksX4_setAccount_0 14 rfl rfl)
theorem dX4_setAccount_15 : decode cX4_setAccount 15 = .ok (.if_icmp .eq 17, 3) := dk_159 0 17 (dk_at dksX4_setAccount_0 15 rfl rfl)
theorem dX4_setAccount_18 : decode cX4_setAccount 18 = .ok (.aload_n 0, 1) := dk_42 (dk_at dksX4_setAccount_0 18 rfl rfl)
theorem dX4_setAccount_19 : decode cX4_setAccount 19 = .ok (.iload_n 2, 1) := dk_28 (dk_at dksX4_setAccount_0 19 rfl rfl)
theorem dX4_setAccount_20 : decode cX4_setAccount 20 = .ok (.invokevirtual 228, 3) := dk_182 0 228 (dk_at dksX4_setAccount_0 20 rfl rfl)
theorem dX4_setAccount_23 : decode cX4_setAccount 23 = .ok (.ifCond .ne 9, 3) := dk_154 0 9 (dk_at dksX4_setAccount_1 0 rfl rfl)
theorem dX4_setAccount_26 : decode cX4_setAccount 26 = .ok (.aload_n 0, 1) := dk_42 (dk_at dksX4_setAccount_1 3 rfl rfl)
theorem dX4_setAccount_27 : decode cX4_setAccount 27 = .ok (.iconst 1, 1) := dk_4 (dk_at dksX4_setAccount_1 4 rfl rfl)
theorem dX4_setAccount_28 : decode cX4_setAccount 28 = .ok (.invokevirtual 87, 3) := dk_182 0 87 (dk_at dksX4_setAccount_1 5 rfl rfl)
theorem dX4_setAccount_31 : decode cX4_setAccount 31 = .ok (.ireturn, 1) := dk_172 (dk_at dksX4_setAccount_1 8 rfl rfl)
theorem dX4_setAccount_32 : decode cX4_setAccount 32 = .ok (.aload_n 0, 1) := dk_42 (dk_at dksX4_setAccount_1 9 rfl rfl)
theorem dX4_setAccount_33 : decode cX4_setAccount 33 = .ok (.iload_n 1, 1) := dk_27 (dk_at dksX4_setAccount_1 10 rfl rfl)
theorem dX4_setAccount_34 : decode cX4_setAccount 34 = .ok (.iconst 1, 1) := dk_4 (dk_at dksX4_setAccount_1 11 rfl rfl)
theorem dX4_setAccount_35 : decode cX4_setAccount 35 = .ok (.invokevirtual 258, 3) := dk_182 1 2 (dk_at dksX4_setAccount_1 12 rfl rfl)
theorem dX4_setAccount_38 : decode cX4_setAccount 38 = .ok (.istore_n 3, 1) := dk_62 (dk_at dksX4_setAccount_1 15 rfl rfl)
theorem dX4_setAccount_39 : decode cX4_setAccount 39 = .ok (.aload_n 0, 1) := dk_42 (dk_at dksX4_setAccount_1 16 rfl rfl)
theorem dX4_setAccount_40 : decode cX4_setAccount 40 = .ok (.getfield 7, 3) := dk_180 0 7 (dk_at dksX4_setAccount_1 17 rfl rfl)
theorem dX4_setAccount_43 : decode cX4_setAccount 43 = .ok (.sipush 235, 3) := dk_17 0 235 (dk_at dksX4_setAccount_1 20 rfl rfl)
theorem dX4_setAccount_46 : decode cX4_setAccount 46 = .ok (.iconst 3, 1) := dk_6 (dk_at dksX4_setAccount_1 23 rfl rfl)
theorem dX4_setAccount_47 : decode cX4_setAccount 47 = .ok (.iload_n 1, 1) := dk_27 (dk_at dksX4_setAccount_2 0 rfl rfl)
theorem dX4_setAccount_48 : decode cX4_setAccount 48 = .ok (.imul, 1) := dk_104 (dk_at dksX4_setAccount_2 1 rfl rfl)
theorem dX4_setAccount_49 : decode cX4_setAccount 49 = .ok (.iadd, 1) := dk_96 (dk_at dksX4_setAccount_2 2 rfl rfl)
theorem dX4_setAccount_50 : decode cX4_setAccount 50 = .ok (.iconst 1, 1) := dk_4 (dk_at dksX4_setAccount_2 3 rfl rfl)
theorem dX4_setAccount_51 : decode cX4_setAccount 51 = .ok (.iadd, 1) := dk_96 (dk_at dksX4_setAccount_2 4 rfl rfl)
theorem dX4_setAccount_52 : decode cX4_setAccount 52 = .ok (.iload_n 2, 1) := dk_28 (dk_at dksX4_setAccount_2 5 rfl rfl)
theorem dX4_setAccount_53 : decode cX4_setAccount 53 = .ok (.iastore, 1) := dk_79 (dk_at dksX4_setAccount_2 6 rfl rfl)
theorem dX4_setAccount_54 : decode cX4_setAccount 54 = .ok (.iload_n 3, 1) := dk_29 (dk_at dksX4_setAccount_2 7 rfl rfl)
theorem dX4_setAccount_55 : decode cX4_setAccount 55 = .ok (.ireturn, 1) := dk_172 (dk_at dksX4_setAccount_2 8 rfl rfl)
theorem c_343_0 : LkP (OkP 343) [(0, o_aload 0 1), (1, o_push 1 (.int 0)), (2, o_put 155 1), (5, o_aload 0 1), (6, o_iload 1 1), (7, o_cv [(30, 338)] 1 3 false none), (10, o_if (fun x => decide (x = 0)) 26), (13, o_iload 2 1), (14, o_push 1 (.int (-1))), (15, o_icmp (fun x y => decide (x = y)) 32), (18, o_aload 0 1), (19, o_iload 2 1), (20, o_cv [(30, 326)] 1 3 false none), (23, o_if (fun x => decide (¬ x = 0)) 32), (26, o_aload 0 1), (27, o_push 1 (.int 1)), (28, o_cv [(30, 291)] 1 3 false none), (31, o_ret 1), (32, o_aload 0 1), (33, o_iload 1 1), (34, o_push 1 (.int 1)), (35, o_cv [(30, 339)] 2 3 false none), (38, o_istore 3 1), (39, o_aload 0 1), (40, o_get 148), (43, o_push 3 (.int 235)), (46, o_push 1 (.int 3)), (47, o_iload 1 1), (48, o_iop (fun x y => x * y)), (49, o_iop (fun x y => x + y)), (50, o_push 1 (.int 1)), (51, o_iop (fun x y => x + y)), (52, o_iload 2 1), (53, o_wrI 0), (54, o_iload 3 1), (55, o_ret 1)] := lkp_c (P := OkP 343) ⟨(PuOK.ok (ok_aload_n dX4_setAccount_0 rfl)), m_aload⟩ (
  lkp_c (P := OkP 343) ⟨(PuOK.ok (ok_iconst dX4_setAccount_1 rfl)), m_push⟩ (
  lkp_c (P := OkP 343) ⟨ok_put ⟨"TollRoadModel", q3087, Or.inl rfl⟩ rfl fd_155 rfl dX4_setAccount_2, m_put⟩ (
  lkp_c (P := OkP 343) ⟨(PuOK.ok (ok_aload_n dX4_setAccount_5 rfl)), m_aload⟩ (
  lkp_c (P := OkP 343) ⟨(PuOK.ok (ok_iload_n dX4_setAccount_6 rfl)), m_iload⟩ (
  lkp_c (P := OkP 343) ⟨ok_cv (List.forall_mem_cons.mpr ⟨tg_V (ci := 30) (r := CLr 30) (y := 338) rfl ⟨rfl, by decide⟩ rfl q3411 q3413 qs72 q139 q3414 ⟨cn_34.1, cn_34.2, pd_77⟩ dX4_setAccount_7, (List.forall_mem_nil _)⟩) hd_no, m_cv⟩ (
  lkp_c (P := OkP 343) ⟨(PuOK.ok (ok_if_eq dX4_setAccount_10 rfl)), m_if⟩ (
  lkp_c (P := OkP 343) ⟨(PuOK.ok (ok_iload_n dX4_setAccount_13 rfl)), m_iload⟩ (
  lkp_c (P := OkP 343) ⟨(PuOK.ok (ok_iconst dX4_setAccount_14 rfl)), m_push⟩ (
  lkp_c (P := OkP 343) ⟨(PuOK.ok (ok_icmp_eq dX4_setAccount_15 rfl)), m_icmp⟩ (
  lkp_c (P := OkP 343) ⟨(PuOK.ok (ok_aload_n dX4_setAccount_18 rfl)), m_aload⟩ (
  lkp_c (P := OkP 343) ⟨(PuOK.ok (ok_iload_n dX4_setAccount_19 rfl)), m_iload⟩ (
  lkp_c (P := OkP 343) ⟨ok_cv (List.forall_mem_cons.mpr ⟨tg_V (ci := 30) (r := CLr 30) (y := 326) rfl ⟨rfl, by decide⟩ rfl q3363 q3365 qs65 q139 q3366 ⟨cn_34.1, cn_34.2, pd_77⟩ dX4_setAccount_20, (List.forall_mem_nil _)⟩) hd_no, m_cv⟩ (
  lkp_c (P := OkP 343) ⟨(PuOK.ok (ok_if_ne dX4_setAccount_23 rfl)), m_if⟩ (
  lkp_c (P := OkP 343) ⟨(PuOK.ok (ok_aload_n dX4_setAccount_26 rfl)), m_aload⟩ (
  lkp_c (P := OkP 343) ⟨(PuOK.ok (ok_iconst dX4_setAccount_27 rfl)), m_push⟩ (
  lkp_c (P := OkP 343) ⟨ok_cv (List.forall_mem_cons.mpr ⟨tg_V (ci := 30) (r := CLr 30) (y := 291) rfl ⟨rfl, by decide⟩ rfl q3206 q3208 qs42 q139 q3209 ⟨cn_34.1, cn_34.2, pd_48⟩ dX4_setAccount_28, (List.forall_mem_nil _)⟩) hd_no, m_cv⟩ (
  lkp_c (P := OkP 343) ⟨ok_iret rfl rfl (by decide) dX4_setAccount_31, m_ret⟩ (
  lkp_c (P := OkP 343) ⟨(PuOK.ok (ok_aload_n dX4_setAccount_32 rfl)), m_aload⟩ (
  lkp_c (P := OkP 343) ⟨(PuOK.ok (ok_iload_n dX4_setAccount_33 rfl)), m_iload⟩ (
  lkp_c (P := OkP 343) ⟨(PuOK.ok (ok_iconst dX4_setAccount_34 rfl)), m_push⟩ (
  lkp_c (P := OkP 343) ⟨ok_cv (List.forall_mem_cons.mpr ⟨tg_V (ci := 30) (r := CLr 30) (y := 339) rfl ⟨rfl, by decide⟩ rfl q3415 q3417 qs73 q139 q3418 ⟨cn_34.1, cn_34.2, pd_1⟩ dX4_setAccount_35, (List.forall_mem_nil _)⟩) hd_no, m_cv⟩ (
  lkp_c (P := OkP 343) ⟨(PuOK.ok (ok_istore_n dX4_setAccount_38 rfl)), m_istore⟩ (
  lkp_c (P := OkP 343) ⟨(PuOK.ok (ok_aload_n dX4_setAccount_39 rfl)), m_aload⟩ (
  lkp_c (P := OkP 343) ⟨ok_get ⟨"TollRoadModel", q3080, Or.inl rfl⟩ dX4_setAccount_40, m_get⟩ (
  lkp_c (P := OkP 343) ⟨(PuOK.ok (ok_sipush dX4_setAccount_43 rfl)), m_push⟩ (
  lkp_c (P := OkP 343) ⟨(PuOK.ok (ok_iconst dX4_setAccount_46 rfl)), m_push⟩ (
  lkp_c (P := OkP 343) ⟨(PuOK.ok (ok_iload_n dX4_setAccount_47 rfl)), m_iload⟩ (
  lkp_c (P := OkP 343) ⟨(PuOK.ok (ok_imul dX4_setAccount_48)), m_iop⟩ (
  lkp_c (P := OkP 343) ⟨(PuOK.ok (ok_iadd dX4_setAccount_49)), m_iop⟩ (
  lkp_c (P := OkP 343) ⟨(PuOK.ok (ok_iconst dX4_setAccount_50 rfl)), m_push⟩ (
  lkp_c (P := OkP 343) ⟨(PuOK.ok (ok_iadd dX4_setAccount_51)), m_iop⟩ (
  lkp_c (P := OkP 343) ⟨(PuOK.ok (ok_iload_n dX4_setAccount_52 rfl)), m_iload⟩ (
  lkp_c (P := OkP 343) ⟨ok_iast dX4_setAccount_53, m_wrI⟩ (
  lkp_c (P := OkP 343) ⟨(PuOK.ok (ok_iload_n dX4_setAccount_54 rfl)), m_iload⟩ (
  lkp_c (P := OkP 343) ⟨ok_iret rfl rfl (by decide) dX4_setAccount_55, m_ret⟩ (
  trivial))))))))))))))))))))))))))))))))))))
theorem mt_343 : MtOK TB NT IT 343 := ⟨by decide +kernel, rfl, (fun h => by cases h), Or.inl ⟨rfl, rfl⟩, rfl, by decide, lk2_all (P := OkP 343) ⟨c_343_0, trivial⟩⟩
def dkwX4_route_5 : List UInt8 := [180, 1, 32, 172]
abbrev dktX4_route_5 : List UInt8 := dkwX4_route_5 ++ []
def dkwX4_route_4 : List UInt8 := [160, 0, 10, 42, 180, 1, 26, 167, 0, 20, 21, 4, 5, 160, 0, 10, 42, 180, 1, 29, 167, 0, 7, 42]
abbrev dktX4_route_4 : List UInt8 := dkwX4_route_4 ++ dktX4_route_5
def dkwX4_route_3 : List UInt8 := [19, 1, 35, 160, 0, 5, 2, 172, 21, 4, 154, 0, 10, 42, 180, 1, 23, 167, 0, 33, 21, 4, 4]
abbrev dktX4_route_3 : List UInt8 := dkwX4_route_3 ++ dktX4_route_4
def dkwX4_route_2 : List UInt8 := [184, 0, 91, 154, 0, 9, 42, 5, 182, 0, 87, 172, 42, 27, 28, 29, 182, 1, 43, 42, 180, 1, 23]
abbrev dktX4_route_2 : List UInt8 := dkwX4_route_2 ++ dktX4_route_3
def dkwX4_route_1 : List UInt8 := [182, 0, 87, 172, 27, 28, 159, 0, 24, 29, 3, 17, 2, 88, 184, 0, 91, 153, 0, 13, 21, 4, 3, 6]
abbrev dktX4_route_1 : List UInt8 := dkwX4_route_1 ++ dktX4_route_2
def dkwX4_route_0 : List UInt8 := [42, 3, 181, 0, 81, 42, 27, 182, 0, 221, 153, 0, 11, 42, 28, 182, 0, 221, 154, 0, 9, 42, 4]
abbrev dktX4_route_0 : List UInt8 := dkwX4_route_0 ++ dktX4_route_1
theorem dksX4_route_0 : cX4_route.data.toList.drop 0 = dktX4_route_0 := by decide +kernel
theorem dksX4_route_1 : cX4_route.data.toList.drop 23 = dktX4_route_1 := dk_seg dksX4_route_0 23 rfl rfl
theorem dksX4_route_2 : cX4_route.data.toList.drop 47 = dktX4_route_2 := dk_seg dksX4_route_1 24 rfl rfl
theorem dksX4_route_3 : cX4_route.data.toList.drop 70 = dktX4_route_3 := dk_seg dksX4_route_2 23 rfl rfl
theorem dksX4_route_4 : cX4_route.data.toList.drop 93 = dktX4_route_4 := dk_seg dksX4_route_3 23 rfl rfl
theorem dksX4_route_5 : cX4_route.data.toList.drop 117 = dktX4_route_5 := dk_seg dksX4_route_4 24 rfl rfl
theorem dX4_route_0 : decode cX4_route 0 = .ok (.aload_n 0, 1) := dk_42 (dk_at dksX4_route_0 0 rfl rfl)
theorem dX4_route_1 : decode cX4_route 1 = .ok (.iconst 0, 1) := dk_3 (dk_at dksX4_route_0 1 rfl rfl)
theorem dX4_route_2 : decode cX4_route 2 = .ok (.putfield 81, 3) := dk_181 0 81 (dk_at dksX4_route_0 2 rfl rfl)
theorem dX4_route_5 : decode cX4_route 5 = .ok (.aload_n 0, 1) := dk_42 (dk_at dksX4_route_0 5 rfl rfl)
theorem dX4_route_6 : decode cX4_route 6 = .ok (.iload_n 1, 1) := dk_27 (dk_at dksX4_route_0 6 rfl rfl)
theorem dX4_route_7 : decode cX4_route 7 = .ok (.invokevirtual 221, 3) := dk_182 0 221 (dk_at dksX4_route_0 7 rfl rfl)
theorem dX4_route_10 : decode cX4_route 10 = .ok (.ifCond .eq 11, 3) := dk_153 0 11 (dk_at dksX4_route_0 10 rfl rfl)
theorem dX4_route_13 : decode cX4_route 13 = .ok (.aload_n 0, 1) := dk_42 (dk_at dksX4_route_0 13 rfl rfl)
theorem dX4_route_14 : decode cX4_route 14 = .ok (.iload_n 2, 1) := dk_28 (dk_at dksX4_route_0 14 rfl rfl)
theorem dX4_route_15 : decode cX4_route 15 = .ok (.invokevirtual 221, 3) := dk_182 0 221 (dk_at dksX4_route_0 15 rfl rfl)
theorem dX4_route_18 : decode cX4_route 18 = .ok (.ifCond .ne 9, 3) := dk_154 0 9 (dk_at dksX4_route_0 18 rfl rfl)
theorem dX4_route_21 : decode cX4_route 21 = .ok (.aload_n 0, 1) := dk_42 (dk_at dksX4_route_0 21 rfl rfl)
theorem dX4_route_22 : decode cX4_route 22 = .ok (.iconst 1, 1) := dk_4 (dk_at dksX4_route_0 22 rfl rfl)
theorem dX4_route_23 : decode cX4_route 23 = .ok (.invokevirtual 87, 3) := dk_182 0 87 (dk_at dksX4_route_1 0 rfl rfl)
theorem dX4_route_26 : decode cX4_route 26 = .ok (.ireturn, 1) := dk_172 (dk_at dksX4_route_1 3 rfl rfl)
theorem dX4_route_27 : decode cX4_route 27 = .ok (.iload_n 1, 1) := dk_27 (dk_at dksX4_route_1 4 rfl rfl)
theorem dX4_route_28 : decode cX4_route 28 = .ok (.iload_n 2, 1) := dk_28 (dk_at dksX4_route_1 5 rfl rfl)
theorem dX4_route_29 : decode cX4_route 29 = .ok (.if_icmp .eq 24, 3) := dk_159 0 24 (dk_at dksX4_route_1 6 rfl rfl)
theorem dX4_route_32 : decode cX4_route 32 = .ok (.iload_n 3, 1) := dk_29 (dk_at dksX4_route_1 9 rfl rfl)
theorem dX4_route_33 : decode cX4_route 33 = .ok (.iconst 0, 1) := dk_3 (dk_at dksX4_route_1 10 rfl rfl)
theorem dX4_route_34 : decode cX4_route 34 = .ok (.sipush 600, 3) := dk_17 2 88 (dk_at dksX4_route_1 11 rfl rfl)
theorem dX4_route_37 : decode cX4_route 37 = .ok (.invokestatic 91, 3) := dk_184 0 91 (dk_at dksX4_route_1 14 rfl rfl)
theorem dX4_route_40 : decode cX4_route 40 = .ok (.ifCond .eq 13, 3) := dk_153 0 13 (dk_at dksX4_route_1 17 rfl rfl)
theorem dX4_route_43 : decode cX4_route 43 = .ok (.iload 4, 2) := dk_21 4 (dk_at dksX4_route_1 20 rfl rfl)
theorem dX4_route_45 : decode cX4_route 45 = .ok (.iconst 0, 1) := dk_3 (dk_at dksX4_route_1 22 rfl rfl)
theorem dX4_route_46 : decode cX4_route 46 = .ok (.iconst 3, 1) := dk_6 (dk_at dksX4_route_1 23 rfl rfl)
theorem dX4_route_47 : decode cX4_route 47 = .ok (.invokestatic 91, 3) := dk_184 0 91 (dk_at dksX4_route_2 0 rfl rfl)
theorem dX4_route_50 : decode cX4_route 50 = .ok (.ifCond .ne 9, 3) := dk_154 0 9 (dk_at dksX4_route_2 3 rfl rfl)
theorem dX4_route_53 : decode cX4_route 53 = .ok (.aload_n 0, 1) := dk_42 (dk_at dksX4_route_2 6 rfl rfl)
theorem dX4_route_54 : decode cX4_route 54 = .ok (.iconst 2, 1) := dk_5 (dk_at dksX4_route_2 7 rfl rfl)
theorem dX4_route_55 : decode cX4_route 55 = .ok (.invokevirtual 87, 3) := dk_182 0 87 (dk_at dksX4_route_2 8 rfl rfl)
theorem dX4_route_58 : decode cX4_route 58 = .ok (.ireturn, 1) := dk_172 (dk_at dksX4_route_2 11 rfl rfl)
theorem dX4_route_59 : decode cX4_route 59 = .ok (.aload_n 0, 1) := dk_42 (dk_at dksX4_route_2 12 rfl rfl)
theorem dX4_route_60 : decode cX4_route 60 = .ok (.iload_n 1, 1) := dk_27 (dk_at dksX4_route_2 13 rfl rfl)
theorem dX4_route_61 : decode cX4_route 61 = .ok (.iload_n 2, 1) := dk_28 (dk_at dksX4_route_2 14 rfl rfl)
theorem dX4_route_62 : decode cX4_route 62 = .ok (.iload_n 3, 1) := dk_29 (dk_at dksX4_route_2 15 rfl rfl)
theorem dX4_route_63 : decode cX4_route 63 = .ok (.invokevirtual 299, 3) := dk_182 1 43 (dk_at dksX4_route_2 16 rfl rfl)
theorem dX4_route_66 : decode cX4_route 66 = .ok (.aload_n 0, 1) := dk_42 (dk_at dksX4_route_2 19 rfl rfl)
theorem dX4_route_67 : decode cX4_route 67 = .ok (.getfield 279, 3) := dk_180 1 23 (dk_at dksX4_route_2 20 rfl rfl)
theorem dX4_route_70 : decode cX4_route 70 = .ok (.ldc_w 291, 3) := dk_19 1 35 (dk_at dksX4_route_3 0 rfl rfl)
theorem dX4_route_73 : decode cX4_route 73 = .ok (.if_icmp .ne 5, 3) := dk_160 0 5 (dk_at dksX4_route_3 3 rfl rfl)
theorem dX4_route_76 : decode cX4_route 76 = .ok (.iconst (-1), 1) := dk_2 (dk_at dksX4_route_3 6 rfl rfl)
theorem dX4_route_77 : decode cX4_route 77 = .ok (.ireturn, 1) := dk_172 (dk_at dksX4_route_3 7 rfl rfl)
theorem dX4_route_78 : decode cX4_route 78 = .ok (.iload 4, 2) := dk_21 4 (dk_at dksX4_route_3 8 rfl rfl)
theorem dX4_route_80 : decode cX4_route 80 = .ok (.ifCond .ne 10, 3) := dk_154 0 10 (dk_at dksX4_route_3 10 rfl rfl)
theorem dX4_route_83 : decode cX4_route 83 = .ok (.aload_n 0, 1) := dk_42 (dk_at dksX4_route_3 13 rfl rfl)
theorem dX4_route_84 : decode cX4_route 84 = .ok (.getfield 279, 3) := dk_180 1 23 (dk_at dksX4_route_3 14 rfl rfl)
theorem dX4_route_87 : decode cX4_route 87 = .ok (.goto 33, 3) := dk_167 0 33 (dk_at dksX4_route_3 17 rfl rfl)
theorem dX4_route_90 : decode cX4_route 90 = .ok (.iload 4, 2) := dk_21 4 (dk_at dksX4_route_3 20 rfl rfl)
theorem dX4_route_92 : decode cX4_route 92 = .ok (.iconst 1, 1) := dk_4 (dk_at dksX4_route_3 22 rfl rfl)
theorem dX4_route_93 : decode cX4_route 93 = .ok (.if_icmp .ne 10, 3) := dk_160 0 10 (dk_at dksX4_route_4 0 rfl rfl)
theorem dX4_route_96 : decode cX4_route 96 = .ok (.aload_n 0, 1) := dk_42 (dk_at dksX4_route_4 3 rfl rfl)
theorem dX4_route_97 : decode cX4_route 97 = .ok (.getfield 282, 3) := dk_180 1 26 (dk_at dksX4_route_4 4 rfl rfl)
theorem dX4_route_100 : decode cX4_route 100 = .ok (.goto 20, 3) := dk_167 0 20 (dk_at dksX4_route_4 7 rfl rfl)
theorem dX4_route_103 : decode cX4_route 103 = .ok (.iload 4, 2) := dk_21 4 (dk_at dksX4_route_4 10 rfl rfl)
theorem dX4_route_105 : decode cX4_route 105 = .ok (.iconst 2, 1) := dk_5 (dk_at dksX4_route_4 12 rfl rfl)
theorem dX4_route_106 : decode cX4_route 106 = .ok (.if_icmp .ne 10, 3) := dk_160 0 10 (dk_at dksX4_route_4 13 rfl rfl)
theorem dX4_route_109 : decode cX4_route 109 = .ok (.aload_n 0, 1) := dk_42 (dk_at dksX4_route_4 16 rfl rfl)
theorem dX4_route_110 : decode cX4_route 110 = .ok (.getfield 285, 3) := dk_180 1 29 (dk_at dksX4_route_4 17 rfl rfl)
theorem dX4_route_113 : decode cX4_route 113 = .ok (.goto 7, 3) := dk_167 0 7 (dk_at dksX4_route_4 20 rfl rfl)
theorem dX4_route_116 : decode cX4_route 116 = .ok (.aload_n 0, 1) := dk_42 (dk_at dksX4_route_4 23 rfl rfl)
theorem dX4_route_117 : decode cX4_route 117 = .ok (.getfield 288, 3) := dk_180 1 32 (dk_at dksX4_route_5 0 rfl rfl)
theorem dX4_route_120 : decode cX4_route 120 = .ok (.ireturn, 1) := dk_172 (dk_at dksX4_route_5 3 rfl rfl)
theorem c_344_0 : LkP (OkP 344) [(0, o_aload 0 1), (1, o_push 1 (.int 0)), (2, o_put 155 1), (5, o_aload 0 1), (6, o_iload 1 1), (7, o_cv [(30, 323)] 1 3 false none), (10, o_if (fun x => decide (x = 0)) 21), (13, o_aload 0 1), (14, o_iload 2 1), (15, o_cv [(30, 323)] 1 3 false none), (18, o_if (fun x => decide (¬ x = 0)) 27), (21, o_aload 0 1), (22, o_push 1 (.int 1)), (23, o_cv [(30, 291)] 1 3 false none), (26, o_ret 1), (27, o_iload 1 1), (28, o_iload 2 1), (29, o_icmp (fun x y => decide (x = y)) 53), (32, o_iload 3 1), (33, o_push 1 (.int 0)), (34, o_push 3 (.int 600)), (37, o_cs 293 3 false none), (40, o_if (fun x => decide (x = 0)) 53), (43, o_iload 4 2), (45, o_push 1 (.int 0)), (46, o_push 1 (.int 3)), (47, o_cs 293 3 false none), (50, o_if (fun x => decide (¬ x = 0)) 59), (53, o_aload 0 1), (54, o_push 1 (.int 2)), (55, o_cv [(30, 291)] 1 3 false none), (58, o_ret 1), (59, o_aload 0 1), (60, o_iload 1 1), (61, o_iload 2 1), (62, o_iload 3 1), (63, o_cv [(30, 345)] 3 3 true none)] := lkp_c (P := OkP 344) ⟨(PuOK.ok (ok_aload_n dX4_route_0 rfl)), m_aload⟩ (
  lkp_c (P := OkP 344) ⟨(PuOK.ok (ok_iconst dX4_route_1 rfl)), m_push⟩ (
  lkp_c (P := OkP 344) ⟨ok_put ⟨"TollRoadModel", q3087, Or.inl rfl⟩ rfl fd_155 rfl dX4_route_2, m_put⟩ (
  lkp_c (P := OkP 344) ⟨(PuOK.ok (ok_aload_n dX4_route_5 rfl)), m_aload⟩ (
  lkp_c (P := OkP 344) ⟨(PuOK.ok (ok_iload_n dX4_route_6 rfl)), m_iload⟩ (
  lkp_c (P := OkP 344) ⟨ok_cv (List.forall_mem_cons.mpr ⟨tg_V (ci := 30) (r := CLr 30) (y := 323) rfl ⟨rfl, by decide⟩ rfl q3351 q3353 qs64 q139 q3354 ⟨cn_34.1, cn_34.2, pd_77⟩ dX4_route_7, (List.forall_mem_nil _)⟩) hd_no, m_cv⟩ (
  lkp_c (P := OkP 344) ⟨(PuOK.ok (ok_if_eq dX4_route_10 rfl)), m_if⟩ (
  lkp_c (P := OkP 344) ⟨(PuOK.ok (ok_aload_n dX4_route_13 rfl)), m_aload⟩ (
  lkp_c (P := OkP 344) ⟨(PuOK.ok (ok_iload_n dX4_route_14 rfl)), m_iload⟩ (
  lkp_c (P := OkP 344) ⟨ok_cv (List.forall_mem_cons.mpr ⟨tg_V (ci := 30) (r := CLr 30) (y := 323) rfl ⟨rfl, by decide⟩ rfl q3351 q3353 qs64 q139 q3354 ⟨cn_34.1, cn_34.2, pd_77⟩ dX4_route_15, (List.forall_mem_nil _)⟩) hd_no, m_cv⟩ (
  lkp_c (P := OkP 344) ⟨(PuOK.ok (ok_if_ne dX4_route_18 rfl)), m_if⟩ (
  lkp_c (P := OkP 344) ⟨(PuOK.ok (ok_aload_n dX4_route_21 rfl)), m_aload⟩ (
  lkp_c (P := OkP 344) ⟨(PuOK.ok (ok_iconst dX4_route_22 rfl)), m_push⟩ (
  lkp_c (P := OkP 344) ⟨ok_cv (List.forall_mem_cons.mpr ⟨tg_V (ci := 30) (r := CLr 30) (y := 291) rfl ⟨rfl, by decide⟩ rfl q3206 q3208 qs42 q139 q3209 ⟨cn_34.1, cn_34.2, pd_48⟩ dX4_route_23, (List.forall_mem_nil _)⟩) hd_no, m_cv⟩ (
  lkp_c (P := OkP 344) ⟨ok_iret rfl rfl (by decide) dX4_route_26, m_ret⟩ (
  lkp_c (P := OkP 344) ⟨(PuOK.ok (ok_iload_n dX4_route_27 rfl)), m_iload⟩ (
  lkp_c (P := OkP 344) ⟨(PuOK.ok (ok_iload_n dX4_route_28 rfl)), m_iload⟩ (
  lkp_c (P := OkP 344) ⟨(PuOK.ok (ok_icmp_eq dX4_route_29 rfl)), m_icmp⟩ (
  lkp_c (P := OkP 344) ⟨(PuOK.ok (ok_iload_n dX4_route_32 rfl)), m_iload⟩ (
  lkp_c (P := OkP 344) ⟨(PuOK.ok (ok_iconst dX4_route_33 rfl)), m_push⟩ (
  lkp_c (P := OkP 344) ⟨(PuOK.ok (ok_sipush dX4_route_34 rfl)), m_push⟩ (
  lkp_c (P := OkP 344) ⟨ok_cs (tg_S ⟨rfl, by decide⟩ q3214 q3215 q139 q3216 ⟨cn_34.1, cn_34.2, pd_121⟩ dX4_route_37) hd_no, m_cs⟩ (
  lkp_c (P := OkP 344) ⟨(PuOK.ok (ok_if_eq dX4_route_40 rfl)), m_if⟩ (
  lkp_c (P := OkP 344) ⟨(PuOK.ok (ok_iload dX4_route_43)), m_iload⟩ (
  lkp_c (P := OkP 344) ⟨(PuOK.ok (ok_iconst dX4_route_45 rfl)), m_push⟩ (
  lkp_c (P := OkP 344) ⟨(PuOK.ok (ok_iconst dX4_route_46 rfl)), m_push⟩ (
  lkp_c (P := OkP 344) ⟨ok_cs (tg_S ⟨rfl, by decide⟩ q3214 q3215 q139 q3216 ⟨cn_34.1, cn_34.2, pd_121⟩ dX4_route_47) hd_no, m_cs⟩ (
  lkp_c (P := OkP 344) ⟨(PuOK.ok (ok_if_ne dX4_route_50 rfl)), m_if⟩ (
  lkp_c (P := OkP 344) ⟨(PuOK.ok (ok_aload_n dX4_route_53 rfl)), m_aload⟩ (
  lkp_c (P := OkP 344) ⟨(PuOK.ok (ok_iconst dX4_route_54 rfl)), m_push⟩ (
  lkp_c (P := OkP 344) ⟨ok_cv (List.forall_mem_cons.mpr ⟨tg_V (ci := 30) (r := CLr 30) (y := 291) rfl ⟨rfl, by decide⟩ rfl q3206 q3208 qs42 q139 q3209 ⟨cn_34.1, cn_34.2, pd_48⟩ dX4_route_55, (List.forall_mem_nil _)⟩) hd_no, m_cv⟩ (
  lkp_c (P := OkP 344) ⟨ok_iret rfl rfl (by decide) dX4_route_58, m_ret⟩ (
  lkp_c (P := OkP 344) ⟨(PuOK.ok (ok_aload_n dX4_route_59 rfl)), m_aload⟩ (
  lkp_c (P := OkP 344) ⟨(PuOK.ok (ok_iload_n dX4_route_60 rfl)), m_iload⟩ (
  lkp_c (P := OkP 344) ⟨(PuOK.ok (ok_iload_n dX4_route_61 rfl)), m_iload⟩ (
  lkp_c (P := OkP 344) ⟨(PuOK.ok (ok_iload_n dX4_route_62 rfl)), m_iload⟩ (
  lkp_c (P := OkP 344) ⟨ok_cv (List.forall_mem_cons.mpr ⟨tg_V (ci := 30) (r := CLr 30) (y := 345) rfl ⟨rfl, by decide⟩ rfl q3440 q3442 qs77 q139 q3443 ⟨cn_34.1, cn_34.2, pd_105⟩ dX4_route_63, (List.forall_mem_nil _)⟩) hd_no, m_cv⟩ (
  trivial)))))))))))))))))))))))))))))))))))))
theorem c_344_1 : LkP (OkP 344) [(66, o_aload 0 1), (67, o_get 172), (70, o_push 3 (.int 1000000000)), (73, o_icmp (fun x y => decide (¬ x = y)) 78), (76, o_push 1 (.int (-1))), (77, o_ret 1), (78, o_iload 4 2), (80, o_if (fun x => decide (¬ x = 0)) 90), (83, o_aload 0 1), (84, o_get 172), (87, o_goto 120), (90, o_iload 4 2), (92, o_push 1 (.int 1)), (93, o_icmp (fun x y => decide (¬ x = y)) 103), (96, o_aload 0 1), (97, o_get 173), (100, o_goto 120), (103, o_iload 4 2), (105, o_push 1 (.int 2)), (106, o_icmp (fun x y => decide (¬ x = y)) 116), (109, o_aload 0 1), (110, o_get 174), (113, o_goto 120), (116, o_aload 0 1), (117, o_get 175), (120, o_ret 1)] := lkp_c (P := OkP 344) ⟨(PuOK.ok (ok_aload_n dX4_route_66 rfl)), m_aload⟩ (
  lkp_c (P := OkP 344) ⟨ok_get ⟨"TollRoadModel", q3104, Or.inl rfl⟩ dX4_route_67, m_get⟩ (
  lkp_c (P := OkP 344) ⟨(PuOK.ok (ok_ldcw q3444 dX4_route_70)), m_push⟩ (
  lkp_c (P := OkP 344) ⟨(PuOK.ok (ok_icmp_ne dX4_route_73 rfl)), m_icmp⟩ (
  lkp_c (P := OkP 344) ⟨(PuOK.ok (ok_iconst dX4_route_76 rfl)), m_push⟩ (
  lkp_c (P := OkP 344) ⟨ok_iret rfl rfl (by decide) dX4_route_77, m_ret⟩ (
  lkp_c (P := OkP 344) ⟨(PuOK.ok (ok_iload dX4_route_78)), m_iload⟩ (
  lkp_c (P := OkP 344) ⟨(PuOK.ok (ok_if_ne dX4_route_80 rfl)), m_if⟩ (
  lkp_c (P := OkP 344) ⟨(PuOK.ok (ok_aload_n dX4_route_83 rfl)), m_aload⟩ (
  lkp_c (P := OkP 344) ⟨ok_get ⟨"TollRoadModel", q3104, Or.inl rfl⟩ dX4_route_84, m_get⟩ (
  lkp_c (P := OkP 344) ⟨(PuOK.ok (ok_goto dX4_route_87 rfl)), m_goto⟩ (
  lkp_c (P := OkP 344) ⟨(PuOK.ok (ok_iload dX4_route_90)), m_iload⟩ (
  lkp_c (P := OkP 344) ⟨(PuOK.ok (ok_iconst dX4_route_92 rfl)), m_push⟩ (
  lkp_c (P := OkP 344) ⟨(PuOK.ok (ok_icmp_ne dX4_route_93 rfl)), m_icmp⟩ (
  lkp_c (P := OkP 344) ⟨(PuOK.ok (ok_aload_n dX4_route_96 rfl)), m_aload⟩ (
  lkp_c (P := OkP 344) ⟨ok_get ⟨"TollRoadModel", q3105, Or.inl rfl⟩ dX4_route_97, m_get⟩ (
  lkp_c (P := OkP 344) ⟨(PuOK.ok (ok_goto dX4_route_100 rfl)), m_goto⟩ (
  lkp_c (P := OkP 344) ⟨(PuOK.ok (ok_iload dX4_route_103)), m_iload⟩ (
  lkp_c (P := OkP 344) ⟨(PuOK.ok (ok_iconst dX4_route_105 rfl)), m_push⟩ (
  lkp_c (P := OkP 344) ⟨(PuOK.ok (ok_icmp_ne dX4_route_106 rfl)), m_icmp⟩ (
  lkp_c (P := OkP 344) ⟨(PuOK.ok (ok_aload_n dX4_route_109 rfl)), m_aload⟩ (
  lkp_c (P := OkP 344) ⟨ok_get ⟨"TollRoadModel", q3106, Or.inl rfl⟩ dX4_route_110, m_get⟩ (
  lkp_c (P := OkP 344) ⟨(PuOK.ok (ok_goto dX4_route_113 rfl)), m_goto⟩ (
  lkp_c (P := OkP 344) ⟨(PuOK.ok (ok_aload_n dX4_route_116 rfl)), m_aload⟩ (
  lkp_c (P := OkP 344) ⟨ok_get ⟨"TollRoadModel", q3107, Or.inl rfl⟩ dX4_route_117, m_get⟩ (
  lkp_c (P := OkP 344) ⟨ok_iret rfl rfl (by decide) dX4_route_120, m_ret⟩ (
  trivial))))))))))))))))))))))))))
theorem mt_344 : MtOK TB NT IT 344 := ⟨by decide +kernel, rfl, (fun h => by cases h), Or.inl ⟨rfl, rfl⟩, rfl, by decide, lk2_all (P := OkP 344) ⟨c_344_0, c_344_1, trivial⟩⟩
def dkwX4_goWays_11 : List UInt8 := [21, 4, 4, 96, 16, 6, 162, 0, 14, 132, 4, 1, 42, 180, 0, 42, 21, 4, 2, 79, 167, 255, 36, 177]
abbrev dktX4_goWays_11 : List UInt8 := dkwX4_goWays_11 ++ []
def dkwX4_goWays_10 : List UInt8 := [21, 5, 96, 46, 96, 79, 21, 5, 28, 160, 0, 15, 42, 21, 4, 4, 96, 29, 182, 1, 40, 167, 0, 23]
abbrev dktX4_goWays_10 : List UInt8 := dkwX4_goWays_10 ++ dktX4_goWays_11
def dkwX4_goWays_9 : List UInt8 := [46, 96, 79, 42, 180, 0, 51, 21, 4, 4, 96, 42, 180, 0, 51, 21, 4, 46, 42, 180, 0, 7, 16, 15]
abbrev dktX4_goWays_9 : List UInt8 := dkwX4_goWays_9 ++ dktX4_goWays_10
def dkwX4_goWays_8 : List UInt8 := [21, 4, 4, 96, 42, 180, 0, 48, 21, 4, 46, 42, 180, 0, 7, 16, 27, 7, 21, 6, 104, 96, 6, 96]
abbrev dktX4_goWays_8 : List UInt8 := dkwX4_goWays_8 ++ dktX4_goWays_9
def dkwX4_goWays_7 : List UInt8 := [21, 4, 46, 42, 180, 0, 7, 16, 27, 7, 21, 6, 104, 96, 5, 96, 46, 96, 79, 42, 180, 0, 48]
abbrev dktX4_goWays_7 : List UInt8 := dkwX4_goWays_7 ++ dktX4_goWays_8
def dkwX4_goWays_6 : List UInt8 := [42, 180, 0, 39, 21, 4, 4, 96, 21, 5, 79, 42, 180, 0, 45, 21, 4, 4, 96, 42, 180, 0, 45]
abbrev dktX4_goWays_6 : List UInt8 := dkwX4_goWays_6 ++ dktX4_goWays_7
def dkwX4_goWays_5 : List UInt8 := [42, 42, 180, 0, 39, 21, 4, 46, 21, 5, 182, 0, 171, 54, 6, 21, 6, 2, 160, 0, 6, 167, 255, 177]
abbrev dktX4_goWays_5 : List UInt8 := dkwX4_goWays_5 ++ dktX4_goWays_6
def dkwX4_goWays_4 : List UInt8 := [160, 0, 9, 132, 4, 255, 167, 255, 216, 42, 21, 5, 21, 4, 182, 1, 36, 153, 0, 7, 2, 167, 0, 16]
abbrev dktX4_goWays_4 : List UInt8 := dkwX4_goWays_4 ++ dktX4_goWays_5
def dkwX4_goWays_3 : List UInt8 := [92, 46, 4, 96, 79, 42, 180, 0, 42, 21, 4, 46, 54, 5, 21, 5, 42, 180, 0, 7, 16, 8, 46]
abbrev dktX4_goWays_3 : List UInt8 := dkwX4_goWays_3 ++ dktX4_goWays_4
def dkwX4_goWays_2 : List UInt8 := [3, 3, 79, 42, 180, 0, 51, 3, 3, 79, 3, 54, 4, 21, 4, 155, 0, 221, 42, 180, 0, 42, 21, 4]
abbrev dktX4_goWays_2 : List UInt8 := dkwX4_goWays_2 ++ dktX4_goWays_3
def dkwX4_goWays_1 : List UInt8 := [180, 0, 39, 3, 27, 79, 42, 180, 0, 42, 3, 2, 79, 42, 180, 0, 45, 3, 3, 79, 42, 180, 0, 48]
abbrev dktX4_goWays_1 : List UInt8 := dkwX4_goWays_1 ++ dktX4_goWays_2
def dkwX4_goWays_0 : List UInt8 := [42, 19, 1, 35, 181, 1, 23, 42, 19, 1, 35, 181, 1, 26, 42, 19, 1, 35, 181, 1, 14, 42]
abbrev dktX4_goWays_0 : List UInt8 := dkwX4_goWays_0 ++ dktX4_goWays_1
theorem dksX4_goWays_0 : cX4_goWays.data.toList.drop 0 = dktX4_goWays_0 := by decide +kernel
theorem dksX4_goWays_1 : cX4_goWays.data.toList.drop 22 = dktX4_goWays_1 := dk_seg dksX4_goWays_0 22 rfl rfl
theorem dksX4_goWays_2 : cX4_goWays.data.toList.drop 46 = dktX4_goWays_2 := dk_seg dksX4_goWays_1 24 rfl rfl
theorem dksX4_goWays_3 : cX4_goWays.data.toList.drop 70 = dktX4_goWays_3 := dk_seg dksX4_goWays_2 24 rfl rfl
theorem dksX4_goWays_4 : cX4_goWays.data.toList.drop 93 = dktX4_goWays_4 := dk_seg dksX4_goWays_3 23 rfl rfl
theorem dksX4_goWays_5 : cX4_goWays.data.toList.drop 117 = dktX4_goWays_5 := dk_seg dksX4_goWays_4 24 rfl rfl
theorem dksX4_goWays_6 : cX4_goWays.data.toList.drop 141 = dktX4_goWays_6 := dk_seg dksX4_goWays_5 24 rfl rfl
theorem dksX4_goWays_7 : cX4_goWays.data.toList.drop 164 = dktX4_goWays_7 := dk_seg dksX4_goWays_6 23 rfl rfl
theorem dksX4_goWays_8 : cX4_goWays.data.toList.drop 187 = dktX4_goWays_8 := dk_seg dksX4_goWays_7 23 rfl rfl
theorem dksX4_goWays_9 : cX4_goWays.data.toList.drop 211 = dktX4_goWays_9 := dk_seg dksX4_goWays_8 24 rfl rfl
theorem dksX4_goWays_10 : cX4_goWays.data.toList.drop 235 = dktX4_goWays_10 := dk_seg dksX4_goWays_9 24 rfl rfl
theorem dksX4_goWays_11 : cX4_goWays.data.toList.drop 259 = dktX4_goWays_11 := dk_seg dksX4_goWays_10 24 rfl rfl
theorem dX4_goWays_0 : decode cX4_goWays 0 = .ok (.aload_n 0, 1) := dk_42 (dk_at dksX4_goWays_0 0 rfl rfl)
theorem dX4_goWays_1 : decode cX4_goWays 1 = .ok (.ldc_w 291, 3) := dk_19 1 35 (dk_at dksX4_goWays_0 1 rfl rfl)
theorem dX4_goWays_4 : decode cX4_goWays 4 = .ok (.putfield 279, 3) := dk_181 1 23 (dk_at dksX4_goWays_0 4 rfl rfl)
theorem dX4_goWays_7 : decode cX4_goWays 7 = .ok (.aload_n 0, 1) := dk_42 (dk_at dksX4_goWays_0 7 rfl rfl)
theorem dX4_goWays_8 : decode cX4_goWays 8 = .ok (.ldc_w 291, 3) := dk_19 1 35 (dk_at dksX4_goWays_0 8 rfl rfl)
theorem dX4_goWays_11 : decode cX4_goWays 11 = .ok (.putfield 282, 3) := dk_181 1 26 (dk_at dksX4_goWays_0 11 rfl rfl)
theorem dX4_goWays_14 : decode cX4_goWays 14 = .ok (.aload_n 0, 1) := dk_42 (dk_at dksX4_goWays_0 14 rfl rfl)
theorem dX4_goWays_15 : decode cX4_goWays 15 = .ok (.ldc_w 291, 3) := dk_19 1 35 (dk_at dksX4_goWays_0 15 rfl rfl)
theorem dX4_goWays_18 : decode cX4_goWays 18 = .ok (.putfield 270, 3) := dk_181 1 14 (dk_at dksX4_goWays_0 18 rfl rfl)
theorem dX4_goWays_21 : decode cX4_goWays 21 = .ok (.aload_n 0, 1) := dk_42 (dk_at dksX4_goWays_0 21 rfl rfl)
theorem dX4_goWays_22 : decode cX4_goWays 22 = .ok (.getfield 39, 3) := dk_180 0 39 (dk_at dksX4_goWays_1 0 rfl rfl)
theorem dX4_goWays_25 : decode cX4_goWays 25 = .ok (.iconst 0, 1) := dk_3 (dk_at dksX4_goWays_1 3 rfl rfl)
theorem dX4_goWays_26 : decode cX4_goWays 26 = .ok (.iload_n 1, 1) := dk_27 (dk_at dksX4_goWays_1 4 rfl rfl)
theorem dX4_goWays_27 : decode cX4_goWays 27 = .ok (.iastore, 1) := dk_79 (dk_at dksX4_goWays_1 5 rfl rfl)
theorem dX4_goWays_28 : decode cX4_goWays 28 = .ok (.aload_n 0, 1) := dk_42 (dk_at dksX4_goWays_1 6 rfl rfl)
theorem dX4_goWays_29 : decode cX4_goWays 29 = .ok (.getfield 42, 3) := dk_180 0 42 (dk_at dksX4_goWays_1 7 rfl rfl)
theorem dX4_goWays_32 : decode cX4_goWays 32 = .ok (.iconst 0, 1) := dk_3 (dk_at dksX4_goWays_1 10 rfl rfl)
theorem dX4_goWays_33 : decode cX4_goWays 33 = .ok (.iconst (-1), 1) := dk_2 (dk_at dksX4_goWays_1 11 rfl rfl)
theorem dX4_goWays_34 : decode cX4_goWays 34 = .ok (.iastore, 1) := dk_79 (dk_at dksX4_goWays_1 12 rfl rfl)
theorem dX4_goWays_35 : decode cX4_goWays 35 = .ok (.aload_n 0, 1) := dk_42 (dk_at dksX4_goWays_1 13 rfl rfl)
theorem dX4_goWays_36 : decode cX4_goWays 36 = .ok (.getfield 45, 3) := dk_180 0 45 (dk_at dksX4_goWays_1 14 rfl rfl)
theorem dX4_goWays_39 : decode cX4_goWays 39 = .ok (.iconst 0, 1) := dk_3 (dk_at dksX4_goWays_1 17 rfl rfl)
theorem dX4_goWays_40 : decode cX4_goWays 40 = .ok (.iconst 0, 1) := dk_3 (dk_at dksX4_goWays_1 18 rfl rfl)
theorem dX4_goWays_41 : decode cX4_goWays 41 = .ok (.iastore, 1) := dk_79 (dk_at dksX4_goWays_1 19 rfl rfl)
theorem dX4_goWays_42 : decode cX4_goWays 42 = .ok (.aload_n 0, 1) := dk_42 (dk_at dksX4_goWays_1 20 rfl rfl)
theorem dX4_goWays_43 : decode cX4_goWays 43 = .ok (.getfield 48, 3) := dk_180 0 48 (dk_at dksX4_goWays_1 21 rfl rfl)
theorem dX4_goWays_46 : decode cX4_goWays 46 = .ok (.iconst 0, 1) := dk_3 (dk_at dksX4_goWays_2 0 rfl rfl)
theorem dX4_goWays_47 : decode cX4_goWays 47 = .ok (.iconst 0, 1) := dk_3 (dk_at dksX4_goWays_2 1 rfl rfl)
theorem dX4_goWays_48 : decode cX4_goWays 48 = .ok (.iastore, 1) := dk_79 (dk_at dksX4_goWays_2 2 rfl rfl)
theorem dX4_goWays_49 : decode cX4_goWays 49 = .ok (.aload_n 0, 1) := dk_42 (dk_at dksX4_goWays_2 3 rfl rfl)
theorem dX4_goWays_50 : decode cX4_goWays 50 = .ok (.getfield 51, 3) := dk_180 0 51 (dk_at dksX4_goWays_2 4 rfl rfl)
theorem dX4_goWays_53 : decode cX4_goWays 53 = .ok (.iconst 0, 1) := dk_3 (dk_at dksX4_goWays_2 7 rfl rfl)
theorem dX4_goWays_54 : decode cX4_goWays 54 = .ok (.iconst 0, 1) := dk_3 (dk_at dksX4_goWays_2 8 rfl rfl)
theorem dX4_goWays_55 : decode cX4_goWays 55 = .ok (.iastore, 1) := dk_79 (dk_at dksX4_goWays_2 9 rfl rfl)
theorem dX4_goWays_56 : decode cX4_goWays 56 = .ok (.iconst 0, 1) := dk_3 (dk_at dksX4_goWays_2 10 rfl rfl)
theorem dX4_goWays_57 : decode cX4_goWays 57 = .ok (.istore 4, 2) := dk_54 4 (dk_at dksX4_goWays_2 11 rfl rfl)
theorem dX4_goWays_59 : decode cX4_goWays 59 = .ok (.iload 4, 2) := dk_21 4 (dk_at dksX4_goWays_2 13 rfl rfl)
theorem dX4_goWays_61 : decode cX4_goWays 61 = .ok (.ifCond .lt 221, 3) := dk_155 0 221 (dk_at dksX4_goWays_2 15 rfl rfl)
theorem dX4_goWays_64 : decode cX4_goWays 64 = .ok (.aload_n 0, 1) := dk_42 (dk_at dksX4_goWays_2 18 rfl rfl)
theorem dX4_goWays_65 : decode cX4_goWays 65 = .ok (.getfield 42, 3) := dk_180 0 42 (dk_at dksX4_goWays_2 19 rfl rfl)
theorem dX4_goWays_68 : decode cX4_goWays 68 = .ok (.iload 4, 2) := dk_21 4 (dk_at dksX4_goWays_2 22 rfl rfl)
theorem dX4_goWays_70 : decode cX4_goWays 70 = .ok (.dup2, 1) := dk_92 (dk_at dksX4_goWays_3 0 rfl rfl)
theorem dX4_goWays_71 : decode cX4_goWays 71 = .ok (.iaload, 1) := dk_46 (dk_at dksX4_goWays_3 1 rfl rfl)
theorem dX4_goWays_72 : decode cX4_goWays 72 = .ok (.iconst 1, 1) := dk_4 (dk_at dksX4_goWays_3 2 rfl rfl)
theorem dX4_goWays_73 : decode cX4_goWays 73 = .ok (.iadd, 1) := dk_96 (dk_at dksX4_goWays_3 3 rfl rfl)
theorem dX4_goWays_74 : decode cX4_goWays 74 = .ok (.iastore, 1) := dk_79 (dk_at dksX4_goWays_3 4 rfl rfl)
theorem dX4_goWays_75 : decode cX4_goWays 75 = .ok (.aload_n 0, 1) := dk_42 (dk_at dksX4_goWays_3 5 rfl rfl)
theorem dX4_goWays_76 : decode cX4_goWays 76 = .ok (.getfield 42, 3) := dk_180 0 42 (dk_at dksX4_goWays_3 6 rfl rfl)
theorem dX4_goWays_79 : decode cX4_goWays 79 = .ok (.iload 4, 2) := dk_21 4 (dk_at dksX4_goWays_3 9 rfl rfl)
theorem dX4_goWays_81 : decode cX4_goWays 81 = .ok (.iaload, 1) := dk_46 (dk_at dksX4_goWays_3 11 rfl rfl)
theorem dX4_goWays_82 : decode cX4_goWays 82 = .ok (.istore 5, 2) := dk_54 5 (dk_at dksX4_goWays_3 12 rfl rfl)
theorem dX4_goWays_84 : decode cX4_goWays 84 = .ok (.iload 5, 2) := dk_21 5 (dk_at dksX4_goWays_3 14 rfl rfl)
theorem dX4_goWays_86 : decode cX4_goWays 86 = .ok (.aload_n 0, 1) := dk_42 (dk_at dksX4_goWays_3 16 rfl rfl)
theorem dX4_goWays_87 : decode cX4_goWays 87 = .ok (.getfield 7, 3) := dk_180 0 7 (dk_at dksX4_goWays_3 17 rfl rfl)
theorem dX4_goWays_90 : decode cX4_goWays 90 = .ok (.bipush 8, 2) := dk_16 8 (dk_at dksX4_goWays_3 20 rfl rfl)
theorem dX4_goWays_92 : decode cX4_goWays 92 = .ok (.iaload, 1) := dk_46 (dk_at dksX4_goWays_3 22 rfl rfl)
theorem dX4_goWays_93 : decode cX4_goWays 93 = .ok (.if_icmp .ne 9, 3) := dk_160 0 9 (dk_at dksX4_goWays_4 0 rfl rfl)
theorem dX4_goWays_96 : decode cX4_goWays 96 = .ok (.iinc 4 (-1), 3) := dk_132 4 255 (dk_at dksX4_goWays_4 3 rfl rfl)
theorem dX4_goWays_99 : decode cX4_goWays 99 = .ok (.goto (-40), 3) := dk_167 255 216 (dk_at dksX4_goWays_4 6 rfl rfl)
theorem dX4_goWays_102 : decode cX4_goWays 102 = .ok (.aload_n 0, 1) := dk_42 (dk_at dksX4_goWays_4 9 rfl rfl)
theorem dX4_goWays_103 : decode cX4_goWays 103 = .ok (.iload 5, 2) := dk_21 5 (dk_at dksX4_goWays_4 10 rfl rfl)
theorem dX4_goWays_105 : decode cX4_goWays 105 = .ok (.iload 4, 2) := dk_21 4 (dk_at dksX4_goWays_4 12 rfl rfl)
theorem dX4_goWays_107 : decode cX4_goWays 107 = .ok (.invokevirtual 292, 3) := dk_182 1 36 (dk_at dksX4_goWays_4 14 rfl rfl)
theorem dX4_goWays_110 : decode cX4_goWays 110 = .ok (.ifCond .eq 7, 3) := dk_153 0 7 (dk_at dksX4_goWays_4 17 rfl rfl)
theorem dX4_goWays_113 : decode cX4_goWays 113 = .ok (.iconst (-1), 1) := dk_2 (dk_at dksX4_goWays_4 20 rfl rfl)
theorem dX4_goWays_114 : decode cX4_goWays 114 = .ok (.goto 16, 3) := dk_167 0 16 (dk_at dksX4_goWays_4 21 rfl rfl)
theorem dX4_goWays_117 : decode cX4_goWays 117 = .ok (.aload_n 0, 1) := dk_42 (dk_at dksX4_goWays_5 0 rfl rfl)
theorem dX4_goWays_118 : decode cX4_goWays 118 = .ok (.aload_n 0, 1) := dk_42 (dk_at dksX4_goWays_5 1 rfl rfl)
theorem dX4_goWays_119 : decode cX4_goWays 119 = .ok (.getfield 39, 3) := dk_180 0 39 (dk_at dksX4_goWays_5 2 rfl rfl)
theorem dX4_goWays_122 : decode cX4_goWays 122 = .ok (.iload 4, 2) := dk_21 4 (dk_at dksX4_goWays_5 5 rfl rfl)
theorem dX4_goWays_124 : decode cX4_goWays 124 = .ok (.iaload, 1) := dk_46 (dk_at dksX4_goWays_5 7 rfl rfl)
theorem dX4_goWays_125 : decode cX4_goWays 125 = .ok (.iload 5, 2) := dk_21 5 (dk_at dksX4_goWays_5 8 rfl rfl)
theorem dX4_goWays_127 : decode cX4_goWays 127 = .ok (.invokevirtual 171, 3) := dk_182 0 171 (dk_at dksX4_goWays_5 10 rfl rfl)
theorem dX4_goWays_130 : decode cX4_goWays 130 = .ok (.istore 6, 2) := dk_54 6 (dk_at dksX4_goWays_5 13 rfl rfl)
theorem dX4_goWays_132 : decode cX4_goWays 132 = .ok (.iload 6, 2) := dk_21 6 (dk_at dksX4_goWays_5 15 rfl rfl)
theorem dX4_goWays_134 : decode cX4_goWays 134 = .ok (.iconst (-1), 1) := dk_2 (dk_at dksX4_goWays_5 17 rfl rfl)
theorem dX4_goWays_135 : decode cX4_goWays 135 = .ok (.if_icmp .ne 6, 3) := dk_160 0 6 (dk_at dksX4_goWays_5 18 rfl rfl)
theorem dX4_goWays_138 : decode cX4_goWays 138 = .ok (.goto (-79), 3) := dk_167 255 177 (dk_at dksX4_goWays_5 21 rfl rfl)
theorem dX4_goWays_141 : decode cX4_goWays 141 = .ok (.aload_n 0, 1) := dk_42 (dk_at dksX4_goWays_6 0 rfl rfl)
theorem dX4_goWays_142 : decode cX4_goWays 142 = .ok (.getfield 39, 3) := dk_180 0 39 (dk_at dksX4_goWays_6 1 rfl rfl)
theorem dX4_goWays_145 : decode cX4_goWays 145 = .ok (.iload 4, 2) := dk_21 4 (dk_at dksX4_goWays_6 4 rfl rfl)
theorem dX4_goWays_147 : decode cX4_goWays 147 = .ok (.iconst 1, 1) := dk_4 (dk_at dksX4_goWays_6 6 rfl rfl)
theorem dX4_goWays_148 : decode cX4_goWays 148 = .ok (.iadd, 1) := dk_96 (dk_at dksX4_goWays_6 7 rfl rfl)
theorem dX4_goWays_149 : decode cX4_goWays 149 = .ok (.iload 5, 2) := dk_21 5 (dk_at dksX4_goWays_6 8 rfl rfl)
theorem dX4_goWays_151 : decode cX4_goWays 151 = .ok (.iastore, 1) := dk_79 (dk_at dksX4_goWays_6 10 rfl rfl)
theorem dX4_goWays_152 : decode cX4_goWays 152 = .ok (.aload_n 0, 1) := dk_42 (dk_at dksX4_goWays_6 11 rfl rfl)
theorem dX4_goWays_153 : decode cX4_goWays 153 = .ok (.getfield 45, 3) := dk_180 0 45 (dk_at dksX4_goWays_6 12 rfl rfl)
theorem dX4_goWays_156 : decode cX4_goWays 156 = .ok (.iload 4, 2) := dk_21 4 (dk_at dksX4_goWays_6 15 rfl rfl)
theorem dX4_goWays_158 : decode cX4_goWays 158 = .ok (.iconst 1, 1) := dk_4 (dk_at dksX4_goWays_6 17 rfl rfl)
theorem dX4_goWays_159 : decode cX4_goWays 159 = .ok (.iadd, 1) := dk_96 (dk_at dksX4_goWays_6 18 rfl rfl)
theorem dX4_goWays_160 : decode cX4_goWays 160 = .ok (.aload_n 0, 1) := dk_42 (dk_at dksX4_goWays_6 19 rfl rfl)
theorem dX4_goWays_161 : decode cX4_goWays 161 = .ok (.getfield 45, 3) := dk_180 0 45 (dk_at dksX4_goWays_6 20 rfl rfl)
theorem dX4_goWays_164 : decode cX4_goWays 164 = .ok (.iload 4, 2) := dk_21 4 (dk_at dksX4_goWays_7 0 rfl rfl)
theorem dX4_goWays_166 : decode cX4_goWays 166 = .ok (.iaload, 1) := dk_46 (dk_at dksX4_goWays_7 2 rfl rfl)
theorem dX4_goWays_167 : decode cX4_goWays 167 = .ok (.aload_n 0, 1) := dk_42 (dk_at dksX4_goWays_7 3 rfl rfl)
theorem dX4_goWays_168 : decode cX4_goWays 168 = .ok (.getfield 7, 3) := dk_180 0 7 (dk_at dksX4_goWays_7 4 rfl rfl)
theorem dX4_goWays_171 : decode cX4_goWays 171 = .ok (.bipush 27, 2) := dk_16 27 (dk_at dksX4_goWays_7 7 rfl rfl)
theorem dX4_goWays_173 : decode cX4_goWays 173 = .ok (.iconst 4, 1) := dk_7 (dk_at dksX4_goWays_7 9 rfl rfl)
theorem dX4_goWays_174 : decode cX4_goWays 174 = .ok (.iload 6, 2) := dk_21 6 (dk_at dksX4_goWays_7 10 rfl rfl)
theorem dX4_goWays_176 : decode cX4_goWays 176 = .ok (.imul, 1) := dk_104 (dk_at dksX4_goWays_7 12 rfl rfl)
theorem dX4_goWays_177 : decode cX4_goWays 177 = .ok (.iadd, 1) := dk_96 (dk_at dksX4_goWays_7 13 rfl rfl)
theorem dX4_goWays_178 : decode cX4_goWays 178 = .ok (.iconst 2, 1) := dk_5 (dk_at dksX4_goWays_7 14 rfl rfl)
theorem dX4_goWays_179 : decode cX4_goWays 179 = .ok (.iadd, 1) := dk_96 (dk_at dksX4_goWays_7 15 rfl rfl)
theorem dX4_goWays_180 : decode cX4_goWays 180 = .ok (.iaload, 1) := dk_46 (dk_at dksX4_goWays_7 16 rfl rfl)
theorem dX4_goWays_181 : decode cX4_goWays 181 = .ok (.iadd, 1) := dk_96 (dk_at dksX4_goWays_7 17 rfl rfl)
theorem dX4_goWays_182 : decode cX4_goWays 182 = .ok (.iastore, 1) := dk_79 (dk_at dksX4_goWays_7 18 rfl rfl)
theorem dX4_goWays_183 : decode cX4_goWays 183 = .ok (.aload_n 0, 1) := dk_42 (dk_at dksX4_goWays_7 19 rfl rfl)
theorem dX4_goWays_184 : decode cX4_goWays 184 = .ok (.getfield 48, 3) := dk_180 0 48 (dk_at dksX4_goWays_7 20 rfl rfl)
theorem dX4_goWays_187 : decode cX4_goWays 187 = .ok (.iload 4, 2) := dk_21 4 (dk_at dksX4_goWays_8 0 rfl rfl)
theorem dX4_goWays_189 : decode cX4_goWays 189 = .ok (.iconst 1, 1) := dk_4 (dk_at dksX4_goWays_8 2 rfl rfl)
theorem dX4_goWays_190 : decode cX4_goWays 190 = .ok (.iadd, 1) := dk_96 (dk_at dksX4_goWays_8 3 rfl rfl)
theorem dX4_goWays_191 : decode cX4_goWays 191 = .ok (.aload_n 0, 1) := dk_42 (dk_at dksX4_goWays_8 4 rfl rfl)
theorem dX4_goWays_192 : decode cX4_goWays 192 = .ok (.getfield 48, 3) := dk_180 0 48 (dk_at dksX4_goWays_8 5 rfl rfl)
theorem dX4_goWays_195 : decode cX4_goWays 195 = .ok (.iload 4, 2) := dk_21 4 (dk_at dksX4_goWays_8 8 rfl rfl)
theorem dX4_goWays_197 : decode cX4_goWays 197 = .ok (.iaload, 1) := dk_46 (dk_at dksX4_goWays_8 10 rfl rfl)
theorem dX4_goWays_198 : decode cX4_goWays 198 = .ok (.aload_n 0, 1) := dk_42 (dk_at dksX4_goWays_8 11 rfl rfl)
theorem dX4_goWays_199 : decode cX4_goWays 199 = .ok (.getfield 7, 3) := dk_180 0 7 (dk_at dksX4_goWays_8 12 rfl rfl)
theorem dX4_goWays_202 : decode cX4_goWays 202 = .ok (.bipush 27, 2) := dk_16 27 (dk_at dksX4_goWays_8 15 rfl rfl)
theorem dX4_goWays_204 : decode cX4_goWays 204 = .ok (.iconst 4, 1) := dk_7 (dk_at dksX4_goWays_8 17 rfl rfl)
theorem dX4_goWays_205 : decode cX4_goWays 205 = .ok (.iload 6, 2) := dk_21 6 (dk_at dksX4_goWays_8 18 rfl rfl)
theorem dX4_goWays_207 : decode cX4_goWays 207 = .ok (.imul, 1) := dk_104 (dk_at dksX4_goWays_8 20 rfl rfl)
theorem dX4_goWays_208 : decode cX4_goWays 208 = .ok (.iadd, 1) := dk_96 (dk_at dksX4_goWays_8 21 rfl rfl)
theorem dX4_goWays_209 : decode cX4_goWays 209 = .ok (.iconst 3, 1) := dk_6 (dk_at dksX4_goWays_8 22 rfl rfl)
theorem dX4_goWays_210 : decode cX4_goWays 210 = .ok (.iadd, 1) := dk_96 (dk_at dksX4_goWays_8 23 rfl rfl)
theorem dX4_goWays_211 : decode cX4_goWays 211 = .ok (.iaload, 1) := dk_46 (dk_at dksX4_goWays_9 0 rfl rfl)
theorem dX4_goWays_212 : decode cX4_goWays 212 = .ok (.iadd, 1) := dk_96 (dk_at dksX4_goWays_9 1 rfl rfl)
theorem dX4_goWays_213 : decode cX4_goWays 213 = .ok (.iastore, 1) := dk_79 (dk_at dksX4_goWays_9 2 rfl rfl)
theorem dX4_goWays_214 : decode cX4_goWays 214 = .ok (.aload_n 0, 1) := dk_42 (dk_at dksX4_goWays_9 3 rfl rfl)
theorem dX4_goWays_215 : decode cX4_goWays 215 = .ok (.getfield 51, 3) := dk_180 0 51 (dk_at dksX4_goWays_9 4 rfl rfl)
theorem dX4_goWays_218 : decode cX4_goWays 218 = .ok (.iload 4, 2) := dk_21 4 (dk_at dksX4_goWays_9 7 rfl rfl)
theorem dX4_goWays_220 : decode cX4_goWays 220 = .ok (.iconst 1, 1) := dk_4 (dk_at dksX4_goWays_9 9 rfl rfl)
theorem dX4_goWays_221 : decode cX4_goWays 221 = .ok (.iadd, 1) := dk_96 (dk_at dksX4_goWays_9 10 rfl rfl)
theorem dX4_goWays_222 : decode cX4_goWays 222 = .ok (.aload_n 0, 1) := dk_42 (dk_at dksX4_goWays_9 11 rfl rfl)
theorem dX4_goWays_223 : decode cX4_goWays 223 = .ok (.getfield 51, 3) := dk_180 0 51 (dk_at dksX4_goWays_9 12 rfl rfl)
theorem dX4_goWays_226 : decode cX4_goWays 226 = .ok (.iload 4, 2) := dk_21 4 (dk_at dksX4_goWays_9 15 rfl rfl)
theorem dX4_goWays_228 : decode cX4_goWays 228 = .ok (.iaload, 1) := dk_46 (dk_at dksX4_goWays_9 17 rfl rfl)
theorem dX4_goWays_229 : decode cX4_goWays 229 = .ok (.aload_n 0, 1) := dk_42 (dk_at dksX4_goWays_9 18 rfl rfl)
theorem dX4_goWays_230 : decode cX4_goWays 230 = .ok (.getfield 7, 3) := dk_180 0 7 (dk_at dksX4_goWays_9 19 rfl rfl)
theorem dX4_goWays_233 : decode cX4_goWays 233 = .ok (.bipush 15, 2) := dk_16 15 (dk_at dksX4_goWays_9 22 rfl rfl)
theorem dX4_goWays_235 : decode cX4_goWays 235 = .ok (.iload 5, 2) := dk_21 5 (dk_at dksX4_goWays_10 0 rfl rfl)
theorem dX4_goWays_237 : decode cX4_goWays 237 = .ok (.iadd, 1) := dk_96 (dk_at dksX4_goWays_10 2 rfl rfl)
theorem dX4_goWays_238 : decode cX4_goWays 238 = .ok (.iaload, 1) := dk_46 (dk_at dksX4_goWays_10 3 rfl rfl)
theorem dX4_goWays_239 : decode cX4_goWays 239 = .ok (.iadd, 1) := dk_96 (dk_at dksX4_goWays_10 4 rfl rfl)
theorem dX4_goWays_240 : decode cX4_goWays 240 = .ok (.iastore, 1) := dk_79 (dk_at dksX4_goWays_10 5 rfl rfl)
theorem dX4_goWays_241 : decode cX4_goWays 241 = .ok (.iload 5, 2) := dk_21 5 (dk_at dksX4_goWays_10 6 rfl rfl)
theorem dX4_goWays_243 : decode cX4_goWays 243 = .ok (.iload_n 2, 1) := dk_28 (dk_at dksX4_goWays_10 8 rfl rfl)
theorem dX4_goWays_244 : decode cX4_goWays 244 = .ok (.if_icmp .ne 15, 3) := dk_160 0 15 (dk_at dksX4_goWays_10 9 rfl rfl)
theorem dX4_goWays_247 : decode cX4_goWays 247 = .ok (.aload_n 0, 1) := dk_42 (dk_at dksX4_goWays_10 12 rfl rfl)
theorem dX4_goWays_248 : decode cX4_goWays 248 = .ok (.iload 4, 2) := dk_21 4 (dk_at dksX4_goWays_10 13 rfl rfl)
theorem dX4_goWays_250 : decode cX4_goWays 250 = .ok (.iconst 1, 1) := dk_4 (dk_at dksX4_goWays_10 15 rfl rfl)
theorem dX4_goWays_251 : decode cX4_goWays 251 = .ok (.iadd, 1) := dk_96 (dk_at dksX4_goWays_10 16 rfl rfl)
theorem dX4_goWays_252 : decode cX4_goWays 252 = .ok (.iload_n 3, 1) := dk_29 (dk_at dksX4_goWays_10 17 rfl rfl)
theorem dX4_goWays_253 : decode cX4_goWays 253 = .ok (.invokevirtual 296, 3) := dk_182 1 40 (dk_at dksX4_goWays_10 18 rfl rfl)
theorem dX4_goWays_256 : decode cX4_goWays 256 = .ok (.goto 23, 3) := dk_167 0 23 (dk_at dksX4_goWays_10 21 rfl rfl)
theorem dX4_goWays_259 : decode cX4_goWays 259 = .ok (.iload 4, 2) := dk_21 4 (dk_at dksX4_goWays_11 0 rfl rfl)
theorem dX4_goWays_261 : decode cX4_goWays 261 = .ok (.iconst 1, 1) := dk_4 (dk_at dksX4_goWays_11 2 rfl rfl)
theorem dX4_goWays_262 : decode cX4_goWays 262 = .ok (.iadd, 1) := dk_96 (dk_at dksX4_goWays_11 3 rfl rfl)
theorem dX4_goWays_263 : decode cX4_goWays 263 = .ok (.bipush 6, 2) := dk_16 6 (dk_at dksX4_goWays_11 4 rfl rfl)
theorem dX4_goWays_265 : decode cX4_goWays 265 = .ok (.if_icmp .ge 14, 3) := dk_162 0 14 (dk_at dksX4_goWays_11 6 rfl rfl)
theorem dX4_goWays_268 : decode cX4_goWays 268 = .ok (.iinc 4 1, 3) := dk_132 4 1 (dk_at dksX4_goWays_11 9 rfl rfl)
theorem dX4_goWays_271 : decode cX4_goWays 271 = .ok (.aload_n 0, 1) := dk_42 (dk_at dksX4_goWays_11 12 rfl rfl)
theorem dX4_goWays_272 : decode cX4_goWays 272 = .ok (.getfield 42, 3) := dk_180 0 42 (dk_at dksX4_goWays_11 13 rfl rfl)
theorem dX4_goWays_275 : decode cX4_goWays 275 = .ok (.iload 4, 2) := dk_21 4 (dk_at dksX4_goWays_11 16 rfl rfl)
theorem dX4_goWays_277 : decode cX4_goWays 277 = .ok (.iconst (-1), 1) := dk_2 (dk_at dksX4_goWays_11 18 rfl rfl)
theorem dX4_goWays_278 : decode cX4_goWays 278 = .ok (.iastore, 1) := dk_79 (dk_at dksX4_goWays_11 19 rfl rfl)
theorem dX4_goWays_279 : decode cX4_goWays 279 = .ok (.goto (-220), 3) := dk_167 255 36 (dk_at dksX4_goWays_11 20 rfl rfl)
theorem dX4_goWays_282 : decode cX4_goWays 282 = .ok (.return_, 1) := dk_177 (dk_at dksX4_goWays_11 23 rfl rfl)
theorem c_345_0 : LkP (OkP 345) [(0, o_aload 0 1), (1, o_push 3 (.int 1000000000)), (4, o_put 172 1), (7, o_aload 0 1), (8, o_push 3 (.int 1000000000)), (11, o_put 173 1), (14, o_aload 0 1), (15, o_push 3 (.int 1000000000)), (18, o_put 176 1), (21, o_aload 0 1), (22, o_get 166), (25, o_push 1 (.int 0)), (26, o_iload 1 1), (27, o_wrI 0), (28, o_aload 0 1), (29, o_get 167), (32, o_push 1 (.int 0)), (33, o_push 1 (.int (-1))), (34, o_wrI 0), (35, o_aload 0 1), (36, o_get 168), (39, o_push 1 (.int 0)), (40, o_push 1 (.int 0)), (41, o_wrI 0), (42, o_aload 0 1), (43, o_get 169), (46, o_push 1 (.int 0)), (47, o_push 1 (.int 0)), (48, o_wrI 0), (49, o_aload 0 1), (50, o_get 170), (53, o_push 1 (.int 0)), (54, o_push 1 (.int 0)), (55, o_wrI 0), (56, o_push 1 (.int 0)), (57, o_istore 4 2), (59, o_iload 4 2), (61, o_if (fun x => decide (x < 0)) 282)] := lkp_c (P := OkP 345) ⟨(PuOK.ok (ok_aload_n dX4_goWays_0 rfl)), m_aload⟩ (
  lkp_c (P := OkP 345) ⟨(PuOK.ok (ok_ldcw q3444 dX4_goWays_1)), m_push⟩ (
  lkp_c (P := OkP 345) ⟨ok_put ⟨"TollRoadModel", q3104, Or.inl rfl⟩ rfl fd_172 rfl dX4_goWays_4, m_put⟩ (
  lkp_c (P := OkP 345) ⟨(PuOK.ok (ok_aload_n dX4_goWays_7 rfl)), m_aload⟩ (
  lkp_c (P := OkP 345) ⟨(PuOK.ok (ok_ldcw q3444 dX4_goWays_8)), m_push⟩ (
  lkp_c (P := OkP 345) ⟨ok_put ⟨"TollRoadModel", q3105, Or.inl rfl⟩ rfl fd_173 rfl dX4_goWays_11, m_put⟩ (
  lkp_c (P := OkP 345) ⟨(PuOK.ok (ok_aload_n dX4_goWays_14 rfl)), m_aload⟩ (
  lkp_c (P := OkP 345) ⟨(PuOK.ok (ok_ldcw q3444 dX4_goWays_15)), m_push⟩ (
  lkp_c (P := OkP 345) ⟨ok_put ⟨"TollRoadModel", q3108, Or.inl rfl⟩ rfl fd_176 rfl dX4_goWays_18, m_put⟩ (
  lkp_c (P := OkP 345) ⟨(PuOK.ok (ok_aload_n dX4_goWays_21 rfl)), m_aload⟩ (
  lkp_c (P := OkP 345) ⟨ok_get ⟨"TollRoadModel", q3098, Or.inl rfl⟩ dX4_goWays_22, m_get⟩ (
  lkp_c (P := OkP 345) ⟨(PuOK.ok (ok_iconst dX4_goWays_25 rfl)), m_push⟩ (
  lkp_c (P := OkP 345) ⟨(PuOK.ok (ok_iload_n dX4_goWays_26 rfl)), m_iload⟩ (
  lkp_c (P := OkP 345) ⟨ok_iast dX4_goWays_27, m_wrI⟩ (
  lkp_c (P := OkP 345) ⟨(PuOK.ok (ok_aload_n dX4_goWays_28 rfl)), m_aload⟩ (
  lkp_c (P := OkP 345) ⟨ok_get ⟨"TollRoadModel", q3099, Or.inl rfl⟩ dX4_goWays_29, m_get⟩ (
  lkp_c (P := OkP 345) ⟨(PuOK.ok (ok_iconst dX4_goWays_32 rfl)), m_push⟩ (
  lkp_c (P := OkP 345) ⟨(PuOK.ok (ok_iconst dX4_goWays_33 rfl)), m_push⟩ (
  lkp_c (P := OkP 345) ⟨ok_iast dX4_goWays_34, m_wrI⟩ (
  lkp_c (P := OkP 345) ⟨(PuOK.ok (ok_aload_n dX4_goWays_35 rfl)), m_aload⟩ (
  lkp_c (P := OkP 345) ⟨ok_get ⟨"TollRoadModel", q3100, Or.inl rfl⟩ dX4_goWays_36, m_get⟩ (
  lkp_c (P := OkP 345) ⟨(PuOK.ok (ok_iconst dX4_goWays_39 rfl)), m_push⟩ (
  lkp_c (P := OkP 345) ⟨(PuOK.ok (ok_iconst dX4_goWays_40 rfl)), m_push⟩ (
  lkp_c (P := OkP 345) ⟨ok_iast dX4_goWays_41, m_wrI⟩ (
  lkp_c (P := OkP 345) ⟨(PuOK.ok (ok_aload_n dX4_goWays_42 rfl)), m_aload⟩ (
  lkp_c (P := OkP 345) ⟨ok_get ⟨"TollRoadModel", q3101, Or.inl rfl⟩ dX4_goWays_43, m_get⟩ (
  lkp_c (P := OkP 345) ⟨(PuOK.ok (ok_iconst dX4_goWays_46 rfl)), m_push⟩ (
  lkp_c (P := OkP 345) ⟨(PuOK.ok (ok_iconst dX4_goWays_47 rfl)), m_push⟩ (
  lkp_c (P := OkP 345) ⟨ok_iast dX4_goWays_48, m_wrI⟩ (
  lkp_c (P := OkP 345) ⟨(PuOK.ok (ok_aload_n dX4_goWays_49 rfl)), m_aload⟩ (
  lkp_c (P := OkP 345) ⟨ok_get ⟨"TollRoadModel", q3102, Or.inl rfl⟩ dX4_goWays_50, m_get⟩ (
  lkp_c (P := OkP 345) ⟨(PuOK.ok (ok_iconst dX4_goWays_53 rfl)), m_push⟩ (
  lkp_c (P := OkP 345) ⟨(PuOK.ok (ok_iconst dX4_goWays_54 rfl)), m_push⟩ (
  lkp_c (P := OkP 345) ⟨ok_iast dX4_goWays_55, m_wrI⟩ (
  lkp_c (P := OkP 345) ⟨(PuOK.ok (ok_iconst dX4_goWays_56 rfl)), m_push⟩ (
  lkp_c (P := OkP 345) ⟨(PuOK.ok (ok_istore dX4_goWays_57)), m_istore⟩ (
  lkp_c (P := OkP 345) ⟨(PuOK.ok (ok_iload dX4_goWays_59)), m_iload⟩ (
  lkp_c (P := OkP 345) ⟨(PuOK.ok (ok_if_lt dX4_goWays_61 rfl)), m_if⟩ (
  trivial))))))))))))))))))))))))))))))))))))))
theorem c_345_1 : LkP (OkP 345) [(64, o_aload 0 1), (65, o_get 167), (68, o_iload 4 2), (70, o_dup2), (71, o_rdI 0), (72, o_push 1 (.int 1)), (73, o_iop (fun x y => x + y)), (74, o_wrI 0), (75, o_aload 0 1), (76, o_get 167), (79, o_iload 4 2), (81, o_rdI 0), (82, o_istore 5 2), (84, o_iload 5 2), (86, o_aload 0 1), (87, o_get 148), (90, o_push 2 (.int 8)), (92, o_rdI 0), (93, o_icmp (fun x y => decide (¬ x = y)) 102), (96, o_iinc 4 (-1)), (99, o_goto 59), (102, o_aload 0 1), (103, o_iload 5 2), (105, o_iload 4 2), (107, o_cv [(30, 346)] 2 3 false none), (110, o_if (fun x => decide (x = 0)) 117), (113, o_push 1 (.int (-1))), (114, o_goto 130), (117, o_aload 0 1), (118, o_aload 0 1), (119, o_get 166), (122, o_iload 4 2), (124, o_rdI 0), (125, o_iload 5 2), (127, o_cv [(30, 310)] 2 3 false none)] := lkp_c (P := OkP 345) ⟨(PuOK.ok (ok_aload_n dX4_goWays_64 rfl)), m_aload⟩ (
  lkp_c (P := OkP 345) ⟨ok_get ⟨"TollRoadModel", q3099, Or.inl rfl⟩ dX4_goWays_65, m_get⟩ (
  lkp_c (P := OkP 345) ⟨(PuOK.ok (ok_iload dX4_goWays_68)), m_iload⟩ (
  lkp_c (P := OkP 345) ⟨(PuOK.ok (ok_dup2 dX4_goWays_70)), m_dup2⟩ (
  lkp_c (P := OkP 345) ⟨ok_iald dX4_goWays_71, m_rdI⟩ (
  lkp_c (P := OkP 345) ⟨(PuOK.ok (ok_iconst dX4_goWays_72 rfl)), m_push⟩ (
  lkp_c (P := OkP 345) ⟨(PuOK.ok (ok_iadd dX4_goWays_73)), m_iop⟩ (
  lkp_c (P := OkP 345) ⟨ok_iast dX4_goWays_74, m_wrI⟩ (
  lkp_c (P := OkP 345) ⟨(PuOK.ok (ok_aload_n dX4_goWays_75 rfl)), m_aload⟩ (
  lkp_c (P := OkP 345) ⟨ok_get ⟨"TollRoadModel", q3099, Or.inl rfl⟩ dX4_goWays_76, m_get⟩ (
  lkp_c (P := OkP 345) ⟨(PuOK.ok (ok_iload dX4_goWays_79)), m_iload⟩ (
  lkp_c (P := OkP 345) ⟨ok_iald dX4_goWays_81, m_rdI⟩ (
  lkp_c (P := OkP 345) ⟨(PuOK.ok (ok_istore dX4_goWays_82)), m_istore⟩ (
  lkp_c (P := OkP 345) ⟨(PuOK.ok (ok_iload dX4_goWays_84)), m_iload⟩ (
  lkp_c (P := OkP 345) ⟨(PuOK.ok (ok_aload_n dX4_goWays_86 rfl)), m_aload⟩ (
  lkp_c (P := OkP 345) ⟨ok_get ⟨"TollRoadModel", q3080, Or.inl rfl⟩ dX4_goWays_87, m_get⟩ (
  lkp_c (P := OkP 345) ⟨(PuOK.ok (ok_bipush dX4_goWays_90 rfl)), m_push⟩ (
  lkp_c (P := OkP 345) ⟨ok_iald dX4_goWays_92, m_rdI⟩ (
  lkp_c (P := OkP 345) ⟨(PuOK.ok (ok_icmp_ne dX4_goWays_93 rfl)), m_icmp⟩ (
  lkp_c (P := OkP 345) ⟨(PuOK.ok (ok_iinc dX4_goWays_96 rfl)), m_iinc⟩ (
  lkp_c (P := OkP 345) ⟨(PuOK.ok (ok_goto dX4_goWays_99 rfl)), m_goto⟩ (
  lkp_c (P := OkP 345) ⟨(PuOK.ok (ok_aload_n dX4_goWays_102 rfl)), m_aload⟩ (
  lkp_c (P := OkP 345) ⟨(PuOK.ok (ok_iload dX4_goWays_103)), m_iload⟩ (
  lkp_c (P := OkP 345) ⟨(PuOK.ok (ok_iload dX4_goWays_105)), m_iload⟩ (
  lkp_c (P := OkP 345) ⟨ok_cv (List.forall_mem_cons.mpr ⟨tg_V (ci := 30) (r := CLr 30) (y := 346) rfl ⟨rfl, by decide⟩ rfl q3445 q3447 qs78 q139 q3448 ⟨cn_34.1, cn_34.2, pd_126⟩ dX4_goWays_107, (List.forall_mem_nil _)⟩) hd_no, m_cv⟩ (
  lkp_c (P := OkP 345) ⟨(PuOK.ok (ok_if_eq dX4_goWays_110 rfl)), m_if⟩ (
  lkp_c (P := OkP 345) ⟨(PuOK.ok (ok_iconst dX4_goWays_113 rfl)), m_push⟩ (
  lkp_c (P := OkP 345) ⟨(PuOK.ok (ok_goto dX4_goWays_114 rfl)), m_goto⟩ (
  lkp_c (P := OkP 345) ⟨(PuOK.ok (ok_aload_n dX4_goWays_117 rfl)), m_aload⟩ (
  lkp_c (P := OkP 345) ⟨(PuOK.ok (ok_aload_n dX4_goWays_118 rfl)), m_aload⟩ (
  lkp_c (P := OkP 345) ⟨ok_get ⟨"TollRoadModel", q3098, Or.inl rfl⟩ dX4_goWays_119, m_get⟩ (
  lkp_c (P := OkP 345) ⟨(PuOK.ok (ok_iload dX4_goWays_122)), m_iload⟩ (
  lkp_c (P := OkP 345) ⟨ok_iald dX4_goWays_124, m_rdI⟩ (
  lkp_c (P := OkP 345) ⟨(PuOK.ok (ok_iload dX4_goWays_125)), m_iload⟩ (
  lkp_c (P := OkP 345) ⟨ok_cv (List.forall_mem_cons.mpr ⟨tg_V (ci := 30) (r := CLr 30) (y := 310) rfl ⟨rfl, by decide⟩ rfl q3295 q3297 qs55 q139 q3298 ⟨cn_34.1, cn_34.2, pd_1⟩ dX4_goWays_127, (List.forall_mem_nil _)⟩) hd_no, m_cv⟩ (
  trivial)))))))))))))))))))))))))))))))))))
theorem c_345_2 : LkP (OkP 345) [(130, o_istore 6 2), (132, o_iload 6 2), (134, o_push 1 (.int (-1))), (135, o_icmp (fun x y => decide (¬ x = y)) 141), (138, o_goto 59), (141, o_aload 0 1), (142, o_get 166), (145, o_iload 4 2), (147, o_push 1 (.int 1)), (148, o_iop (fun x y => x + y)), (149, o_iload 5 2), (151, o_wrI 0), (152, o_aload 0 1), (153, o_get 168), (156, o_iload 4 2), (158, o_push 1 (.int 1)), (159, o_iop (fun x y => x + y)), (160, o_aload 0 1), (161, o_get 168), (164, o_iload 4 2), (166, o_rdI 0), (167, o_aload 0 1), (168, o_get 148), (171, o_push 2 (.int 27)), (173, o_push 1 (.int 4)), (174, o_iload 6 2), (176, o_iop (fun x y => x * y)), (177, o_iop (fun x y => x + y)), (178, o_push 1 (.int 2)), (179, o_iop (fun x y => x + y)), (180, o_rdI 0), (181, o_iop (fun x y => x + y)), (182, o_wrI 0), (183, o_aload 0 1), (184, o_get 169), (187, o_iload 4 2), (189, o_push 1 (.int 1)), (190, o_iop (fun x y => x + y)), (191, o_aload 0 1)] := lkp_c (P := OkP 345) ⟨(PuOK.ok (ok_istore dX4_goWays_130)), m_istore⟩ (
  lkp_c (P := OkP 345) ⟨(PuOK.ok (ok_iload dX4_goWays_132)), m_iload⟩ (
  lkp_c (P := OkP 345) ⟨(PuOK.ok (ok_iconst dX4_goWays_134 rfl)), m_push⟩ (
  lkp_c (P := OkP 345) ⟨(PuOK.ok (ok_icmp_ne dX4_goWays_135 rfl)), m_icmp⟩ (
  lkp_c (P := OkP 345) ⟨(PuOK.ok (ok_goto dX4_goWays_138 rfl)), m_goto⟩ (
  lkp_c (P := OkP 345) ⟨(PuOK.ok (ok_aload_n dX4_goWays_141 rfl)), m_aload⟩ (
  lkp_c (P := OkP 345) ⟨ok_get ⟨"TollRoadModel", q3098, Or.inl rfl⟩ dX4_goWays_142, m_get⟩ (
  lkp_c (P := OkP 345) ⟨(PuOK.ok (ok_iload dX4_goWays_145)), m_iload⟩ (
  lkp_c (P := OkP 345) ⟨(PuOK.ok (ok_iconst dX4_goWays_147 rfl)), m_push⟩ (
  lkp_c (P := OkP 345) ⟨(PuOK.ok (ok_iadd dX4_goWays_148)), m_iop⟩ (
  lkp_c (P := OkP 345) ⟨(PuOK.ok (ok_iload dX4_goWays_149)), m_iload⟩ (
  lkp_c (P := OkP 345) ⟨ok_iast dX4_goWays_151, m_wrI⟩ (
  lkp_c (P := OkP 345) ⟨(PuOK.ok (ok_aload_n dX4_goWays_152 rfl)), m_aload⟩ (
  lkp_c (P := OkP 345) ⟨ok_get ⟨"TollRoadModel", q3100, Or.inl rfl⟩ dX4_goWays_153, m_get⟩ (
  lkp_c (P := OkP 345) ⟨(PuOK.ok (ok_iload dX4_goWays_156)), m_iload⟩ (
  lkp_c (P := OkP 345) ⟨(PuOK.ok (ok_iconst dX4_goWays_158 rfl)), m_push⟩ (
  lkp_c (P := OkP 345) ⟨(PuOK.ok (ok_iadd dX4_goWays_159)), m_iop⟩ (
  lkp_c (P := OkP 345) ⟨(PuOK.ok (ok_aload_n dX4_goWays_160 rfl)), m_aload⟩ (
  lkp_c (P := OkP 345) ⟨ok_get ⟨"TollRoadModel", q3100, Or.inl rfl⟩ dX4_goWays_161, m_get⟩ (
  lkp_c (P := OkP 345) ⟨(PuOK.ok (ok_iload dX4_goWays_164)), m_iload⟩ (
  lkp_c (P := OkP 345) ⟨ok_iald dX4_goWays_166, m_rdI⟩ (
  lkp_c (P := OkP 345) ⟨(PuOK.ok (ok_aload_n dX4_goWays_167 rfl)), m_aload⟩ (
  lkp_c (P := OkP 345) ⟨ok_get ⟨"TollRoadModel", q3080, Or.inl rfl⟩ dX4_goWays_168, m_get⟩ (
  lkp_c (P := OkP 345) ⟨(PuOK.ok (ok_bipush dX4_goWays_171 rfl)), m_push⟩ (
  lkp_c (P := OkP 345) ⟨(PuOK.ok (ok_iconst dX4_goWays_173 rfl)), m_push⟩ (
  lkp_c (P := OkP 345) ⟨(PuOK.ok (ok_iload dX4_goWays_174)), m_iload⟩ (
  lkp_c (P := OkP 345) ⟨(PuOK.ok (ok_imul dX4_goWays_176)), m_iop⟩ (
  lkp_c (P := OkP 345) ⟨(PuOK.ok (ok_iadd dX4_goWays_177)), m_iop⟩ (
  lkp_c (P := OkP 345) ⟨(PuOK.ok (ok_iconst dX4_goWays_178 rfl)), m_push⟩ (
  lkp_c (P := OkP 345) ⟨(PuOK.ok (ok_iadd dX4_goWays_179)), m_iop⟩ (
  lkp_c (P := OkP 345) ⟨ok_iald dX4_goWays_180, m_rdI⟩ (
  lkp_c (P := OkP 345) ⟨(PuOK.ok (ok_iadd dX4_goWays_181)), m_iop⟩ (
  lkp_c (P := OkP 345) ⟨ok_iast dX4_goWays_182, m_wrI⟩ (
  lkp_c (P := OkP 345) ⟨(PuOK.ok (ok_aload_n dX4_goWays_183 rfl)), m_aload⟩ (
  lkp_c (P := OkP 345) ⟨ok_get ⟨"TollRoadModel", q3101, Or.inl rfl⟩ dX4_goWays_184, m_get⟩ (
  lkp_c (P := OkP 345) ⟨(PuOK.ok (ok_iload dX4_goWays_187)), m_iload⟩ (
  lkp_c (P := OkP 345) ⟨(PuOK.ok (ok_iconst dX4_goWays_189 rfl)), m_push⟩ (
  lkp_c (P := OkP 345) ⟨(PuOK.ok (ok_iadd dX4_goWays_190)), m_iop⟩ (
  lkp_c (P := OkP 345) ⟨(PuOK.ok (ok_aload_n dX4_goWays_191 rfl)), m_aload⟩ (
  trivial)))))))))))))))))))))))))))))))))))))))
theorem c_345_3 : LkP (OkP 345) [(192, o_get 169), (195, o_iload 4 2), (197, o_rdI 0), (198, o_aload 0 1), (199, o_get 148), (202, o_push 2 (.int 27)), (204, o_push 1 (.int 4)), (205, o_iload 6 2), (207, o_iop (fun x y => x * y)), (208, o_iop (fun x y => x + y)), (209, o_push 1 (.int 3)), (210, o_iop (fun x y => x + y)), (211, o_rdI 0), (212, o_iop (fun x y => x + y)), (213, o_wrI 0), (214, o_aload 0 1), (215, o_get 170), (218, o_iload 4 2), (220, o_push 1 (.int 1)), (221, o_iop (fun x y => x + y)), (222, o_aload 0 1), (223, o_get 170), (226, o_iload 4 2), (228, o_rdI 0), (229, o_aload 0 1), (230, o_get 148), (233, o_push 2 (.int 15)), (235, o_iload 5 2), (237, o_iop (fun x y => x + y)), (238, o_rdI 0), (239, o_iop (fun x y => x + y)), (240, o_wrI 0), (241, o_iload 5 2), (243, o_iload 2 1), (244, o_icmp (fun x y => decide (¬ x = y)) 259), (247, o_aload 0 1), (248, o_iload 4 2), (250, o_push 1 (.int 1)), (251, o_iop (fun x y => x + y)), (252, o_iload 3 1), (253, o_cv [(30, 347)] 2 3 true none)] := lkp_c (P := OkP 345) ⟨ok_get ⟨"TollRoadModel", q3101, Or.inl rfl⟩ dX4_goWays_192, m_get⟩ (
  lkp_c (P := OkP 345) ⟨(PuOK.ok (ok_iload dX4_goWays_195)), m_iload⟩ (
  lkp_c (P := OkP 345) ⟨ok_iald dX4_goWays_197, m_rdI⟩ (
  lkp_c (P := OkP 345) ⟨(PuOK.ok (ok_aload_n dX4_goWays_198 rfl)), m_aload⟩ (
  lkp_c (P := OkP 345) ⟨ok_get ⟨"TollRoadModel", q3080, Or.inl rfl⟩ dX4_goWays_199, m_get⟩ (
  lkp_c (P := OkP 345) ⟨(PuOK.ok (ok_bipush dX4_goWays_202 rfl)), m_push⟩ (
  lkp_c (P := OkP 345) ⟨(PuOK.ok (ok_iconst dX4_goWays_204 rfl)), m_push⟩ (
  lkp_c (P := OkP 345) ⟨(PuOK.ok (ok_iload dX4_goWays_205)), m_iload⟩ (
  lkp_c (P := OkP 345) ⟨(PuOK.ok (ok_imul dX4_goWays_207)), m_iop⟩ (
  lkp_c (P := OkP 345) ⟨(PuOK.ok (ok_iadd dX4_goWays_208)), m_iop⟩ (
  lkp_c (P := OkP 345) ⟨(PuOK.ok (ok_iconst dX4_goWays_209 rfl)), m_push⟩ (
  lkp_c (P := OkP 345) ⟨(PuOK.ok (ok_iadd dX4_goWays_210)), m_iop⟩ (
  lkp_c (P := OkP 345) ⟨ok_iald dX4_goWays_211, m_rdI⟩ (
  lkp_c (P := OkP 345) ⟨(PuOK.ok (ok_iadd dX4_goWays_212)), m_iop⟩ (
  lkp_c (P := OkP 345) ⟨ok_iast dX4_goWays_213, m_wrI⟩ (
  lkp_c (P := OkP 345) ⟨(PuOK.ok (ok_aload_n dX4_goWays_214 rfl)), m_aload⟩ (
  lkp_c (P := OkP 345) ⟨ok_get ⟨"TollRoadModel", q3102, Or.inl rfl⟩ dX4_goWays_215, m_get⟩ (
  lkp_c (P := OkP 345) ⟨(PuOK.ok (ok_iload dX4_goWays_218)), m_iload⟩ (
  lkp_c (P := OkP 345) ⟨(PuOK.ok (ok_iconst dX4_goWays_220 rfl)), m_push⟩ (
  lkp_c (P := OkP 345) ⟨(PuOK.ok (ok_iadd dX4_goWays_221)), m_iop⟩ (
  lkp_c (P := OkP 345) ⟨(PuOK.ok (ok_aload_n dX4_goWays_222 rfl)), m_aload⟩ (
  lkp_c (P := OkP 345) ⟨ok_get ⟨"TollRoadModel", q3102, Or.inl rfl⟩ dX4_goWays_223, m_get⟩ (
  lkp_c (P := OkP 345) ⟨(PuOK.ok (ok_iload dX4_goWays_226)), m_iload⟩ (
  lkp_c (P := OkP 345) ⟨ok_iald dX4_goWays_228, m_rdI⟩ (
  lkp_c (P := OkP 345) ⟨(PuOK.ok (ok_aload_n dX4_goWays_229 rfl)), m_aload⟩ (
  lkp_c (P := OkP 345) ⟨ok_get ⟨"TollRoadModel", q3080, Or.inl rfl⟩ dX4_goWays_230, m_get⟩ (
  lkp_c (P := OkP 345) ⟨(PuOK.ok (ok_bipush dX4_goWays_233 rfl)), m_push⟩ (
  lkp_c (P := OkP 345) ⟨(PuOK.ok (ok_iload dX4_goWays_235)), m_iload⟩ (
  lkp_c (P := OkP 345) ⟨(PuOK.ok (ok_iadd dX4_goWays_237)), m_iop⟩ (
  lkp_c (P := OkP 345) ⟨ok_iald dX4_goWays_238, m_rdI⟩ (
  lkp_c (P := OkP 345) ⟨(PuOK.ok (ok_iadd dX4_goWays_239)), m_iop⟩ (
  lkp_c (P := OkP 345) ⟨ok_iast dX4_goWays_240, m_wrI⟩ (
  lkp_c (P := OkP 345) ⟨(PuOK.ok (ok_iload dX4_goWays_241)), m_iload⟩ (
  lkp_c (P := OkP 345) ⟨(PuOK.ok (ok_iload_n dX4_goWays_243 rfl)), m_iload⟩ (
  lkp_c (P := OkP 345) ⟨(PuOK.ok (ok_icmp_ne dX4_goWays_244 rfl)), m_icmp⟩ (
  lkp_c (P := OkP 345) ⟨(PuOK.ok (ok_aload_n dX4_goWays_247 rfl)), m_aload⟩ (
  lkp_c (P := OkP 345) ⟨(PuOK.ok (ok_iload dX4_goWays_248)), m_iload⟩ (
  lkp_c (P := OkP 345) ⟨(PuOK.ok (ok_iconst dX4_goWays_250 rfl)), m_push⟩ (
  lkp_c (P := OkP 345) ⟨(PuOK.ok (ok_iadd dX4_goWays_251)), m_iop⟩ (
  lkp_c (P := OkP 345) ⟨(PuOK.ok (ok_iload_n dX4_goWays_252 rfl)), m_iload⟩ (
  lkp_c (P := OkP 345) ⟨ok_cv (List.forall_mem_cons.mpr ⟨tg_V (ci := 30) (r := CLr 30) (y := 347) rfl ⟨rfl, by decide⟩ rfl q3449 q3451 qs79 q139 q3452 ⟨cn_34.1, cn_34.2, pd_5⟩ dX4_goWays_253, (List.forall_mem_nil _)⟩) hd_no, m_cv⟩ (
  trivial)))))))))))))))))))))))))))))))))))))))))
theorem c_345_4 : LkP (OkP 345) [(256, o_goto 279), (259, o_iload 4 2), (261, o_push 1 (.int 1)), (262, o_iop (fun x y => x + y)), (263, o_push 2 (.int 6)), (265, o_icmp (fun x y => decide (y ≤ x)) 279), (268, o_iinc 4 1), (271, o_aload 0 1), (272, o_get 167), (275, o_iload 4 2), (277, o_push 1 (.int (-1))), (278, o_wrI 0), (279, o_goto 59), (282, o_vret)] := lkp_c (P := OkP 345) ⟨(PuOK.ok (ok_goto dX4_goWays_256 rfl)), m_goto⟩ (
  lkp_c (P := OkP 345) ⟨(PuOK.ok (ok_iload dX4_goWays_259)), m_iload⟩ (
  lkp_c (P := OkP 345) ⟨(PuOK.ok (ok_iconst dX4_goWays_261 rfl)), m_push⟩ (
  lkp_c (P := OkP 345) ⟨(PuOK.ok (ok_iadd dX4_goWays_262)), m_iop⟩ (
  lkp_c (P := OkP 345) ⟨(PuOK.ok (ok_bipush dX4_goWays_263 rfl)), m_push⟩ (
  lkp_c (P := OkP 345) ⟨(PuOK.ok (ok_icmp_ge dX4_goWays_265 rfl)), m_icmp⟩ (
  lkp_c (P := OkP 345) ⟨(PuOK.ok (ok_iinc dX4_goWays_268 rfl)), m_iinc⟩ (
  lkp_c (P := OkP 345) ⟨(PuOK.ok (ok_aload_n dX4_goWays_271 rfl)), m_aload⟩ (
  lkp_c (P := OkP 345) ⟨ok_get ⟨"TollRoadModel", q3099, Or.inl rfl⟩ dX4_goWays_272, m_get⟩ (
  lkp_c (P := OkP 345) ⟨(PuOK.ok (ok_iload dX4_goWays_275)), m_iload⟩ (
  lkp_c (P := OkP 345) ⟨(PuOK.ok (ok_iconst dX4_goWays_277 rfl)), m_push⟩ (
  lkp_c (P := OkP 345) ⟨ok_iast dX4_goWays_278, m_wrI⟩ (
  lkp_c (P := OkP 345) ⟨(PuOK.ok (ok_goto dX4_goWays_279 rfl)), m_goto⟩ (
  lkp_c (P := OkP 345) ⟨ok_vret rfl dX4_goWays_282, m_vret⟩ (
  trivial))))))))))))))
theorem mt_345 : MtOK TB NT IT 345 := ⟨by decide +kernel, rfl, (fun h => by cases h), Or.inl ⟨rfl, rfl⟩, rfl, by decide, lk2_all (P := OkP 345) ⟨c_345_0, c_345_1, c_345_2, c_345_3, c_345_4, trivial⟩⟩
def dkwX4_isOnWay_1 : List UInt8 := [167, 255, 236, 3, 172]
abbrev dktX4_isOnWay_1 : List UInt8 := dkwX4_isOnWay_1 ++ []
def dkwX4_isOnWay_0 : List UInt8 := [3, 62, 29, 28, 163, 0, 21, 42, 180, 0, 39, 29, 46, 27, 160, 0, 5, 4, 172, 132, 3, 1]
abbrev dktX4_isOnWay_0 : List UInt8 := dkwX4_isOnWay_0 ++ dktX4_isOnWay_1
theorem dksX4_isOnWay_0 : cX4_isOnWay.data.toList.drop 0 = dktX4_isOnWay_0 := by decide +kernel
theorem dksX4_isOnWay_1 : cX4_isOnWay.data.toList.drop 22 = dktX4_isOnWay_1 := dk_seg dksX4_isOnWay_0 22 rfl rfl
theorem dX4_isOnWay_0 : decode cX4_isOnWay 0 = .ok (.iconst 0, 1) := dk_3 (dk_at dksX4_isOnWay_0 0 rfl rfl)
theorem dX4_isOnWay_1 : decode cX4_isOnWay 1 = .ok (.istore_n 3, 1) := dk_62 (dk_at dksX4_isOnWay_0 1 rfl rfl)
theorem dX4_isOnWay_2 : decode cX4_isOnWay 2 = .ok (.iload_n 3, 1) := dk_29 (dk_at dksX4_isOnWay_0 2 rfl rfl)
theorem dX4_isOnWay_3 : decode cX4_isOnWay 3 = .ok (.iload_n 2, 1) := dk_28 (dk_at dksX4_isOnWay_0 3 rfl rfl)
theorem dX4_isOnWay_4 : decode cX4_isOnWay 4 = .ok (.if_icmp .gt 21, 3) := dk_163 0 21 (dk_at dksX4_isOnWay_0 4 rfl rfl)
theorem dX4_isOnWay_7 : decode cX4_isOnWay 7 = .ok (.aload_n 0, 1) := dk_42 (dk_at dksX4_isOnWay_0 7 rfl rfl)
theorem dX4_isOnWay_8 : decode cX4_isOnWay 8 = .ok (.getfield 39, 3) := dk_180 0 39 (dk_at dksX4_isOnWay_0 8 rfl rfl)
theorem dX4_isOnWay_11 : decode cX4_isOnWay 11 = .ok (.iload_n 3, 1) := dk_29 (dk_at dksX4_isOnWay_0 11 rfl rfl)
theorem dX4_isOnWay_12 : decode cX4_isOnWay 12 = .ok (.iaload, 1) := dk_46 (dk_at dksX4_isOnWay_0 12 rfl rfl)
theorem dX4_isOnWay_13 : decode cX4_isOnWay 13 = .ok (.iload_n 1, 1) := dk_27 (dk_at dksX4_isOnWay_0 13 rfl rfl)
theorem dX4_isOnWay_14 : decode cX4_isOnWay 14 = .ok (.if_icmp .ne 5, 3) := dk_160 0 5 (dk_at dksX4_isOnWay_0 14 rfl rfl)
theorem dX4_isOnWay_17 : decode cX4_isOnWay 17 = .ok (.iconst 1, 1) := dk_4 (dk_at dksX4_isOnWay_0 17 rfl rfl)
theorem dX4_isOnWay_18 : decode cX4_isOnWay 18 = .ok (.ireturn, 1) := dk_172 (dk_at dksX4_isOnWay_0 18 rfl rfl)
theorem dX4_isOnWay_19 : decode cX4_isOnWay 19 = .ok (.iinc 3 1, 3) := dk_132 3 1 (dk_at dksX4_isOnWay_0 19 rfl rfl)
theorem dX4_isOnWay_22 : decode cX4_isOnWay 22 = .ok (.goto (-20), 3) := dk_167 255 236 (dk_at dksX4_isOnWay_1 0 rfl rfl)
theorem dX4_isOnWay_25 : decode cX4_isOnWay 25 = .ok (.iconst 0, 1) := dk_3 (dk_at dksX4_isOnWay_1 3 rfl rfl)
theorem dX4_isOnWay_26 : decode cX4_isOnWay 26 = .ok (.ireturn, 1) := dk_172 (dk_at dksX4_isOnWay_1 4 rfl rfl)
theorem c_346_0 : LkP (OkP 346) [(0, o_push 1 (.int 0)), (1, o_istore 3 1), (2, o_iload 3 1), (3, o_iload 2 1), (4, o_icmp (fun x y => decide (y < x)) 25), (7, o_aload 0 1), (8, o_get 166), (11, o_iload 3 1), (12, o_rdI 0), (13, o_iload 1 1), (14, o_icmp (fun x y => decide (¬ x = y)) 19), (17, o_push 1 (.int 1)), (18, o_ret 5), (19, o_iinc 3 1), (22, o_goto 2), (25, o_push 1 (.int 0)), (26, o_ret 5)] := lkp_c (P := OkP 346) ⟨(PuOK.ok (ok_iconst dX4_isOnWay_0 rfl)), m_push⟩ (
  lkp_c (P := OkP 346) ⟨(PuOK.ok (ok_istore_n dX4_isOnWay_1 rfl)), m_istore⟩ (
  lkp_c (P := OkP 346) ⟨(PuOK.ok (ok_iload_n dX4_isOnWay_2 rfl)), m_iload⟩ (
  lkp_c (P := OkP 346) ⟨(PuOK.ok (ok_iload_n dX4_isOnWay_3 rfl)), m_iload⟩ (
  lkp_c (P := OkP 346) ⟨(PuOK.ok (ok_icmp_gt dX4_isOnWay_4 rfl)), m_icmp⟩ (
  lkp_c (P := OkP 346) ⟨(PuOK.ok (ok_aload_n dX4_isOnWay_7 rfl)), m_aload⟩ (
  lkp_c (P := OkP 346) ⟨ok_get ⟨"TollRoadModel", q3098, Or.inl rfl⟩ dX4_isOnWay_8, m_get⟩ (
  lkp_c (P := OkP 346) ⟨(PuOK.ok (ok_iload_n dX4_isOnWay_11 rfl)), m_iload⟩ (
  lkp_c (P := OkP 346) ⟨ok_iald dX4_isOnWay_12, m_rdI⟩ (
  lkp_c (P := OkP 346) ⟨(PuOK.ok (ok_iload_n dX4_isOnWay_13 rfl)), m_iload⟩ (
  lkp_c (P := OkP 346) ⟨(PuOK.ok (ok_icmp_ne dX4_isOnWay_14 rfl)), m_icmp⟩ (
  lkp_c (P := OkP 346) ⟨(PuOK.ok (ok_iconst dX4_isOnWay_17 rfl)), m_push⟩ (
  lkp_c (P := OkP 346) ⟨ok_iret rfl rfl (by decide) dX4_isOnWay_18, m_ret⟩ (
  lkp_c (P := OkP 346) ⟨(PuOK.ok (ok_iinc dX4_isOnWay_19 rfl)), m_iinc⟩ (
  lkp_c (P := OkP 346) ⟨(PuOK.ok (ok_goto dX4_isOnWay_22 rfl)), m_goto⟩ (
  lkp_c (P := OkP 346) ⟨(PuOK.ok (ok_iconst dX4_isOnWay_25 rfl)), m_push⟩ (
  lkp_c (P := OkP 346) ⟨ok_iret rfl rfl (by decide) dX4_isOnWay_26, m_ret⟩ (
  trivial)))))))))))))))))
theorem mt_346 : MtOK TB NT IT 346 := ⟨by decide +kernel, rfl, (fun h => by cases h), Or.inl ⟨rfl, rfl⟩, rfl, by decide, lk2_all (P := OkP 346) ⟨c_346_0, trivial⟩⟩
def dkwX4_noteWay_6 : List UInt8 := [167, 255, 233, 177]
abbrev dktX4_noteWay_6 : List UInt8 := dkwX4_noteWay_6 ++ []
def dkwX4_noteWay_5 : List UInt8 := [21, 5, 27, 163, 0, 23, 42, 180, 0, 54, 21, 5, 42, 180, 0, 39, 21, 5, 46, 79, 132, 5, 1]
abbrev dktX4_noteWay_5 : List UInt8 := dkwX4_noteWay_5 ++ dktX4_noteWay_6
def dkwX4_noteWay_4 : List UInt8 := [42, 27, 181, 1, 26, 42, 42, 180, 0, 48, 27, 46, 181, 1, 29, 42, 29, 181, 1, 32, 3, 54, 5]
abbrev dktX4_noteWay_4 : List UInt8 := dkwX4_noteWay_4 ++ dktX4_noteWay_5
def dkwX4_noteWay_3 : List UInt8 := [21, 4, 42, 180, 1, 23, 160, 0, 12, 27, 42, 180, 1, 26, 161, 0, 4, 177, 42, 21, 4, 181, 1, 23]
abbrev dktX4_noteWay_3 : List UInt8 := dkwX4_noteWay_3 ++ dktX4_noteWay_4
def dkwX4_noteWay_2 : List UInt8 := [5, 182, 0, 231, 28, 29, 100, 184, 1, 20, 104, 96, 54, 4, 21, 4, 42, 180, 1, 23, 163, 0, 20]
abbrev dktX4_noteWay_2 : List UInt8 := dkwX4_noteWay_2 ++ dktX4_noteWay_3
def dkwX4_noteWay_1 : List UInt8 := [29, 42, 6, 182, 0, 231, 104, 28, 16, 100, 104, 164, 0, 4, 177, 42, 180, 0, 51, 27, 4, 100, 46, 42]
abbrev dktX4_noteWay_1 : List UInt8 := dkwX4_noteWay_1 ++ dktX4_noteWay_2
def dkwX4_noteWay_0 : List UInt8 := [42, 42, 180, 1, 14, 42, 180, 0, 48, 27, 46, 184, 1, 17, 181, 1, 14, 42, 180, 0, 45, 27, 46, 62]
abbrev dktX4_noteWay_0 : List UInt8 := dkwX4_noteWay_0 ++ dktX4_noteWay_1
theorem dksX4_noteWay_0 : cX4_noteWay.data.toList.drop 0 = dktX4_noteWay_0 := by decide +kernel
theorem dksX4_noteWay_1 : cX4_noteWay.data.toList.drop 24 = dktX4_noteWay_1 := dk_seg dksX4_noteWay_0 24 rfl rfl
theorem dksX4_noteWay_2 : cX4_noteWay.data.toList.drop 48 = dktX4_noteWay_2 := dk_seg dksX4_noteWay_1 24 rfl rfl
theorem dksX4_noteWay_3 : cX4_noteWay.data.toList.drop 71 = dktX4_noteWay_3 := dk_seg dksX4_noteWay_2 23 rfl rfl
theorem dksX4_noteWay_4 : cX4_noteWay.data.toList.drop 95 = dktX4_noteWay_4 := dk_seg dksX4_noteWay_3 24 rfl rfl
theorem dksX4_noteWay_5 : cX4_noteWay.data.toList.drop 118 = dktX4_noteWay_5 := dk_seg dksX4_noteWay_4 23 rfl rfl
theorem dksX4_noteWay_6 : cX4_noteWay.data.toList.drop 141 = dktX4_noteWay_6 := dk_seg dksX4_noteWay_5 23 rfl rfl
theorem dX4_noteWay_0 : decode cX4_noteWay 0 = .ok (.aload_n 0, 1) := dk_42 (dk_at dksX4_noteWay_0 0 rfl rfl)
theorem dX4_noteWay_1 : decode cX4_noteWay 1 = .ok (.aload_n 0, 1) := dk_42 (dk_at dksX4_noteWay_0 1 rfl rfl)
theorem dX4_noteWay_2 : decode cX4_noteWay 2 = .ok (.getfield 270, 3) := dk_180 1 14 (dk_at dksX4_noteWay_0 2 rfl rfl)
theorem dX4_noteWay_5 : decode cX4_noteWay 5 = .ok (.aload_n 0, 1) := dk_42 (dk_at dksX4_noteWay_0 5 rfl rfl)
theorem dX4_noteWay_6 : decode cX4_noteWay 6 = .ok (.getfield 48, 3) := dk_180 0 48 (dk_at dksX4_noteWay_0 6 rfl rfl)
theorem dX4_noteWay_9 : decode cX4_noteWay 9 = .ok (.iload_n 1, 1) := dk_27 (dk_at dksX4_noteWay_0 9 rfl rfl)
theorem dX4_noteWay_10 : decode cX4_noteWay 10 = .ok (.iaload, 1) := dk_46 (dk_at dksX4_noteWay_0 10 rfl rfl)
theorem dX4_noteWay_11 : decode cX4_noteWay 11 = .ok (.invokestatic 273, 3) := dk_184 1 17 (dk_at dksX4_noteWay_0 11 rfl rfl)
theorem dX4_noteWay_14 : decode cX4_noteWay 14 = .ok (.putfield 270, 3) := dk_181 1 14 (dk_at dksX4_noteWay_0 14 rfl rfl)
theorem dX4_noteWay_17 : decode cX4_noteWay 17 = .ok (.aload_n 0, 1) := dk_42 (dk_at dksX4_noteWay_0 17 rfl rfl)
theorem dX4_noteWay_18 : decode cX4_noteWay 18 = .ok (.getfield 45, 3) := dk_180 0 45 (dk_at dksX4_noteWay_0 18 rfl rfl)
theorem dX4_noteWay_21 : decode cX4_noteWay 21 = .ok (.iload_n 1, 1) := dk_27 (dk_at dksX4_noteWay_0 21 rfl rfl)
theorem dX4_noteWay_22 : decode cX4_noteWay 22 = .ok (.iaload, 1) := dk_46 (dk_at dksX4_noteWay_0 22 rfl rfl)
theorem dX4_noteWay_23 : decode cX4_noteWay 23 = .ok (.istore_n 3, 1) := dk_62 (dk_at dksX4_noteWay_0 23 rfl rfl)
theorem dX4_noteWay_24 : decode cX4_noteWay 24 = .ok (.iload_n 3, 1) := dk_29 (dk_at dksX4_noteWay_1 0 rfl rfl)
theorem dX4_noteWay_25 : decode cX4_noteWay 25 = .ok (.aload_n 0, 1) := dk_42 (dk_at dksX4_noteWay_1 1 rfl rfl)
theorem dX4_noteWay_26 : decode cX4_noteWay 26 = .ok (.iconst 3, 1) := dk_6 (dk_at dksX4_noteWay_1 2 rfl rfl)
theorem dX4_noteWay_27 : decode cX4_noteWay 27 = .ok (.invokevirtual 231, 3) := dk_182 0 231 (dk_at dksX4_noteWay_1 3 rfl rfl)
theorem dX4_noteWay_30 : decode cX4_noteWay 30 = .ok (.imul, 1) := dk_104 (dk_at dksX4_noteWay_1 6 rfl rfl)
theorem dX4_noteWay_31 : decode cX4_noteWay 31 = .ok (.iload_n 2, 1) := dk_28 (dk_at dksX4_noteWay_1 7 rfl rfl)
theorem dX4_noteWay_32 : decode cX4_noteWay 32 = .ok (.bipush 100, 2) := dk_16 100 (dk_at dksX4_noteWay_1 8 rfl rfl)
theorem dX4_noteWay_34 : decode cX4_noteWay 34 = .ok (.imul, 1) := dk_104 (dk_at dksX4_noteWay_1 10 rfl rfl)
theorem dX4_noteWay_35 : decode cX4_noteWay 35 = .ok (.if_icmp .le 4, 3) := dk_164 0 4 (dk_at dksX4_noteWay_1 11 rfl rfl)
theorem dX4_noteWay_38 : decode cX4_noteWay 38 = .ok (.return_, 1) := dk_177 (dk_at dksX4_noteWay_1 14 rfl rfl)
theorem dX4_noteWay_39 : decode cX4_noteWay 39 = .ok (.aload_n 0, 1) := dk_42 (dk_at dksX4_noteWay_1 15 rfl rfl)
theorem dX4_noteWay_40 : decode cX4_noteWay 40 = .ok (.getfield 51, 3) := dk_180 0 51 (dk_at dksX4_noteWay_1 16 rfl rfl)
theorem dX4_noteWay_43 : decode cX4_noteWay 43 = .ok (.iload_n 1, 1) := dk_27 (dk_at dksX4_noteWay_1 19 rfl rfl)
theorem dX4_noteWay_44 : decode cX4_noteWay 44 = .ok (.iconst 1, 1) := dk_4 (dk_at dksX4_noteWay_1 20 rfl rfl)
theorem dX4_noteWay_45 : decode cX4_noteWay 45 = .ok (.isub, 1) := dk_100 (dk_at dksX4_noteWay_1 21 rfl rfl)
theorem dX4_noteWay_46 : decode cX4_noteWay 46 = .ok (.iaload, 1) := dk_46 (dk_at dksX4_noteWay_1 22 rfl rfl)
theorem dX4_noteWay_47 : decode cX4_noteWay 47 = .ok (.aload_n 0, 1) := dk_42 (dk_at dksX4_noteWay_1 23 rfl rfl)
theorem dX4_noteWay_48 : decode cX4_noteWay 48 = .ok (.iconst 2, 1) := dk_5 (dk_at dksX4_noteWay_2 0 rfl rfl)
theorem dX4_noteWay_49 : decode cX4_noteWay 49 = .ok (.invokevirtual 231, 3) := dk_182 0 231 (dk_at dksX4_noteWay_2 1 rfl rfl)
theorem dX4_noteWay_52 : decode cX4_noteWay 52 = .ok (.iload_n 2, 1) := dk_28 (dk_at dksX4_noteWay_2 4 rfl rfl)
theorem dX4_noteWay_53 : decode cX4_noteWay 53 = .ok (.iload_n 3, 1) := dk_29 (dk_at dksX4_noteWay_2 5 rfl rfl)
theorem dX4_noteWay_54 : decode cX4_noteWay 54 = .ok (.isub, 1) := dk_100 (dk_at dksX4_noteWay_2 6 rfl rfl)
theorem dX4_noteWay_55 : decode cX4_noteWay 55 = .ok (.invokestatic 276, 3) := dk_184 1 20 (dk_at dksX4_noteWay_2 7 rfl rfl)
theorem dX4_noteWay_58 : decode cX4_noteWay 58 = .ok (.imul, 1) := dk_104 (dk_at dksX4_noteWay_2 10 rfl rfl)
theorem dX4_noteWay_59 : decode cX4_noteWay 59 = .ok (.iadd, 1) := dk_96 (dk_at dksX4_noteWay_2 11 rfl rfl)
theorem dX4_noteWay_60 : decode cX4_noteWay 60 = .ok (.istore 4, 2) := dk_54 4 (dk_at dksX4_noteWay_2 12 rfl rfl)
theorem dX4_noteWay_62 : decode cX4_noteWay 62 = .ok (.iload 4, 2) := dk_21 4 (dk_at dksX4_noteWay_2 14 rfl rfl)
theorem dX4_noteWay_64 : decode cX4_noteWay 64 = .ok (.aload_n 0, 1) := dk_42 (dk_at dksX4_noteWay_2 16 rfl rfl)
theorem dX4_noteWay_65 : decode cX4_noteWay 65 = .ok (.getfield 279, 3) := dk_180 1 23 (dk_at dksX4_noteWay_2 17 rfl rfl)
theorem dX4_noteWay_68 : decode cX4_noteWay 68 = .ok (.if_icmp .gt 20, 3) := dk_163 0 20 (dk_at dksX4_noteWay_2 20 rfl rfl)
theorem dX4_noteWay_71 : decode cX4_noteWay 71 = .ok (.iload 4, 2) := dk_21 4 (dk_at dksX4_noteWay_3 0 rfl rfl)
theorem dX4_noteWay_73 : decode cX4_noteWay 73 = .ok (.aload_n 0, 1) := dk_42 (dk_at dksX4_noteWay_3 2 rfl rfl)
theorem dX4_noteWay_74 : decode cX4_noteWay 74 = .ok (.getfield 279, 3) := dk_180 1 23 (dk_at dksX4_noteWay_3 3 rfl rfl)
theorem dX4_noteWay_77 : decode cX4_noteWay 77 = .ok (.if_icmp .ne 12, 3) := dk_160 0 12 (dk_at dksX4_noteWay_3 6 rfl rfl)
theorem dX4_noteWay_80 : decode cX4_noteWay 80 = .ok (.iload_n 1, 1) := dk_27 (dk_at dksX4_noteWay_3 9 rfl rfl)
theorem dX4_noteWay_81 : decode cX4_noteWay 81 = .ok (.aload_n 0, 1) := dk_42 (dk_at dksX4_noteWay_3 10 rfl rfl)
theorem dX4_noteWay_82 : decode cX4_noteWay 82 = .ok (.getfield 282, 3) := dk_180 1 26 (dk_at dksX4_noteWay_3 11 rfl rfl)
theorem dX4_noteWay_85 : decode cX4_noteWay 85 = .ok (.if_icmp .lt 4, 3) := dk_161 0 4 (dk_at dksX4_noteWay_3 14 rfl rfl)
theorem dX4_noteWay_88 : decode cX4_noteWay 88 = .ok (.return_, 1) := dk_177 (dk_at dksX4_noteWay_3 17 rfl rfl)
theorem dX4_noteWay_89 : decode cX4_noteWay 89 = .ok (.aload_n 0, 1) := dk_42 (dk_at dksX4_noteWay_3 18 rfl rfl)
theorem dX4_noteWay_90 : decode cX4_noteWay 90 = .ok (.iload 4, 2) := dk_21 4 (dk_at dksX4_noteWay_3 19 rfl rfl)
theorem dX4_noteWay_92 : decode cX4_noteWay 92 = .ok (.putfield 279, 3) := dk_181 1 23 (dk_at dksX4_noteWay_3 21 rfl rfl)
theorem dX4_noteWay_95 : decode cX4_noteWay 95 = .ok (.aload_n 0, 1) := dk_42 (dk_at dksX4_noteWay_4 0 rfl rfl)
theorem dX4_noteWay_96 : decode cX4_noteWay 96 = .ok (.iload_n 1, 1) := dk_27 (dk_at dksX4_noteWay_4 1 rfl rfl)
theorem dX4_noteWay_97 : decode cX4_noteWay 97 = .ok (.putfield 282, 3) := dk_181 1 26 (dk_at dksX4_noteWay_4 2 rfl rfl)
theorem dX4_noteWay_100 : decode cX4_noteWay 100 = .ok (.aload_n 0, 1) := dk_42 (dk_at dksX4_noteWay_4 5 rfl rfl)
theorem dX4_noteWay_101 : decode cX4_noteWay 101 = .ok (.aload_n 0, 1) := dk_42 (dk_at dksX4_noteWay_4 6 rfl rfl)
theorem dX4_noteWay_102 : decode cX4_noteWay 102 = .ok (.getfield 48, 3) := dk_180 0 48 (dk_at dksX4_noteWay_4 7 rfl rfl)
theorem dX4_noteWay_105 : decode cX4_noteWay 105 = .ok (.iload_n 1, 1) := dk_27 (dk_at dksX4_noteWay_4 10 rfl rfl)
theorem dX4_noteWay_106 : decode cX4_noteWay 106 = .ok (.iaload, 1) := dk_46 (dk_at dksX4_noteWay_4 11 rfl rfl)
theorem dX4_noteWay_107 : decode cX4_noteWay 107 = .ok (.putfield 285, 3) := dk_181 1 29 (dk_at dksX4_noteWay_4 12 rfl rfl)
theorem dX4_noteWay_110 : decode cX4_noteWay 110 = .ok (.aload_n 0, 1) := dk_42 (dk_at dksX4_noteWay_4 15 rfl rfl)
theorem dX4_noteWay_111 : decode cX4_noteWay 111 = .ok (.iload_n 3, 1) := dk_29 (dk_at dksX4_noteWay_4 16 rfl rfl)
theorem dX4_noteWay_112 : decode cX4_noteWay 112 = .ok (.putfield 288, 3) := dk_181 1 32 (dk_at dksX4_noteWay_4 17 rfl rfl)
theorem dX4_noteWay_115 : decode cX4_noteWay 115 = .ok (.iconst 0, 1) := dk_3 (dk_at dksX4_noteWay_4 20 rfl rfl)
theorem dX4_noteWay_116 : decode cX4_noteWay 116 = .ok (.istore 5, 2) := dk_54 5 (dk_at dksX4_noteWay_4 21 rfl rfl)
theorem dX4_noteWay_118 : decode cX4_noteWay 118 = .ok (.iload 5, 2) := dk_21 5 (dk_at dksX4_noteWay_5 0 rfl rfl)
theorem dX4_noteWay_120 : decode cX4_noteWay 120 = .ok (.iload_n 1, 1) := dk_27 (dk_at dksX4_noteWay_5 2 rfl rfl)
theorem dX4_noteWay_121 : decode cX4_noteWay 121 = .ok (.if_icmp .gt 23, 3) := dk_163 0 23 (dk_at dksX4_noteWay_5 3 rfl rfl)
theorem dX4_noteWay_124 : decode cX4_noteWay 124 = .ok (.aload_n 0, 1) := dk_42 (dk_at dksX4_noteWay_5 6 rfl rfl)
theorem dX4_noteWay_125 : decode cX4_noteWay 125 = .ok (.getfield 54, 3) := dk_180 0 54 (dk_at dksX4_noteWay_5 7 rfl rfl)
theorem dX4_noteWay_128 : decode cX4_noteWay 128 = .ok (.iload 5, 2) := dk_21 5 (dk_at dksX4_noteWay_5 10 rfl rfl)
theorem dX4_noteWay_130 : decode cX4_noteWay 130 = .ok (.aload_n 0, 1) := dk_42 (dk_at dksX4_noteWay_5 12 rfl rfl)
theorem dX4_noteWay_131 : decode cX4_noteWay 131 = .ok (.getfield 39, 3) := dk_180 0 39 (dk_at dksX4_noteWay_5 13 rfl rfl)
theorem dX4_noteWay_134 : decode cX4_noteWay 134 = .ok (.iload 5, 2) := dk_21 5 (dk_at dksX4_noteWay_5 16 rfl rfl)
theorem dX4_noteWay_136 : decode cX4_noteWay 136 = .ok (.iaload, 1) := dk_46 (dk_at dksX4_noteWay_5 18 rfl rfl)
theorem dX4_noteWay_137 : decode cX4_noteWay 137 = .ok (.iastore, 1) := dk_79 (dk_at dksX4_noteWay_5 19 rfl rfl)
theorem dX4_noteWay_138 : decode cX4_noteWay 138 = .ok (.iinc 5 1, 3) := dk_132 5 1 (dk_at dksX4_noteWay_5 20 rfl rfl)
theorem dX4_noteWay_141 : decode cX4_noteWay 141 = .ok (.goto (-23), 3) := dk_167 255 233 (dk_at dksX4_noteWay_6 0 rfl rfl)
theorem dX4_noteWay_144 : decode cX4_noteWay 144 = .ok (.return_, 1) := dk_177 (dk_at dksX4_noteWay_6 3 rfl rfl)
theorem c_347_0 : LkP (OkP 347) [(0, o_aload 0 1), (1, o_aload 0 1), (2, o_get 176), (5, o_aload 0 1), (6, o_get 169), (9, o_iload 1 1), (10, o_rdI 0), (11, o_cs 7 2 false none), (14, o_put 176 1), (17, o_aload 0 1), (18, o_get 168), (21, o_iload 1 1), (22, o_rdI 0), (23, o_istore 3 1), (24, o_iload 3 1), (25, o_aload 0 1), (26, o_push 1 (.int 3)), (27, o_cv [(30, 328)] 1 3 false none), (30, o_iop (fun x y => x * y)), (31, o_iload 2 1), (32, o_push 2 (.int 100)), (34, o_iop (fun x y => x * y)), (35, o_icmp (fun x y => decide (x ≤ y)) 39), (38, o_vret), (39, o_aload 0 1), (40, o_get 170), (43, o_iload 1 1), (44, o_push 1 (.int 1)), (45, o_iop (fun x y => x - y)), (46, o_rdI 0), (47, o_aload 0 1), (48, o_push 1 (.int 2)), (49, o_cv [(30, 328)] 1 3 false none), (52, o_iload 2 1), (53, o_iload 3 1), (54, o_iop (fun x y => x - y)), (55, o_cs 8 1 false none), (58, o_iop (fun x y => x * y)), (59, o_iop (fun x y => x + y)), (60, o_istore 4 2), (62, o_iload 4 2)] := lkp_c (P := OkP 347) ⟨(PuOK.ok (ok_aload_n dX4_noteWay_0 rfl)), m_aload⟩ (
  lkp_c (P := OkP 347) ⟨(PuOK.ok (ok_aload_n dX4_noteWay_1 rfl)), m_aload⟩ (
  lkp_c (P := OkP 347) ⟨ok_get ⟨"TollRoadModel", q3108, Or.inl rfl⟩ dX4_noteWay_2, m_get⟩ (
  lkp_c (P := OkP 347) ⟨(PuOK.ok (ok_aload_n dX4_noteWay_5 rfl)), m_aload⟩ (
  lkp_c (P := OkP 347) ⟨ok_get ⟨"TollRoadModel", q3101, Or.inl rfl⟩ dX4_noteWay_6, m_get⟩ (
  lkp_c (P := OkP 347) ⟨(PuOK.ok (ok_iload_n dX4_noteWay_9 rfl)), m_iload⟩ (
  lkp_c (P := OkP 347) ⟨ok_iald dX4_noteWay_10, m_rdI⟩ (
  lkp_c (P := OkP 347) ⟨ok_cs (tg_S ⟨rfl, by decide⟩ q3453 q374 q130 q375 ⟨cn_1.1, cn_1.2, pd_1⟩ dX4_noteWay_11) hd_no, m_cs⟩ (
  lkp_c (P := OkP 347) ⟨ok_put ⟨"TollRoadModel", q3108, Or.inl rfl⟩ rfl fd_176 rfl dX4_noteWay_14, m_put⟩ (
  lkp_c (P := OkP 347) ⟨(PuOK.ok (ok_aload_n dX4_noteWay_17 rfl)), m_aload⟩ (
  lkp_c (P := OkP 347) ⟨ok_get ⟨"TollRoadModel", q3100, Or.inl rfl⟩ dX4_noteWay_18, m_get⟩ (
  lkp_c (P := OkP 347) ⟨(PuOK.ok (ok_iload_n dX4_noteWay_21 rfl)), m_iload⟩ (
  lkp_c (P := OkP 347) ⟨ok_iald dX4_noteWay_22, m_rdI⟩ (
  lkp_c (P := OkP 347) ⟨(PuOK.ok (ok_istore_n dX4_noteWay_23 rfl)), m_istore⟩ (
  lkp_c (P := OkP 347) ⟨(PuOK.ok (ok_iload_n dX4_noteWay_24 rfl)), m_iload⟩ (
  lkp_c (P := OkP 347) ⟨(PuOK.ok (ok_aload_n dX4_noteWay_25 rfl)), m_aload⟩ (
  lkp_c (P := OkP 347) ⟨(PuOK.ok (ok_iconst dX4_noteWay_26 rfl)), m_push⟩ (
  lkp_c (P := OkP 347) ⟨ok_cv (List.forall_mem_cons.mpr ⟨tg_V (ci := 30) (r := CLr 30) (y := 328) rfl ⟨rfl, by decide⟩ rfl q3371 q3373 qs66 q139 q3374 ⟨cn_34.1, cn_34.2, pd_48⟩ dX4_noteWay_27, (List.forall_mem_nil _)⟩) hd_no, m_cv⟩ (
  lkp_c (P := OkP 347) ⟨(PuOK.ok (ok_imul dX4_noteWay_30)), m_iop⟩ (
  lkp_c (P := OkP 347) ⟨(PuOK.ok (ok_iload_n dX4_noteWay_31 rfl)), m_iload⟩ (
  lkp_c (P := OkP 347) ⟨(PuOK.ok (ok_bipush dX4_noteWay_32 rfl)), m_push⟩ (
  lkp_c (P := OkP 347) ⟨(PuOK.ok (ok_imul dX4_noteWay_34)), m_iop⟩ (
  lkp_c (P := OkP 347) ⟨(PuOK.ok (ok_icmp_le dX4_noteWay_35 rfl)), m_icmp⟩ (
  lkp_c (P := OkP 347) ⟨ok_vret rfl dX4_noteWay_38, m_vret⟩ (
  lkp_c (P := OkP 347) ⟨(PuOK.ok (ok_aload_n dX4_noteWay_39 rfl)), m_aload⟩ (
  lkp_c (P := OkP 347) ⟨ok_get ⟨"TollRoadModel", q3102, Or.inl rfl⟩ dX4_noteWay_40, m_get⟩ (
  lkp_c (P := OkP 347) ⟨(PuOK.ok (ok_iload_n dX4_noteWay_43 rfl)), m_iload⟩ (
  lkp_c (P := OkP 347) ⟨(PuOK.ok (ok_iconst dX4_noteWay_44 rfl)), m_push⟩ (
  lkp_c (P := OkP 347) ⟨(PuOK.ok (ok_isub dX4_noteWay_45)), m_iop⟩ (
  lkp_c (P := OkP 347) ⟨ok_iald dX4_noteWay_46, m_rdI⟩ (
  lkp_c (P := OkP 347) ⟨(PuOK.ok (ok_aload_n dX4_noteWay_47 rfl)), m_aload⟩ (
  lkp_c (P := OkP 347) ⟨(PuOK.ok (ok_iconst dX4_noteWay_48 rfl)), m_push⟩ (
  lkp_c (P := OkP 347) ⟨ok_cv (List.forall_mem_cons.mpr ⟨tg_V (ci := 30) (r := CLr 30) (y := 328) rfl ⟨rfl, by decide⟩ rfl q3371 q3373 qs66 q139 q3374 ⟨cn_34.1, cn_34.2, pd_48⟩ dX4_noteWay_49, (List.forall_mem_nil _)⟩) hd_no, m_cv⟩ (
  lkp_c (P := OkP 347) ⟨(PuOK.ok (ok_iload_n dX4_noteWay_52 rfl)), m_iload⟩ (
  lkp_c (P := OkP 347) ⟨(PuOK.ok (ok_iload_n dX4_noteWay_53 rfl)), m_iload⟩ (
  lkp_c (P := OkP 347) ⟨(PuOK.ok (ok_isub dX4_noteWay_54)), m_iop⟩ (
  lkp_c (P := OkP 347) ⟨ok_cs (tg_S ⟨rfl, by decide⟩ q3454 q1935 q130 q1936 ⟨cn_1.1, cn_1.2, pd_48⟩ dX4_noteWay_55) hd_no, m_cs⟩ (
  lkp_c (P := OkP 347) ⟨(PuOK.ok (ok_imul dX4_noteWay_58)), m_iop⟩ (
  lkp_c (P := OkP 347) ⟨(PuOK.ok (ok_iadd dX4_noteWay_59)), m_iop⟩ (
  lkp_c (P := OkP 347) ⟨(PuOK.ok (ok_istore dX4_noteWay_60)), m_istore⟩ (
  lkp_c (P := OkP 347) ⟨(PuOK.ok (ok_iload dX4_noteWay_62)), m_iload⟩ (
  trivial)))))))))))))))))))))))))))))))))))))))))
theorem c_347_1 : LkP (OkP 347) [(64, o_aload 0 1), (65, o_get 172), (68, o_icmp (fun x y => decide (y < x)) 88), (71, o_iload 4 2), (73, o_aload 0 1), (74, o_get 172), (77, o_icmp (fun x y => decide (¬ x = y)) 89), (80, o_iload 1 1), (81, o_aload 0 1), (82, o_get 173), (85, o_icmp (fun x y => decide (x < y)) 89), (88, o_vret), (89, o_aload 0 1), (90, o_iload 4 2), (92, o_put 172 1), (95, o_aload 0 1), (96, o_iload 1 1), (97, o_put 173 1), (100, o_aload 0 1), (101, o_aload 0 1), (102, o_get 169), (105, o_iload 1 1), (106, o_rdI 0), (107, o_put 174 1), (110, o_aload 0 1), (111, o_iload 3 1), (112, o_put 175 1), (115, o_push 1 (.int 0)), (116, o_istore 5 2), (118, o_iload 5 2), (120, o_iload 1 1), (121, o_icmp (fun x y => decide (y < x)) 144), (124, o_aload 0 1), (125, o_get 171)] := lkp_c (P := OkP 347) ⟨(PuOK.ok (ok_aload_n dX4_noteWay_64 rfl)), m_aload⟩ (
  lkp_c (P := OkP 347) ⟨ok_get ⟨"TollRoadModel", q3104, Or.inl rfl⟩ dX4_noteWay_65, m_get⟩ (
  lkp_c (P := OkP 347) ⟨(PuOK.ok (ok_icmp_gt dX4_noteWay_68 rfl)), m_icmp⟩ (
  lkp_c (P := OkP 347) ⟨(PuOK.ok (ok_iload dX4_noteWay_71)), m_iload⟩ (
  lkp_c (P := OkP 347) ⟨(PuOK.ok (ok_aload_n dX4_noteWay_73 rfl)), m_aload⟩ (
  lkp_c (P := OkP 347) ⟨ok_get ⟨"TollRoadModel", q3104, Or.inl rfl⟩ dX4_noteWay_74, m_get⟩ (
  lkp_c (P := OkP 347) ⟨(PuOK.ok (ok_icmp_ne dX4_noteWay_77 rfl)), m_icmp⟩ (
  lkp_c (P := OkP 347) ⟨(PuOK.ok (ok_iload_n dX4_noteWay_80 rfl)), m_iload⟩ (
  lkp_c (P := OkP 347) ⟨(PuOK.ok (ok_aload_n dX4_noteWay_81 rfl)), m_aload⟩ (
  lkp_c (P := OkP 347) ⟨ok_get ⟨"TollRoadModel", q3105, Or.inl rfl⟩ dX4_noteWay_82, m_get⟩ (
  lkp_c (P := OkP 347) ⟨(PuOK.ok (ok_icmp_lt dX4_noteWay_85 rfl)), m_icmp⟩ (
  lkp_c (P := OkP 347) ⟨ok_vret rfl dX4_noteWay_88, m_vret⟩ (
  lkp_c (P := OkP 347) ⟨(PuOK.ok (ok_aload_n dX4_noteWay_89 rfl)), m_aload⟩ (
  lkp_c (P := OkP 347) ⟨(PuOK.ok (ok_iload dX4_noteWay_90)), m_iload⟩ (
  lkp_c (P := OkP 347) ⟨ok_put ⟨"TollRoadModel", q3104, Or.inl rfl⟩ rfl fd_172 rfl dX4_noteWay_92, m_put⟩ (
  lkp_c (P := OkP 347) ⟨(PuOK.ok (ok_aload_n dX4_noteWay_95 rfl)), m_aload⟩ (
  lkp_c (P := OkP 347) ⟨(PuOK.ok (ok_iload_n dX4_noteWay_96 rfl)), m_iload⟩ (
  lkp_c (P := OkP 347) ⟨ok_put ⟨"TollRoadModel", q3105, Or.inl rfl⟩ rfl fd_173 rfl dX4_noteWay_97, m_put⟩ (
  lkp_c (P := OkP 347) ⟨(PuOK.ok (ok_aload_n dX4_noteWay_100 rfl)), m_aload⟩ (
  lkp_c (P := OkP 347) ⟨(PuOK.ok (ok_aload_n dX4_noteWay_101 rfl)), m_aload⟩ (
  lkp_c (P := OkP 347) ⟨ok_get ⟨"TollRoadModel", q3101, Or.inl rfl⟩ dX4_noteWay_102, m_get⟩ (
  lkp_c (P := OkP 347) ⟨(PuOK.ok (ok_iload_n dX4_noteWay_105 rfl)), m_iload⟩ (
  lkp_c (P := OkP 347) ⟨ok_iald dX4_noteWay_106, m_rdI⟩ (
  lkp_c (P := OkP 347) ⟨ok_put ⟨"TollRoadModel", q3106, Or.inl rfl⟩ rfl fd_174 rfl dX4_noteWay_107, m_put⟩ (
  lkp_c (P := OkP 347) ⟨(PuOK.ok (ok_aload_n dX4_noteWay_110 rfl)), m_aload⟩ (
  lkp_c (P := OkP 347) ⟨(PuOK.ok (ok_iload_n dX4_noteWay_111 rfl)), m_iload⟩ (
  lkp_c (P := OkP 347) ⟨ok_put ⟨"TollRoadModel", q3107, Or.inl rfl⟩ rfl fd_175 rfl dX4_noteWay_112, m_put⟩ (
  lkp_c (P := OkP 347) ⟨(PuOK.ok (ok_iconst dX4_noteWay_115 rfl)), m_push⟩ (
  lkp_c (P := OkP 347) ⟨(PuOK.ok (ok_istore dX4_noteWay_116)), m_istore⟩ (
  lkp_c (P := OkP 347) ⟨(PuOK.ok (ok_iload dX4_noteWay_118)), m_iload⟩ (
  lkp_c (P := OkP 347) ⟨(PuOK.ok (ok_iload_n dX4_noteWay_120 rfl)), m_iload⟩ (
  lkp_c (P := OkP 347) ⟨(PuOK.ok (ok_icmp_gt dX4_noteWay_121 rfl)), m_icmp⟩ (
  lkp_c (P := OkP 347) ⟨(PuOK.ok (ok_aload_n dX4_noteWay_124 rfl)), m_aload⟩ (
  lkp_c (P := OkP 347) ⟨ok_get ⟨"TollRoadModel", q3103, Or.inl rfl⟩ dX4_noteWay_125, m_get⟩ (
  trivial))))))))))))))))))))))))))))))))))
theorem c_347_2 : LkP (OkP 347) [(128, o_iload 5 2), (130, o_aload 0 1), (131, o_get 166), (134, o_iload 5 2), (136, o_rdI 0), (137, o_wrI 0), (138, o_iinc 5 1), (141, o_goto 118), (144, o_vret)] := lkp_c (P := OkP 347) ⟨(PuOK.ok (ok_iload dX4_noteWay_128)), m_iload⟩ (
  lkp_c (P := OkP 347) ⟨(PuOK.ok (ok_aload_n dX4_noteWay_130 rfl)), m_aload⟩ (
  lkp_c (P := OkP 347) ⟨ok_get ⟨"TollRoadModel", q3098, Or.inl rfl⟩ dX4_noteWay_131, m_get⟩ (
  lkp_c (P := OkP 347) ⟨(PuOK.ok (ok_iload dX4_noteWay_134)), m_iload⟩ (
  lkp_c (P := OkP 347) ⟨ok_iald dX4_noteWay_136, m_rdI⟩ (
  lkp_c (P := OkP 347) ⟨ok_iast dX4_noteWay_137, m_wrI⟩ (
  lkp_c (P := OkP 347) ⟨(PuOK.ok (ok_iinc dX4_noteWay_138 rfl)), m_iinc⟩ (
  lkp_c (P := OkP 347) ⟨(PuOK.ok (ok_goto dX4_noteWay_141 rfl)), m_goto⟩ (
  lkp_c (P := OkP 347) ⟨ok_vret rfl dX4_noteWay_144, m_vret⟩ (
  trivial)))))))))
theorem mt_347 : MtOK TB NT IT 347 := ⟨by decide +kernel, rfl, (fun h => by cases h), Or.inl ⟨rfl, rfl⟩, rfl, by decide, lk2_all (P := OkP 347) ⟨c_347_0, c_347_1, c_347_2, trivial⟩⟩
def dkwX4_routeGantry_3 : List UInt8 := [159, 0, 12, 21, 4, 42, 180, 1, 26, 164, 0, 7, 2, 167, 0, 10, 42, 180, 0, 54, 21, 4, 46, 172]
abbrev dktX4_routeGantry_3 : List UInt8 := dkwX4_routeGantry_3 ++ []
def dkwX4_routeGantry_2 : List UInt8 := [156, 0, 9, 42, 5, 182, 0, 87, 172, 42, 27, 28, 29, 182, 1, 43, 42, 180, 1, 23, 19, 1, 35]
abbrev dktX4_routeGantry_2 : List UInt8 := dkwX4_routeGantry_2 ++ dktX4_routeGantry_3
def dkwX4_routeGantry_1 : List UInt8 := [182, 0, 87, 172, 27, 28, 159, 0, 19, 29, 3, 17, 2, 88, 184, 0, 91, 153, 0, 8, 21, 4]
abbrev dktX4_routeGantry_1 : List UInt8 := dkwX4_routeGantry_1 ++ dktX4_routeGantry_2
def dkwX4_routeGantry_0 : List UInt8 := [42, 3, 181, 0, 81, 42, 27, 182, 0, 221, 153, 0, 11, 42, 28, 182, 0, 221, 154, 0, 9, 42, 4]
abbrev dktX4_routeGantry_0 : List UInt8 := dkwX4_routeGantry_0 ++ dktX4_routeGantry_1
theorem dksX4_routeGantry_0 : cX4_routeGantry.data.toList.drop 0 = dktX4_routeGantry_0 := by decide +kernel
theorem dksX4_routeGantry_1 : cX4_routeGantry.data.toList.drop 23 = dktX4_routeGantry_1 := dk_seg dksX4_routeGantry_0 23 rfl rfl
theorem dksX4_routeGantry_2 : cX4_routeGantry.data.toList.drop 45 = dktX4_routeGantry_2 := dk_seg dksX4_routeGantry_1 22 rfl rfl
theorem dksX4_routeGantry_3 : cX4_routeGantry.data.toList.drop 68 = dktX4_routeGantry_3 := dk_seg dksX4_routeGantry_2 23 rfl rfl
theorem dX4_routeGantry_0 : decode cX4_routeGantry 0 = .ok (.aload_n 0, 1) := dk_42 (dk_at dksX4_routeGantry_0 0 rfl rfl)
theorem dX4_routeGantry_1 : decode cX4_routeGantry 1 = .ok (.iconst 0, 1) := dk_3 (dk_at dksX4_routeGantry_0 1 rfl rfl)
theorem dX4_routeGantry_2 : decode cX4_routeGantry 2 = .ok (.putfield 81, 3) := dk_181 0 81 (dk_at dksX4_routeGantry_0 2 rfl rfl)
theorem dX4_routeGantry_5 : decode cX4_routeGantry 5 = .ok (.aload_n 0, 1) := dk_42 (dk_at dksX4_routeGantry_0 5 rfl rfl)
theorem dX4_routeGantry_6 : decode cX4_routeGantry 6 = .ok (.iload_n 1, 1) := dk_27 (dk_at dksX4_routeGantry_0 6 rfl rfl)
theorem dX4_routeGantry_7 : decode cX4_routeGantry 7 = .ok (.invokevirtual 221, 3) := dk_182 0 221 (dk_at dksX4_routeGantry_0 7 rfl rfl)
theorem dX4_routeGantry_10 : decode cX4_routeGantry 10 = .ok (.ifCond .eq 11, 3) := dk_153 0 11 (dk_at dksX4_routeGantry_0 10 rfl rfl)
theorem dX4_routeGantry_13 : decode cX4_routeGantry 13 = .ok (.aload_n 0, 1) := dk_42 (dk_at dksX4_routeGantry_0 13 rfl rfl)
theorem dX4_routeGantry_14 : decode cX4_routeGantry 14 = .ok (.iload_n 2, 1) := dk_28 (dk_at dksX4_routeGantry_0 14 rfl rfl)
theorem dX4_routeGantry_15 : decode cX4_routeGantry 15 = .ok (.invokevirtual 221, 3) := dk_182 0 221 (dk_at dksX4_routeGantry_0 15 rfl rfl)
theorem dX4_routeGantry_18 : decode cX4_routeGantry 18 = .ok (.ifCond .ne 9, 3) := dk_154 0 9 (dk_at dksX4_routeGantry_0 18 rfl rfl)
theorem dX4_routeGantry_21 : decode cX4_routeGantry 21 = .ok (.aload_n 0, 1) := dk_42 (dk_at dksX4_routeGantry_0 21 rfl rfl)
theorem dX4_routeGantry_22 : decode cX4_routeGantry 22 = .ok (.iconst 1, 1) := dk_4 (dk_at dksX4_routeGantry_0 22 rfl rfl)
theorem dX4_routeGantry_23 : decode cX4_routeGantry 23 = .ok (.invokevirtual 87, 3) := dk_182 0 87 (dk_at dksX4_routeGantry_1 0 rfl rfl)
theorem dX4_routeGantry_26 : decode cX4_routeGantry 26 = .ok (.ireturn, 1) := dk_172 (dk_at dksX4_routeGantry_1 3 rfl rfl)
theorem dX4_routeGantry_27 : decode cX4_routeGantry 27 = .ok (.iload_n 1, 1) := dk_27 (dk_at dksX4_routeGantry_1 4 rfl rfl)
theorem dX4_routeGantry_28 : decode cX4_routeGantry 28 = .ok (.iload_n 2, 1) := dk_28 (dk_at dksX4_routeGantry_1 5 rfl rfl)
theorem dX4_routeGantry_29 : decode cX4_routeGantry 29 = .ok (.if_icmp .eq 19, 3) := dk_159 0 19 (dk_at dksX4_routeGantry_1 6 rfl rfl)
theorem dX4_routeGantry_32 : decode cX4_routeGantry 32 = .ok (.iload_n 3, 1) := dk_29 (dk_at dksX4_routeGantry_1 9 rfl rfl)
theorem dX4_routeGantry_33 : decode cX4_routeGantry 33 = .ok (.iconst 0, 1) := dk_3 (dk_at dksX4_routeGantry_1 10 rfl rfl)
theorem dX4_routeGantry_34 : decode cX4_routeGantry 34 = .ok (.sipush 600, 3) := dk_17 2 88 (dk_at dksX4_routeGantry_1 11 rfl rfl)
theorem dX4_routeGantry_37 : decode cX4_routeGantry 37 = .ok (.invokestatic 91, 3) := dk_184 0 91 (dk_at dksX4_routeGantry_1 14 rfl rfl)
theorem dX4_routeGantry_40 : decode cX4_routeGantry 40 = .ok (.ifCond .eq 8, 3) := dk_153 0 8 (dk_at dksX4_routeGantry_1 17 rfl rfl)
theorem dX4_routeGantry_43 : decode cX4_routeGantry 43 = .ok (.iload 4, 2) := dk_21 4 (dk_at dksX4_routeGantry_1 20 rfl rfl)
theorem dX4_routeGantry_45 : decode cX4_routeGantry 45 = .ok (.ifCond .ge 9, 3) := dk_156 0 9 (dk_at dksX4_routeGantry_2 0 rfl rfl)
theorem dX4_routeGantry_48 : decode cX4_routeGantry 48 = .ok (.aload_n 0, 1) := dk_42 (dk_at dksX4_routeGantry_2 3 rfl rfl)
theorem dX4_routeGantry_49 : decode cX4_routeGantry 49 = .ok (.iconst 2, 1) := dk_5 (dk_at dksX4_routeGantry_2 4 rfl rfl)
theorem dX4_routeGantry_50 : decode cX4_routeGantry 50 = .ok (.invokevirtual 87, 3) := dk_182 0 87 (dk_at dksX4_routeGantry_2 5 rfl rfl)
theorem dX4_routeGantry_53 : decode cX4_routeGantry 53 = .ok (.ireturn, 1) := dk_172 (dk_at dksX4_routeGantry_2 8 rfl rfl)
theorem dX4_routeGantry_54 : decode cX4_routeGantry 54 = .ok (.aload_n 0, 1) := dk_42 (dk_at dksX4_routeGantry_2 9 rfl rfl)
theorem dX4_routeGantry_55 : decode cX4_routeGantry 55 = .ok (.iload_n 1, 1) := dk_27 (dk_at dksX4_routeGantry_2 10 rfl rfl)
theorem dX4_routeGantry_56 : decode cX4_routeGantry 56 = .ok (.iload_n 2, 1) := dk_28 (dk_at dksX4_routeGantry_2 11 rfl rfl)
theorem dX4_routeGantry_57 : decode cX4_routeGantry 57 = .ok (.iload_n 3, 1) := dk_29 (dk_at dksX4_routeGantry_2 12 rfl rfl)
theorem dX4_routeGantry_58 : decode cX4_routeGantry 58 = .ok (.invokevirtual 299, 3) := dk_182 1 43 (dk_at dksX4_routeGantry_2 13 rfl rfl)
theorem dX4_routeGantry_61 : decode cX4_routeGantry 61 = .ok (.aload_n 0, 1) := dk_42 (dk_at dksX4_routeGantry_2 16 rfl rfl)
theorem dX4_routeGantry_62 : decode cX4_routeGantry 62 = .ok (.getfield 279, 3) := dk_180 1 23 (dk_at dksX4_routeGantry_2 17 rfl rfl)
theorem dX4_routeGantry_65 : decode cX4_routeGantry 65 = .ok (.ldc_w 291, 3) := dk_19 1 35 (dk_at dksX4_routeGantry_2 20 rfl rfl)
theorem dX4_routeGantry_68 : decode cX4_routeGantry 68 = .ok (.if_icmp .eq 12, 3) := dk_159 0 12 (dk_at dksX4_routeGantry_3 0 rfl rfl)
theorem dX4_routeGantry_71 : decode cX4_routeGantry 71 = .ok (.iload 4, 2) := dk_21 4 (dk_at dksX4_routeGantry_3 3 rfl rfl)
theorem dX4_routeGantry_73 : decode cX4_routeGantry 73 = .ok (.aload_n 0, 1) := dk_42 (dk_at dksX4_routeGantry_3 5 rfl rfl)
theorem dX4_routeGantry_74 : decode cX4_routeGantry 74 = .ok (.getfield 282, 3) := dk_180 1 26 (dk_at dksX4_routeGantry_3 6 rfl rfl)
theorem dX4_routeGantry_77 : decode cX4_routeGantry 77 = .ok (.if_icmp .le 7, 3) := dk_164 0 7 (dk_at dksX4_routeGantry_3 9 rfl rfl)
theorem dX4_routeGantry_80 : decode cX4_routeGantry 80 = .ok (.iconst (-1), 1) := dk_2 (dk_at dksX4_routeGantry_3 12 rfl rfl)
theorem dX4_routeGantry_81 : decode cX4_routeGantry 81 = .ok (.goto 10, 3) := dk_167 0 10 (dk_at dksX4_routeGantry_3 13 rfl rfl)
theorem dX4_routeGantry_84 : decode cX4_routeGantry 84 = .ok (.aload_n 0, 1) := dk_42 (dk_at dksX4_routeGantry_3 16 rfl rfl)
theorem dX4_routeGantry_85 : decode cX4_routeGantry 85 = .ok (.getfield 54, 3) := dk_180 0 54 (dk_at dksX4_routeGantry_3 17 rfl rfl)
theorem dX4_routeGantry_88 : decode cX4_routeGantry 88 = .ok (.iload 4, 2) := dk_21 4 (dk_at dksX4_routeGantry_3 20 rfl rfl)
theorem dX4_routeGantry_90 : decode cX4_routeGantry 90 = .ok (.iaload, 1) := dk_46 (dk_at dksX4_routeGantry_3 22 rfl rfl)
theorem dX4_routeGantry_91 : decode cX4_routeGantry 91 = .ok (.ireturn, 1) := dk_172 (dk_at dksX4_routeGantry_3 23 rfl rfl)
theorem c_348_0 : LkP (OkP 348) [(0, o_aload 0 1), (1, o_push 1 (.int 0)), (2, o_put 155 1), (5, o_aload 0 1), (6, o_iload 1 1), (7, o_cv [(30, 323)] 1 3 false none), (10, o_if (fun x => decide (x = 0)) 21), (13, o_aload 0 1), (14, o_iload 2 1), (15, o_cv [(30, 323)] 1 3 false none), (18, o_if (fun x => decide (¬ x = 0)) 27), (21, o_aload 0 1), (22, o_push 1 (.int 1)), (23, o_cv [(30, 291)] 1 3 false none), (26, o_ret 1), (27, o_iload 1 1), (28, o_iload 2 1), (29, o_icmp (fun x y => decide (x = y)) 48), (32, o_iload 3 1), (33, o_push 1 (.int 0)), (34, o_push 3 (.int 600)), (37, o_cs 293 3 false none), (40, o_if (fun x => decide (x = 0)) 48), (43, o_iload 4 2), (45, o_if (fun x => decide (0 ≤ x)) 54), (48, o_aload 0 1), (49, o_push 1 (.int 2)), (50, o_cv [(30, 291)] 1 3 false none), (53, o_ret 1), (54, o_aload 0 1), (55, o_iload 1 1), (56, o_iload 2 1), (57, o_iload 3 1), (58, o_cv [(30, 345)] 3 3 true none), (61, o_aload 0 1), (62, o_get 172)] := lkp_c (P := OkP 348) ⟨(PuOK.ok (ok_aload_n dX4_routeGantry_0 rfl)), m_aload⟩ (
  lkp_c (P := OkP 348) ⟨(PuOK.ok (ok_iconst dX4_routeGantry_1 rfl)), m_push⟩ (
  lkp_c (P := OkP 348) ⟨ok_put ⟨"TollRoadModel", q3087, Or.inl rfl⟩ rfl fd_155 rfl dX4_routeGantry_2, m_put⟩ (
  lkp_c (P := OkP 348) ⟨(PuOK.ok (ok_aload_n dX4_routeGantry_5 rfl)), m_aload⟩ (
  lkp_c (P := OkP 348) ⟨(PuOK.ok (ok_iload_n dX4_routeGantry_6 rfl)), m_iload⟩ (
  lkp_c (P := OkP 348) ⟨ok_cv (List.forall_mem_cons.mpr ⟨tg_V (ci := 30) (r := CLr 30) (y := 323) rfl ⟨rfl, by decide⟩ rfl q3351 q3353 qs64 q139 q3354 ⟨cn_34.1, cn_34.2, pd_77⟩ dX4_routeGantry_7, (List.forall_mem_nil _)⟩) hd_no, m_cv⟩ (
  lkp_c (P := OkP 348) ⟨(PuOK.ok (ok_if_eq dX4_routeGantry_10 rfl)), m_if⟩ (
  lkp_c (P := OkP 348) ⟨(PuOK.ok (ok_aload_n dX4_routeGantry_13 rfl)), m_aload⟩ (
  lkp_c (P := OkP 348) ⟨(PuOK.ok (ok_iload_n dX4_routeGantry_14 rfl)), m_iload⟩ (
  lkp_c (P := OkP 348) ⟨ok_cv (List.forall_mem_cons.mpr ⟨tg_V (ci := 30) (r := CLr 30) (y := 323) rfl ⟨rfl, by decide⟩ rfl q3351 q3353 qs64 q139 q3354 ⟨cn_34.1, cn_34.2, pd_77⟩ dX4_routeGantry_15, (List.forall_mem_nil _)⟩) hd_no, m_cv⟩ (
  lkp_c (P := OkP 348) ⟨(PuOK.ok (ok_if_ne dX4_routeGantry_18 rfl)), m_if⟩ (
  lkp_c (P := OkP 348) ⟨(PuOK.ok (ok_aload_n dX4_routeGantry_21 rfl)), m_aload⟩ (
  lkp_c (P := OkP 348) ⟨(PuOK.ok (ok_iconst dX4_routeGantry_22 rfl)), m_push⟩ (
  lkp_c (P := OkP 348) ⟨ok_cv (List.forall_mem_cons.mpr ⟨tg_V (ci := 30) (r := CLr 30) (y := 291) rfl ⟨rfl, by decide⟩ rfl q3206 q3208 qs42 q139 q3209 ⟨cn_34.1, cn_34.2, pd_48⟩ dX4_routeGantry_23, (List.forall_mem_nil _)⟩) hd_no, m_cv⟩ (
  lkp_c (P := OkP 348) ⟨ok_iret rfl rfl (by decide) dX4_routeGantry_26, m_ret⟩ (
  lkp_c (P := OkP 348) ⟨(PuOK.ok (ok_iload_n dX4_routeGantry_27 rfl)), m_iload⟩ (
  lkp_c (P := OkP 348) ⟨(PuOK.ok (ok_iload_n dX4_routeGantry_28 rfl)), m_iload⟩ (
  lkp_c (P := OkP 348) ⟨(PuOK.ok (ok_icmp_eq dX4_routeGantry_29 rfl)), m_icmp⟩ (
  lkp_c (P := OkP 348) ⟨(PuOK.ok (ok_iload_n dX4_routeGantry_32 rfl)), m_iload⟩ (
  lkp_c (P := OkP 348) ⟨(PuOK.ok (ok_iconst dX4_routeGantry_33 rfl)), m_push⟩ (
  lkp_c (P := OkP 348) ⟨(PuOK.ok (ok_sipush dX4_routeGantry_34 rfl)), m_push⟩ (
  lkp_c (P := OkP 348) ⟨ok_cs (tg_S ⟨rfl, by decide⟩ q3214 q3215 q139 q3216 ⟨cn_34.1, cn_34.2, pd_121⟩ dX4_routeGantry_37) hd_no, m_cs⟩ (
  lkp_c (P := OkP 348) ⟨(PuOK.ok (ok_if_eq dX4_routeGantry_40 rfl)), m_if⟩ (
  lkp_c (P := OkP 348) ⟨(PuOK.ok (ok_iload dX4_routeGantry_43)), m_iload⟩ (
  lkp_c (P := OkP 348) ⟨(PuOK.ok (ok_if_ge dX4_routeGantry_45 rfl)), m_if⟩ (
  lkp_c (P := OkP 348) ⟨(PuOK.ok (ok_aload_n dX4_routeGantry_48 rfl)), m_aload⟩ (
  lkp_c (P := OkP 348) ⟨(PuOK.ok (ok_iconst dX4_routeGantry_49 rfl)), m_push⟩ (
  lkp_c (P := OkP 348) ⟨ok_cv (List.forall_mem_cons.mpr ⟨tg_V (ci := 30) (r := CLr 30) (y := 291) rfl ⟨rfl, by decide⟩ rfl q3206 q3208 qs42 q139 q3209 ⟨cn_34.1, cn_34.2, pd_48⟩ dX4_routeGantry_50, (List.forall_mem_nil _)⟩) hd_no, m_cv⟩ (
  lkp_c (P := OkP 348) ⟨ok_iret rfl rfl (by decide) dX4_routeGantry_53, m_ret⟩ (
  lkp_c (P := OkP 348) ⟨(PuOK.ok (ok_aload_n dX4_routeGantry_54 rfl)), m_aload⟩ (
  lkp_c (P := OkP 348) ⟨(PuOK.ok (ok_iload_n dX4_routeGantry_55 rfl)), m_iload⟩ (
  lkp_c (P := OkP 348) ⟨(PuOK.ok (ok_iload_n dX4_routeGantry_56 rfl)), m_iload⟩ (
  lkp_c (P := OkP 348) ⟨(PuOK.ok (ok_iload_n dX4_routeGantry_57 rfl)), m_iload⟩ (
  lkp_c (P := OkP 348) ⟨ok_cv (List.forall_mem_cons.mpr ⟨tg_V (ci := 30) (r := CLr 30) (y := 345) rfl ⟨rfl, by decide⟩ rfl q3440 q3442 qs77 q139 q3443 ⟨cn_34.1, cn_34.2, pd_105⟩ dX4_routeGantry_58, (List.forall_mem_nil _)⟩) hd_no, m_cv⟩ (
  lkp_c (P := OkP 348) ⟨(PuOK.ok (ok_aload_n dX4_routeGantry_61 rfl)), m_aload⟩ (
  lkp_c (P := OkP 348) ⟨ok_get ⟨"TollRoadModel", q3104, Or.inl rfl⟩ dX4_routeGantry_62, m_get⟩ (
  trivial))))))))))))))))))))))))))))))))))))
theorem c_348_1 : LkP (OkP 348) [(65, o_push 3 (.int 1000000000)), (68, o_icmp (fun x y => decide (x = y)) 80), (71, o_iload 4 2), (73, o_aload 0 1), (74, o_get 173), (77, o_icmp (fun x y => decide (x ≤ y)) 84), (80, o_push 1 (.int (-1))), (81, o_goto 91), (84, o_aload 0 1), (85, o_get 171), (88, o_iload 4 2), (90, o_rdI 0), (91, o_ret 1)] := lkp_c (P := OkP 348) ⟨(PuOK.ok (ok_ldcw q3444 dX4_routeGantry_65)), m_push⟩ (
  lkp_c (P := OkP 348) ⟨(PuOK.ok (ok_icmp_eq dX4_routeGantry_68 rfl)), m_icmp⟩ (
  lkp_c (P := OkP 348) ⟨(PuOK.ok (ok_iload dX4_routeGantry_71)), m_iload⟩ (
  lkp_c (P := OkP 348) ⟨(PuOK.ok (ok_aload_n dX4_routeGantry_73 rfl)), m_aload⟩ (
  lkp_c (P := OkP 348) ⟨ok_get ⟨"TollRoadModel", q3105, Or.inl rfl⟩ dX4_routeGantry_74, m_get⟩ (
  lkp_c (P := OkP 348) ⟨(PuOK.ok (ok_icmp_le dX4_routeGantry_77 rfl)), m_icmp⟩ (
  lkp_c (P := OkP 348) ⟨(PuOK.ok (ok_iconst dX4_routeGantry_80 rfl)), m_push⟩ (
  lkp_c (P := OkP 348) ⟨(PuOK.ok (ok_goto dX4_routeGantry_81 rfl)), m_goto⟩ (
  lkp_c (P := OkP 348) ⟨(PuOK.ok (ok_aload_n dX4_routeGantry_84 rfl)), m_aload⟩ (
  lkp_c (P := OkP 348) ⟨ok_get ⟨"TollRoadModel", q3103, Or.inl rfl⟩ dX4_routeGantry_85, m_get⟩ (
  lkp_c (P := OkP 348) ⟨(PuOK.ok (ok_iload dX4_routeGantry_88)), m_iload⟩ (
  lkp_c (P := OkP 348) ⟨ok_iald dX4_routeGantry_90, m_rdI⟩ (
  lkp_c (P := OkP 348) ⟨ok_iret rfl rfl (by decide) dX4_routeGantry_91, m_ret⟩ (
  trivial)))))))))))))
theorem mt_348 : MtOK TB NT IT 348 := ⟨by decide +kernel, rfl, (fun h => by cases h), Or.inl ⟨rfl, rfl⟩, rfl, by decide, lk2_all (P := OkP 348) ⟨c_348_0, c_348_1, trivial⟩⟩
