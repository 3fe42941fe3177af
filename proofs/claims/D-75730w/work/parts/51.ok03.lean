set_option maxRecDepth 100000
/-! each op is what its instruction does -/
def dkwX1_read_0 : List UInt8 := [42, 27, 182, 1, 27, 78, 28, 133, 9, 20, 0, 211, 184, 0, 46, 184, 0, 79, 45, 28, 182, 1, 31, 172]
abbrev dktX1_read_0 : List UInt8 := dkwX1_read_0 ++ []
theorem dksX1_read_0 : cX1_read.data.toList.drop 0 = dktX1_read_0 := by decide +kernel
theorem dX1_read_0 : decode cX1_read 0 = .ok (.aload_n 0, 1) := dk_42 (dk_at dksX1_read_0 0 rfl rfl)
theorem dX1_read_1 : decode cX1_read 1 = .ok (.iload_n 1, 1) := dk_27 (dk_at dksX1_read_0 1 rfl rfl)
theorem dX1_read_2 : decode cX1_read 2 = .ok (.invokevirtual 283, 3) := dk_182 1 27 (dk_at dksX1_read_0 2 rfl rfl)
theorem dX1_read_5 : decode cX1_read 5 = .ok (.astore_n 3, 1) := dk_78 (dk_at dksX1_read_0 5 rfl rfl)
theorem dX1_read_6 : decode cX1_read 6 = .ok (.iload_n 2, 1) := dk_28 (dk_at dksX1_read_0 6 rfl rfl)
theorem dX1_read_7 : decode cX1_read 7 = .ok (.i2l, 1) := dk_133 (dk_at dksX1_read_0 7 rfl rfl)
theorem dX1_read_8 : decode cX1_read 8 = .ok (.lconst 0, 1) := dk_9 (dk_at dksX1_read_0 8 rfl rfl)
theorem dX1_read_9 : decode cX1_read 9 = .ok (.ldc2_w 211, 3) := dk_20 0 211 (dk_at dksX1_read_0 9 rfl rfl)
theorem dX1_read_12 : decode cX1_read 12 = .ok (.invokestatic 46, 3) := dk_184 0 46 (dk_at dksX1_read_0 12 rfl rfl)
theorem dX1_read_15 : decode cX1_read 15 = .ok (.invokestatic 79, 3) := dk_184 0 79 (dk_at dksX1_read_0 15 rfl rfl)
theorem dX1_read_18 : decode cX1_read 18 = .ok (.aload_n 3, 1) := dk_45 (dk_at dksX1_read_0 18 rfl rfl)
theorem dX1_read_19 : decode cX1_read 19 = .ok (.iload_n 2, 1) := dk_28 (dk_at dksX1_read_0 19 rfl rfl)
theorem dX1_read_20 : decode cX1_read 20 = .ok (.invokevirtual 287, 3) := dk_182 1 31 (dk_at dksX1_read_0 20 rfl rfl)
theorem dX1_read_23 : decode cX1_read 23 = .ok (.ireturn, 1) := dk_172 (dk_at dksX1_read_0 23 rfl rfl)
theorem c_197_0 : LkP (OkP 197) [(0, o_aload 0 1), (1, o_iload 1 1), (2, o_cv [(0, 198)] 1 3 false none), (5, o_astore 3 1), (6, o_iload 2 1), (7, o_i2l), (8, o_push 1 (.long 0)), (9, o_push 3 (.long 6)), (12, o_cs 165 3 false none), (15, o_cs 172 1 true none), (18, o_aload 3 1), (19, o_iload 2 1), (20, o_cv [(17, 236)] 1 3 false none), (23, o_ret 1)] := lkp_c (P := OkP 197) ⟨(PuOK.ok (ok_aload_n dX1_read_0 rfl)), m_aload⟩ (
  lkp_c (P := OkP 197) ⟨(PuOK.ok (ok_iload_n dX1_read_1 rfl)), m_iload⟩ (
  lkp_c (P := OkP 197) ⟨ok_cv (List.forall_mem_cons.mpr ⟨tg_V (ci := 0) (r := CLr 0) (y := 198) rfl ⟨rfl, by decide⟩ rfl q2060 q2062 qs21 q115 q2063 ⟨cn_33.1, cn_33.2, pd_86⟩ dX1_read_2, (List.forall_mem_nil _)⟩) hd_no, m_cv⟩ (
  lkp_c (P := OkP 197) ⟨(PuOK.ok (ok_astore_n dX1_read_5 rfl)), m_astore⟩ (
  lkp_c (P := OkP 197) ⟨(PuOK.ok (ok_iload_n dX1_read_6 rfl)), m_iload⟩ (
  lkp_c (P := OkP 197) ⟨(PuOK.ok (ok_i2l dX1_read_7)), m_i2l⟩ (
  lkp_c (P := OkP 197) ⟨(PuOK.ok (ok_lconst dX1_read_8 rfl)), m_push⟩ (
  lkp_c (P := OkP 197) ⟨(PuOK.ok (ok_ldc2 q1819 dX1_read_9)), m_push⟩ (
  lkp_c (P := OkP 197) ⟨ok_cs (tg_S ⟨rfl, by decide⟩ q1643 q1284 q115 q1285 ⟨cn_33.1, cn_33.2, pd_74⟩ dX1_read_12) hd_no, m_cs⟩ (
  lkp_c (P := OkP 197) ⟨ok_cs (tg_S ⟨rfl, by decide⟩ q1644 q1645 q115 q1646 ⟨cn_33.1, cn_33.2, pd_18⟩ dX1_read_15) hd_no, m_cs⟩ (
  lkp_c (P := OkP 197) ⟨(PuOK.ok (ok_aload_n dX1_read_18 rfl)), m_aload⟩ (
  lkp_c (P := OkP 197) ⟨(PuOK.ok (ok_iload_n dX1_read_19 rfl)), m_iload⟩ (
  lkp_c (P := OkP 197) ⟨ok_cv (List.forall_mem_cons.mpr ⟨tg_V (ci := 17) (r := CLr 17) (y := 236) rfl ⟨rfl, by decide⟩ rfl q2064 q2065 q2066 q157 q2067 ⟨cn_44.1, cn_44.2, pd_48⟩ dX1_read_20, (List.forall_mem_nil _)⟩) hd_no, m_cv⟩ (
  lkp_c (P := OkP 197) ⟨ok_iret rfl rfl (by decide) dX1_read_23, m_ret⟩ (
  trivial))))))))))))))
theorem mt_197 : MtOK TB NT IT 197 := ⟨by decide +kernel, rfl, (fun h => by cases h), Or.inl ⟨rfl, rfl⟩, rfl, by decide, lk2_all (P := OkP 197) ⟨c_197_0, trivial⟩⟩
def dkwX1_readAt_1 : List UInt8 := [180, 0, 19, 180, 0, 143, 27, 182, 0, 64, 192, 0, 160, 176]
abbrev dktX1_readAt_1 : List UInt8 := dkwX1_readAt_1 ++ []
def dkwX1_readAt_0 : List UInt8 := [27, 133, 9, 42, 180, 0, 19, 180, 0, 143, 182, 0, 58, 4, 100, 133, 184, 0, 46, 184, 0, 50, 42]
abbrev dktX1_readAt_0 : List UInt8 := dkwX1_readAt_0 ++ dktX1_readAt_1
theorem dksX1_readAt_0 : cX1_readAt.data.toList.drop 0 = dktX1_readAt_0 := by decide +kernel
theorem dksX1_readAt_1 : cX1_readAt.data.toList.drop 23 = dktX1_readAt_1 := dk_seg dksX1_readAt_0 23 rfl rfl
theorem dX1_readAt_0 : decode cX1_readAt 0 = .ok (.iload_n 1, 1) := dk_27 (dk_at dksX1_readAt_0 0 rfl rfl)
theorem dX1_readAt_1 : decode cX1_readAt 1 = .ok (.i2l, 1) := dk_133 (dk_at dksX1_readAt_0 1 rfl rfl)
theorem dX1_readAt_2 : decode cX1_readAt 2 = .ok (.lconst 0, 1) := dk_9 (dk_at dksX1_readAt_0 2 rfl rfl)
theorem dX1_readAt_3 : decode cX1_readAt 3 = .ok (.aload_n 0, 1) := dk_42 (dk_at dksX1_readAt_0 3 rfl rfl)
theorem dX1_readAt_4 : decode cX1_readAt 4 = .ok (.getfield 19, 3) := dk_180 0 19 (dk_at dksX1_readAt_0 4 rfl rfl)
theorem dX1_readAt_7 : decode cX1_readAt 7 = .ok (.getfield 143, 3) := dk_180 0 143 (dk_at dksX1_readAt_0 7 rfl rfl)
theorem dX1_readAt_10 : decode cX1_readAt 10 = .ok (.invokevirtual 58, 3) := dk_182 0 58 (dk_at dksX1_readAt_0 10 rfl rfl)
theorem dX1_readAt_13 : decode cX1_readAt 13 = .ok (.iconst 1, 1) := dk_4 (dk_at dksX1_readAt_0 13 rfl rfl)
theorem dX1_readAt_14 : decode cX1_readAt 14 = .ok (.isub, 1) := dk_100 (dk_at dksX1_readAt_0 14 rfl rfl)
theorem dX1_readAt_15 : decode cX1_readAt 15 = .ok (.i2l, 1) := dk_133 (dk_at dksX1_readAt_0 15 rfl rfl)
theorem dX1_readAt_16 : decode cX1_readAt 16 = .ok (.invokestatic 46, 3) := dk_184 0 46 (dk_at dksX1_readAt_0 16 rfl rfl)
theorem dX1_readAt_19 : decode cX1_readAt 19 = .ok (.invokestatic 50, 3) := dk_184 0 50 (dk_at dksX1_readAt_0 19 rfl rfl)
theorem dX1_readAt_22 : decode cX1_readAt 22 = .ok (.aload_n 0, 1) := dk_42 (dk_at dksX1_readAt_0 22 rfl rfl)
theorem dX1_readAt_23 : decode cX1_readAt 23 = .ok (.getfield 19, 3) := dk_180 0 19 (dk_at dksX1_readAt_1 0 rfl rfl)
theorem dX1_readAt_26 : decode cX1_readAt 26 = .ok (.getfield 143, 3) := dk_180 0 143 (dk_at dksX1_readAt_1 3 rfl rfl)
theorem dX1_readAt_29 : decode cX1_readAt 29 = .ok (.iload_n 1, 1) := dk_27 (dk_at dksX1_readAt_1 6 rfl rfl)
theorem dX1_readAt_30 : decode cX1_readAt 30 = .ok (.invokevirtual 64, 3) := dk_182 0 64 (dk_at dksX1_readAt_1 7 rfl rfl)
theorem dX1_readAt_33 : decode cX1_readAt 33 = .ok (.checkcast 160, 3) := dk_192 0 160 (dk_at dksX1_readAt_1 10 rfl rfl)
theorem dX1_readAt_36 : decode cX1_readAt 36 = .ok (.areturn, 1) := dk_176 (dk_at dksX1_readAt_1 13 rfl rfl)
theorem c_198_0 : LkP (OkP 198) [(0, o_iload 1 1), (1, o_i2l), (2, o_push 1 (.long 0)), (3, o_aload 0 1), (4, o_get 0), (7, o_get 11), (10, o_cv [(3, 42)] 0 3 false none), (13, o_push 1 (.int 1)), (14, o_iop (fun x y => x - y)), (15, o_i2l), (16, o_cs 165 3 false none), (19, o_cs 176 1 true none), (22, o_aload 0 1), (23, o_get 0), (26, o_get 11), (29, o_iload 1 1), (30, o_cv [(3, 47)] 1 3 false none), (33, o_cast [17]), (36, o_ret 0)] := lkp_c (P := OkP 198) ⟨(PuOK.ok (ok_iload_n dX1_readAt_0 rfl)), m_iload⟩ (
  lkp_c (P := OkP 198) ⟨(PuOK.ok (ok_i2l dX1_readAt_1)), m_i2l⟩ (
  lkp_c (P := OkP 198) ⟨(PuOK.ok (ok_lconst dX1_readAt_2 rfl)), m_push⟩ (
  lkp_c (P := OkP 198) ⟨(PuOK.ok (ok_aload_n dX1_readAt_3 rfl)), m_aload⟩ (
  lkp_c (P := OkP 198) ⟨ok_get ⟨"TollRoad", q664, Or.inl rfl⟩ dX1_readAt_4, m_get⟩ (
  lkp_c (P := OkP 198) ⟨ok_getN ⟨"TollRoad$World", "TollRoad", q642, Or.inl rfl⟩ dX1_readAt_7, m_get⟩ (
  lkp_c (P := OkP 198) ⟨ok_cv (List.forall_mem_cons.mpr ⟨tg_V (ci := 3) (r := CLr 3) (y := 42) rfl ⟨rfl, by decide⟩ rfl q1256 q1257 q1258 q120 q1259 ⟨cn_15.1, cn_15.2, pd_13⟩ dX1_readAt_10, (List.forall_mem_nil _)⟩) hd_no, m_cv⟩ (
  lkp_c (P := OkP 198) ⟨(PuOK.ok (ok_iconst dX1_readAt_13 rfl)), m_push⟩ (
  lkp_c (P := OkP 198) ⟨(PuOK.ok (ok_isub dX1_readAt_14)), m_iop⟩ (
  lkp_c (P := OkP 198) ⟨(PuOK.ok (ok_i2l dX1_readAt_15)), m_i2l⟩ (
  lkp_c (P := OkP 198) ⟨ok_cs (tg_S ⟨rfl, by decide⟩ q1643 q1284 q115 q1285 ⟨cn_33.1, cn_33.2, pd_74⟩ dX1_readAt_16) hd_no, m_cs⟩ (
  lkp_c (P := OkP 198) ⟨ok_cs (tg_S ⟨rfl, by decide⟩ q1691 q1692 q115 q1693 ⟨cn_33.1, cn_33.2, pd_18⟩ dX1_readAt_19) hd_no, m_cs⟩ (
  lkp_c (P := OkP 198) ⟨(PuOK.ok (ok_aload_n dX1_readAt_22 rfl)), m_aload⟩ (
  lkp_c (P := OkP 198) ⟨ok_get ⟨"TollRoad", q664, Or.inl rfl⟩ dX1_readAt_23, m_get⟩ (
  lkp_c (P := OkP 198) ⟨ok_getN ⟨"TollRoad$World", "TollRoad", q642, Or.inl rfl⟩ dX1_readAt_26, m_get⟩ (
  lkp_c (P := OkP 198) ⟨(PuOK.ok (ok_iload_n dX1_readAt_29 rfl)), m_iload⟩ (
  lkp_c (P := OkP 198) ⟨ok_cv (List.forall_mem_cons.mpr ⟨tg_V (ci := 3) (r := CLr 3) (y := 47) rfl ⟨rfl, by decide⟩ rfl q1806 q1807 q1808 q120 q1809 ⟨cn_15.1, cn_15.2, pd_27⟩ dX1_readAt_30, (List.forall_mem_nil _)⟩) hd_no, m_cv⟩ (
  lkp_c (P := OkP 198) ⟨ok_cast q1771 cst_6 dX1_readAt_33, m_cast⟩ (
  lkp_c (P := OkP 198) ⟨ok_aret rfl (Or.inl ⟨_, rfl⟩) dX1_readAt_36, m_ret⟩ (
  trivial)))))))))))))))))))
theorem mt_198 : MtOK TB NT IT 198 := ⟨by decide +kernel, rfl, (fun h => by cases h), Or.inl ⟨rfl, rfl⟩, rfl, by decide, lk2_all (P := OkP 198) ⟨c_198_0, trivial⟩⟩
def dkwX1_review_2 : List UInt8 := [182, 1, 51, 192, 0, 160, 78, 132, 4, 1, 167, 255, 239, 45, 180, 1, 54, 172]
abbrev dktX1_review_2 : List UInt8 := dkwX1_review_2 ++ []
def dkwX1_review_1 : List UInt8 := [161, 0, 5, 2, 172, 44, 182, 1, 51, 192, 0, 160, 78, 3, 54, 4, 21, 4, 27, 162, 0, 17, 44]
abbrev dktX1_review_1 : List UInt8 := dkwX1_review_1 ++ dktX1_review_2
def dkwX1_review_0 : List UInt8 := [27, 155, 0, 7, 4, 167, 0, 4, 3, 184, 0, 50, 42, 182, 1, 46, 77, 27, 44, 182, 1, 50]
abbrev dktX1_review_0 : List UInt8 := dkwX1_review_0 ++ dktX1_review_1
theorem dksX1_review_0 : cX1_review.data.toList.drop 0 = dktX1_review_0 := by decide +kernel
theorem dksX1_review_1 : cX1_review.data.toList.drop 22 = dktX1_review_1 := dk_seg dksX1_review_0 22 rfl rfl
theorem dksX1_review_2 : cX1_review.data.toList.drop 45 = dktX1_review_2 := dk_seg dksX1_review_1 23 rfl rfl
theorem dX1_review_0 : decode cX1_review 0 = .ok (.iload_n 1, 1) := dk_27 (dk_at dksX1_review_0 0 rfl rfl)
theorem dX1_review_1 : decode cX1_review 1 = .ok (.ifCond .lt 7, 3) := dk_155 0 7 (dk_at dksX1_review_0 1 rfl rfl)
theorem dX1_review_4 : decode cX1_review 4 = .ok (.iconst 1, 1) := dk_4 (dk_at dksX1_review_0 4 rfl rfl)
theorem dX1_review_5 : decode cX1_review 5 = .ok (.goto 4, 3) := dk_167 0 4 (dk_at dksX1_review_0 5 rfl rfl)
theorem dX1_review_8 : decode cX1_review 8 = .ok (.iconst 0, 1) := dk_3 (dk_at dksX1_review_0 8 rfl rfl)
theorem dX1_review_9 : decode cX1_review 9 = .ok (.invokestatic 50, 3) := dk_184 0 50 (dk_at dksX1_review_0 9 rfl rfl)
theorem dX1_review_12 : decode cX1_review 12 = .ok (.aload_n 0, 1) := dk_42 (dk_at dksX1_review_0 12 rfl rfl)
theorem dX1_review_13 : decode cX1_review 13 = .ok (.invokevirtual 302, 3) := dk_182 1 46 (dk_at dksX1_review_0 13 rfl rfl)
theorem dX1_review_16 : decode cX1_review 16 = .ok (.astore_n 2, 1) := dk_77 (dk_at dksX1_review_0 16 rfl rfl)
theorem dX1_review_17 : decode cX1_review 17 = .ok (.iload_n 1, 1) := dk_27 (dk_at dksX1_review_0 17 rfl rfl)
theorem dX1_review_18 : decode cX1_review 18 = .ok (.aload_n 2, 1) := dk_44 (dk_at dksX1_review_0 18 rfl rfl)
theorem dX1_review_19 : decode cX1_review 19 = .ok (.invokevirtual 306, 3) := dk_182 1 50 (dk_at dksX1_review_0 19 rfl rfl)
theorem dX1_review_22 : decode cX1_review 22 = .ok (.if_icmp .lt 5, 3) := dk_161 0 5 (dk_at dksX1_review_1 0 rfl rfl)
theorem dX1_review_25 : decode cX1_review 25 = .ok (.iconst (-1), 1) := dk_2 (dk_at dksX1_review_1 3 rfl rfl)
theorem dX1_review_26 : decode cX1_review 26 = .ok (.ireturn, 1) := dk_172 (dk_at dksX1_review_1 4 rfl rfl)
theorem dX1_review_27 : decode cX1_review 27 = .ok (.aload_n 2, 1) := dk_44 (dk_at dksX1_review_1 5 rfl rfl)
theorem dX1_review_28 : decode cX1_review 28 = .ok (.invokevirtual 307, 3) := dk_182 1 51 (dk_at dksX1_review_1 6 rfl rfl)
theorem dX1_review_31 : decode cX1_review 31 = .ok (.checkcast 160, 3) := dk_192 0 160 (dk_at dksX1_review_1 9 rfl rfl)
theorem dX1_review_34 : decode cX1_review 34 = .ok (.astore_n 3, 1) := dk_78 (dk_at dksX1_review_1 12 rfl rfl)
theorem dX1_review_35 : decode cX1_review 35 = .ok (.iconst 0, 1) := dk_3 (dk_at dksX1_review_1 13 rfl rfl)
theorem dX1_review_36 : decode cX1_review 36 = .ok (.istore 4, 2) := dk_54 4 (dk_at dksX1_review_1 14 rfl rfl)
theorem dX1_review_38 : decode cX1_review 38 = .ok (.iload 4, 2) := dk_21 4 (dk_at dksX1_review_1 16 rfl rfl)
theorem dX1_review_40 : decode cX1_review 40 = .ok (.iload_n 1, 1) := dk_27 (dk_at dksX1_review_1 18 rfl rfl)
theorem dX1_review_41 : decode cX1_review 41 = .ok (.if_icmp .ge 17, 3) := dk_162 0 17 (dk_at dksX1_review_1 19 rfl rfl)
theorem dX1_review_44 : decode cX1_review 44 = .ok (.aload_n 2, 1) := dk_44 (dk_at dksX1_review_1 22 rfl rfl)
theorem dX1_review_45 : decode cX1_review 45 = .ok (.invokevirtual 307, 3) := dk_182 1 51 (dk_at dksX1_review_2 0 rfl rfl)
theorem dX1_review_48 : decode cX1_review 48 = .ok (.checkcast 160, 3) := dk_192 0 160 (dk_at dksX1_review_2 3 rfl rfl)
theorem dX1_review_51 : decode cX1_review 51 = .ok (.astore_n 3, 1) := dk_78 (dk_at dksX1_review_2 6 rfl rfl)
theorem dX1_review_52 : decode cX1_review 52 = .ok (.iinc 4 1, 3) := dk_132 4 1 (dk_at dksX1_review_2 7 rfl rfl)
theorem dX1_review_55 : decode cX1_review 55 = .ok (.goto (-17), 3) := dk_167 255 239 (dk_at dksX1_review_2 10 rfl rfl)
theorem dX1_review_58 : decode cX1_review 58 = .ok (.aload_n 3, 1) := dk_45 (dk_at dksX1_review_2 13 rfl rfl)
theorem dX1_review_59 : decode cX1_review 59 = .ok (.getfield 310, 3) := dk_180 1 54 (dk_at dksX1_review_2 14 rfl rfl)
theorem dX1_review_62 : decode cX1_review 62 = .ok (.ireturn, 1) := dk_172 (dk_at dksX1_review_2 17 rfl rfl)
theorem c_199_0 : LkP (OkP 199) [(0, o_iload 1 1), (1, o_if (fun x => decide (x < 0)) 8), (4, o_push 1 (.int 1)), (5, o_goto 9), (8, o_push 1 (.int 0)), (9, o_cs 176 1 true none), (12, o_aload 0 1), (13, o_cv [(0, 200)] 0 3 false none), (16, o_astore 2 1), (17, o_iload 1 1), (18, o_aload 2 1), (19, o_cv [(18, 79)] 0 3 false none), (22, o_icmp (fun x y => decide (x < y)) 27), (25, o_push 1 (.int (-1))), (26, o_ret 1), (27, o_aload 2 1), (28, o_cv [(18, 80)] 0 3 false none), (31, o_cast [17]), (34, o_astore 3 1), (35, o_push 1 (.int 0)), (36, o_istore 4 2), (38, o_iload 4 2), (40, o_iload 1 1), (41, o_icmp (fun x y => decide (y ≤ x)) 58), (44, o_aload 2 1), (45, o_cv [(18, 80)] 0 3 false none), (48, o_cast [17]), (51, o_astore 3 1), (52, o_iinc 4 1), (55, o_goto 38), (58, o_aload 3 1), (59, o_get 89), (62, o_ret 1)] := lkp_c (P := OkP 199) ⟨(PuOK.ok (ok_iload_n dX1_review_0 rfl)), m_iload⟩ (
  lkp_c (P := OkP 199) ⟨(PuOK.ok (ok_if_lt dX1_review_1 rfl)), m_if⟩ (
  lkp_c (P := OkP 199) ⟨(PuOK.ok (ok_iconst dX1_review_4 rfl)), m_push⟩ (
  lkp_c (P := OkP 199) ⟨(PuOK.ok (ok_goto dX1_review_5 rfl)), m_goto⟩ (
  lkp_c (P := OkP 199) ⟨(PuOK.ok (ok_iconst dX1_review_8 rfl)), m_push⟩ (
  lkp_c (P := OkP 199) ⟨ok_cs (tg_S ⟨rfl, by decide⟩ q1691 q1692 q115 q1693 ⟨cn_33.1, cn_33.2, pd_18⟩ dX1_review_9) hd_no, m_cs⟩ (
  lkp_c (P := OkP 199) ⟨(PuOK.ok (ok_aload_n dX1_review_12 rfl)), m_aload⟩ (
  lkp_c (P := OkP 199) ⟨ok_cv (List.forall_mem_cons.mpr ⟨tg_V (ci := 0) (r := CLr 0) (y := 200) rfl ⟨rfl, by decide⟩ rfl q2075 q2077 qs22 q115 q2078 ⟨cn_33.1, cn_33.2, pd_87⟩ dX1_review_13, (List.forall_mem_nil _)⟩) hd_no, m_cv⟩ (
  lkp_c (P := OkP 199) ⟨(PuOK.ok (ok_astore_n dX1_review_16 rfl)), m_astore⟩ (
  lkp_c (P := OkP 199) ⟨(PuOK.ok (ok_iload_n dX1_review_17 rfl)), m_iload⟩ (
  lkp_c (P := OkP 199) ⟨(PuOK.ok (ok_aload_n dX1_review_18 rfl)), m_aload⟩ (
  lkp_c (P := OkP 199) ⟨ok_cv (List.forall_mem_cons.mpr ⟨tg_V (ci := 18) (r := CLr 18) (y := 79) rfl ⟨rfl, by decide⟩ rfl q2184 q2185 q2186 q159 q2187 ⟨cn_24.1, cn_24.2, pd_13⟩ dX1_review_19, (List.forall_mem_nil _)⟩) hd_no, m_cv⟩ (
  lkp_c (P := OkP 199) ⟨(PuOK.ok (ok_icmp_lt dX1_review_22 rfl)), m_icmp⟩ (
  lkp_c (P := OkP 199) ⟨(PuOK.ok (ok_iconst dX1_review_25 rfl)), m_push⟩ (
  lkp_c (P := OkP 199) ⟨ok_iret rfl rfl (by decide) dX1_review_26, m_ret⟩ (
  lkp_c (P := OkP 199) ⟨(PuOK.ok (ok_aload_n dX1_review_27 rfl)), m_aload⟩ (
  lkp_c (P := OkP 199) ⟨ok_cv (List.forall_mem_cons.mpr ⟨tg_V (ci := 18) (r := CLr 18) (y := 80) rfl ⟨rfl, by decide⟩ rfl q2188 q2189 q2190 q159 q2191 ⟨cn_24.1, cn_24.2, pd_71⟩ dX1_review_28, (List.forall_mem_nil _)⟩) hd_no, m_cv⟩ (
  lkp_c (P := OkP 199) ⟨ok_cast q1771 cst_6 dX1_review_31, m_cast⟩ (
  lkp_c (P := OkP 199) ⟨(PuOK.ok (ok_astore_n dX1_review_34 rfl)), m_astore⟩ (
  lkp_c (P := OkP 199) ⟨(PuOK.ok (ok_iconst dX1_review_35 rfl)), m_push⟩ (
  lkp_c (P := OkP 199) ⟨(PuOK.ok (ok_istore dX1_review_36)), m_istore⟩ (
  lkp_c (P := OkP 199) ⟨(PuOK.ok (ok_iload dX1_review_38)), m_iload⟩ (
  lkp_c (P := OkP 199) ⟨(PuOK.ok (ok_iload_n dX1_review_40 rfl)), m_iload⟩ (
  lkp_c (P := OkP 199) ⟨(PuOK.ok (ok_icmp_ge dX1_review_41 rfl)), m_icmp⟩ (
  lkp_c (P := OkP 199) ⟨(PuOK.ok (ok_aload_n dX1_review_44 rfl)), m_aload⟩ (
  lkp_c (P := OkP 199) ⟨ok_cv (List.forall_mem_cons.mpr ⟨tg_V (ci := 18) (r := CLr 18) (y := 80) rfl ⟨rfl, by decide⟩ rfl q2188 q2189 q2190 q159 q2191 ⟨cn_24.1, cn_24.2, pd_71⟩ dX1_review_45, (List.forall_mem_nil _)⟩) hd_no, m_cv⟩ (
  lkp_c (P := OkP 199) ⟨ok_cast q1771 cst_6 dX1_review_48, m_cast⟩ (
  lkp_c (P := OkP 199) ⟨(PuOK.ok (ok_astore_n dX1_review_51 rfl)), m_astore⟩ (
  lkp_c (P := OkP 199) ⟨(PuOK.ok (ok_iinc dX1_review_52 rfl)), m_iinc⟩ (
  lkp_c (P := OkP 199) ⟨(PuOK.ok (ok_goto dX1_review_55 rfl)), m_goto⟩ (
  lkp_c (P := OkP 199) ⟨(PuOK.ok (ok_aload_n dX1_review_58 rfl)), m_aload⟩ (
  lkp_c (P := OkP 199) ⟨ok_getN ⟨"TollRoad$Read", "TollRoad", q1996, Or.inl rfl⟩ dX1_review_59, m_get⟩ (
  lkp_c (P := OkP 199) ⟨ok_iret rfl rfl (by decide) dX1_review_62, m_ret⟩ (
  trivial)))))))))))))))))))))))))))))))))
theorem mt_199 : MtOK TB NT IT 199 := ⟨by decide +kernel, rfl, (fun h => by cases h), Or.inl ⟨rfl, rfl⟩, rfl, by decide, lk2_all (P := OkP 199) ⟨c_199_0, trivial⟩⟩
def dkwX1_reviews_3 : List UInt8 := [167, 255, 224, 43, 176]
abbrev dktX1_reviews_3 : List UInt8 := dkwX1_reviews_3 ++ []
def dkwX1_reviews_2 : List UInt8 := [185, 0, 156, 1, 0, 192, 0, 160, 78, 45, 180, 0, 162, 154, 0, 9, 43, 45, 182, 1, 43, 87]
abbrev dktX1_reviews_2 : List UInt8 := dkwX1_reviews_2 ++ dktX1_reviews_3
def dkwX1_reviews_1 : List UInt8 := [180, 0, 19, 180, 0, 143, 182, 0, 146, 77, 44, 185, 0, 150, 1, 0, 153, 0, 29, 44]
abbrev dktX1_reviews_1 : List UInt8 := dkwX1_reviews_1 ++ dktX1_reviews_2
def dkwX1_reviews_0 : List UInt8 := [187, 1, 33, 89, 16, 11, 187, 1, 35, 89, 42, 180, 0, 19, 183, 1, 37, 183, 1, 40, 76, 42]
abbrev dktX1_reviews_0 : List UInt8 := dkwX1_reviews_0 ++ dktX1_reviews_1
theorem dksX1_reviews_0 : cX1_reviews.data.toList.drop 0 = dktX1_reviews_0 := by decide +kernel
theorem dksX1_reviews_1 : cX1_reviews.data.toList.drop 22 = dktX1_reviews_1 := dk_seg dksX1_reviews_0 22 rfl rfl
theorem dksX1_reviews_2 : cX1_reviews.data.toList.drop 42 = dktX1_reviews_2 := dk_seg dksX1_reviews_1 20 rfl rfl
theorem dksX1_reviews_3 : cX1_reviews.data.toList.drop 64 = dktX1_reviews_3 := dk_seg dksX1_reviews_2 22 rfl rfl
theorem dX1_reviews_0 : decode cX1_reviews 0 = .ok (.new 289, 3) := dk_187 1 33 (dk_at dksX1_reviews_0 0 rfl rfl)
theorem dX1_reviews_3 : decode cX1_reviews 3 = .ok (.dup, 1) := dk_89 (dk_at dksX1_reviews_0 3 rfl rfl)
theorem dX1_reviews_4 : decode cX1_reviews 4 = .ok (.bipush 11, 2) := dk_16 11 (dk_at dksX1_reviews_0 4 rfl rfl)
theorem dX1_reviews_6 : decode cX1_reviews 6 = .ok (.new 291, 3) := dk_187 1 35 (dk_at dksX1_reviews_0 6 rfl rfl)
theorem dX1_reviews_9 : decode cX1_reviews 9 = .ok (.dup, 1) := dk_89 (dk_at dksX1_reviews_0 9 rfl rfl)
theorem dX1_reviews_10 : decode cX1_reviews 10 = .ok (.aload_n 0, 1) := dk_42 (dk_at dksX1_reviews_0 10 rfl rfl)
theorem dX1_reviews_11 : decode cX1_reviews 11 = .ok (.getfield 19, 3) := dk_180 0 19 (dk_at dksX1_reviews_0 11 rfl rfl)
theorem dX1_reviews_14 : decode cX1_reviews 14 = .ok (.invokespecial 293, 3) := dk_183 1 37 (dk_at dksX1_reviews_0 14 rfl rfl)
theorem dX1_reviews_17 : decode cX1_reviews 17 = .ok (.invokespecial 296, 3) := dk_183 1 40 (dk_at dksX1_reviews_0 17 rfl rfl)
theorem dX1_reviews_20 : decode cX1_reviews 20 = .ok (.astore_n 1, 1) := dk_76 (dk_at dksX1_reviews_0 20 rfl rfl)
theorem dX1_reviews_21 : decode cX1_reviews 21 = .ok (.aload_n 0, 1) := dk_42 (dk_at dksX1_reviews_0 21 rfl rfl)
theorem dX1_reviews_22 : decode cX1_reviews 22 = .ok (.getfield 19, 3) := dk_180 0 19 (dk_at dksX1_reviews_1 0 rfl rfl)
theorem dX1_reviews_25 : decode cX1_reviews 25 = .ok (.getfield 143, 3) := dk_180 0 143 (dk_at dksX1_reviews_1 3 rfl rfl)
theorem dX1_reviews_28 : decode cX1_reviews 28 = .ok (.invokevirtual 146, 3) := dk_182 0 146 (dk_at dksX1_reviews_1 6 rfl rfl)
theorem dX1_reviews_31 : decode cX1_reviews 31 = .ok (.astore_n 2, 1) := dk_77 (dk_at dksX1_reviews_1 9 rfl rfl)
theorem dX1_reviews_32 : decode cX1_reviews 32 = .ok (.aload_n 2, 1) := dk_44 (dk_at dksX1_reviews_1 10 rfl rfl)
theorem dX1_reviews_33 : decode cX1_reviews 33 = .ok (.invokeinterface 150 1, 5) := by decide +kernel
theorem dX1_reviews_38 : decode cX1_reviews 38 = .ok (.ifCond .eq 29, 3) := dk_153 0 29 (dk_at dksX1_reviews_1 16 rfl rfl)
theorem dX1_reviews_41 : decode cX1_reviews 41 = .ok (.aload_n 2, 1) := dk_44 (dk_at dksX1_reviews_1 19 rfl rfl)
theorem dX1_reviews_42 : decode cX1_reviews 42 = .ok (.invokeinterface 156 1, 5) := by decide +kernel
theorem dX1_reviews_47 : decode cX1_reviews 47 = .ok (.checkcast 160, 3) := dk_192 0 160 (dk_at dksX1_reviews_2 5 rfl rfl)
theorem dX1_reviews_50 : decode cX1_reviews 50 = .ok (.astore_n 3, 1) := dk_78 (dk_at dksX1_reviews_2 8 rfl rfl)
theorem dX1_reviews_51 : decode cX1_reviews 51 = .ok (.aload_n 3, 1) := dk_45 (dk_at dksX1_reviews_2 9 rfl rfl)
theorem dX1_reviews_52 : decode cX1_reviews 52 = .ok (.getfield 162, 3) := dk_180 0 162 (dk_at dksX1_reviews_2 10 rfl rfl)
theorem dX1_reviews_55 : decode cX1_reviews 55 = .ok (.ifCond .ne 9, 3) := dk_154 0 9 (dk_at dksX1_reviews_2 13 rfl rfl)
theorem dX1_reviews_58 : decode cX1_reviews 58 = .ok (.aload_n 1, 1) := dk_43 (dk_at dksX1_reviews_2 16 rfl rfl)
theorem dX1_reviews_59 : decode cX1_reviews 59 = .ok (.aload_n 3, 1) := dk_45 (dk_at dksX1_reviews_2 17 rfl rfl)
theorem dX1_reviews_60 : decode cX1_reviews 60 = .ok (.invokevirtual 299, 3) := dk_182 1 43 (dk_at dksX1_reviews_2 18 rfl rfl)
theorem dX1_reviews_63 : decode cX1_reviews 63 = .ok (.pop, 1) := dk_87 (dk_at dksX1_reviews_2 21 rfl rfl)
theorem dX1_reviews_64 : decode cX1_reviews 64 = .ok (.goto (-32), 3) := dk_167 255 224 (dk_at dksX1_reviews_3 0 rfl rfl)
theorem dX1_reviews_67 : decode cX1_reviews 67 = .ok (.aload_n 1, 1) := dk_43 (dk_at dksX1_reviews_3 3 rfl rfl)
theorem dX1_reviews_68 : decode cX1_reviews 68 = .ok (.areturn, 1) := dk_176 (dk_at dksX1_reviews_3 4 rfl rfl)
theorem c_200_0 : LkP (OkP 200) [(0, o_new 18 4 dv18), (3, o_dup), (4, o_push 2 (.int 11)), (6, o_new 19 1 dv19), (9, o_dup), (10, o_aload 0 1), (11, o_get 0), (14, o_ci 238 1), (17, o_ci 73 2), (20, o_astore 1 1), (21, o_aload 0 1), (22, o_get 0), (25, o_get 11), (28, o_cv [(3, 40)] 0 3 false none), (31, o_astore 2 1), (32, o_aload 2 1), (33, o_cv [(7, 50), (24, 86), (25, 92)] 0 5 false none), (38, o_if (fun x => decide (x = 0)) 67), (41, o_aload 2 1), (42, o_cv [(7, 51), (24, 89), (25, 95)] 0 5 false none), (47, o_cast [17]), (50, o_astore 3 1), (51, o_aload 3 1), (52, o_get 95), (55, o_if (fun x => decide (¬ x = 0)) 64), (58, o_aload 1 1), (59, o_aload 3 1), (60, o_cv [(18, 74)] 1 3 false none), (63, o_pop)] := lkp_c (P := OkP 200) ⟨ok_new (ci := 18) (r := CLr 18) rfl dvok_18 q2079 q2080 q159 dX1_reviews_0, m_new⟩ (
  lkp_c (P := OkP 200) ⟨(PuOK.ok (ok_dup dX1_reviews_3)), m_dup⟩ (
  lkp_c (P := OkP 200) ⟨(PuOK.ok (ok_bipush dX1_reviews_4 rfl)), m_push⟩ (
  lkp_c (P := OkP 200) ⟨ok_new (ci := 19) (r := CLr 19) rfl dvok_19 q2081 q2082 q160 dX1_reviews_6, m_new⟩ (
  lkp_c (P := OkP 200) ⟨(PuOK.ok (ok_dup dX1_reviews_9)), m_dup⟩ (
  lkp_c (P := OkP 200) ⟨(PuOK.ok (ok_aload_n dX1_reviews_10 rfl)), m_aload⟩ (
  lkp_c (P := OkP 200) ⟨ok_get ⟨"TollRoad", q664, Or.inl rfl⟩ dX1_reviews_11, m_get⟩ (
  lkp_c (P := OkP 200) ⟨ok_ci (tg_I (rt := none) ⟨rfl, by decide⟩ rfl q2083 q2084 q160 q2085 ⟨cn_45.1, cn_45.2, pd_88⟩ dX1_reviews_14) hd_no, m_ci⟩ (
  lkp_c (P := OkP 200) ⟨ok_ci (tg_I (rt := none) ⟨rfl, by decide⟩ rfl q2091 q2092 q159 q2093 ⟨cn_24.1, cn_24.2, pd_89⟩ dX1_reviews_17) hd_no, m_ci⟩ (
  lkp_c (P := OkP 200) ⟨(PuOK.ok (ok_astore_n dX1_reviews_20 rfl)), m_astore⟩ (
  lkp_c (P := OkP 200) ⟨(PuOK.ok (ok_aload_n dX1_reviews_21 rfl)), m_aload⟩ (
  lkp_c (P := OkP 200) ⟨ok_get ⟨"TollRoad", q664, Or.inl rfl⟩ dX1_reviews_22, m_get⟩ (
  lkp_c (P := OkP 200) ⟨ok_getN ⟨"TollRoad$World", "TollRoad", q642, Or.inl rfl⟩ dX1_reviews_25, m_get⟩ (
  lkp_c (P := OkP 200) ⟨ok_cv (List.forall_mem_cons.mpr ⟨tg_V (ci := 3) (r := CLr 3) (y := 40) rfl ⟨rfl, by decide⟩ rfl q688 q689 q690 q120 q691 ⟨cn_15.1, cn_15.2, pd_70⟩ dX1_reviews_28, (List.forall_mem_nil _)⟩) hd_no, m_cv⟩ (
  lkp_c (P := OkP 200) ⟨(PuOK.ok (ok_astore_n dX1_reviews_31 rfl)), m_astore⟩ (
  lkp_c (P := OkP 200) ⟨(PuOK.ok (ok_aload_n dX1_reviews_32 rfl)), m_aload⟩ (
  lkp_c (P := OkP 200) ⟨ok_cv (List.forall_mem_cons.mpr ⟨tg_F (ci := 7) (r := CLr 7) (y := 50) rfl ⟨rfl, by decide⟩ q712 q716 q718 q150 q720 q714 q713 q719 q717 q715 ⟨cn_37.1, cn_37.2, pd_50⟩ dX1_reviews_33, (List.forall_mem_cons.mpr ⟨tg_F (ci := 24) (r := CLr 24) (y := 86) rfl ⟨rfl, by decide⟩ q712 q722 q724 q168 q726 q714 q713 q725 q723 q721 ⟨cn_37.1, cn_37.2, pd_50⟩ dX1_reviews_33, (List.forall_mem_cons.mpr ⟨tg_F (ci := 25) (r := CLr 25) (y := 92) rfl ⟨rfl, by decide⟩ q712 q738 q740 q171 q742 q714 q713 q741 q739 q737 ⟨cn_37.1, cn_37.2, pd_50⟩ dX1_reviews_33, (List.forall_mem_nil _)⟩)⟩)⟩) hd_no, m_cv⟩ (
  lkp_c (P := OkP 200) ⟨(PuOK.ok (ok_if_eq dX1_reviews_38 rfl)), m_if⟩ (
  lkp_c (P := OkP 200) ⟨(PuOK.ok (ok_aload_n dX1_reviews_41 rfl)), m_aload⟩ (
  lkp_c (P := OkP 200) ⟨ok_cv (List.forall_mem_cons.mpr ⟨tg_F (ci := 7) (r := CLr 7) (y := 51) rfl ⟨rfl, by decide⟩ q744 q747 q749 q150 q751 q746 q745 q750 q748 q715 ⟨cn_37.1, cn_37.2, pd_71⟩ dX1_reviews_42, (List.forall_mem_cons.mpr ⟨tg_F (ci := 24) (r := CLr 24) (y := 89) rfl ⟨rfl, by decide⟩ q744 q756 q758 q169 q760 q746 q745 q759 q757 q721 ⟨cn_37.1, cn_37.2, pd_71⟩ dX1_reviews_42, (List.forall_mem_cons.mpr ⟨tg_F (ci := 25) (r := CLr 25) (y := 95) rfl ⟨rfl, by decide⟩ q744 q790 q792 q172 q794 q746 q745 q793 q791 q737 ⟨cn_37.1, cn_37.2, pd_71⟩ dX1_reviews_42, (List.forall_mem_nil _)⟩)⟩)⟩) hd_no, m_cv⟩ (
  lkp_c (P := OkP 200) ⟨ok_cast q1771 cst_6 dX1_reviews_47, m_cast⟩ (
  lkp_c (P := OkP 200) ⟨(PuOK.ok (ok_astore_n dX1_reviews_50 rfl)), m_astore⟩ (
  lkp_c (P := OkP 200) ⟨(PuOK.ok (ok_aload_n dX1_reviews_51 rfl)), m_aload⟩ (
  lkp_c (P := OkP 200) ⟨ok_getN ⟨"TollRoad$Read", "TollRoad", q2016, Or.inl rfl⟩ dX1_reviews_52, m_get⟩ (
  lkp_c (P := OkP 200) ⟨(PuOK.ok (ok_if_ne dX1_reviews_55 rfl)), m_if⟩ (
  lkp_c (P := OkP 200) ⟨(PuOK.ok (ok_aload_n dX1_reviews_58 rfl)), m_aload⟩ (
  lkp_c (P := OkP 200) ⟨(PuOK.ok (ok_aload_n dX1_reviews_59 rfl)), m_aload⟩ (
  lkp_c (P := OkP 200) ⟨ok_cv (List.forall_mem_cons.mpr ⟨tg_V (ci := 18) (r := CLr 18) (y := 74) rfl ⟨rfl, by decide⟩ rfl q2117 q2118 q2119 q159 q2120 ⟨cn_24.1, cn_24.2, pd_12⟩ dX1_reviews_60, (List.forall_mem_nil _)⟩) hd_no, m_cv⟩ (
  lkp_c (P := OkP 200) ⟨(PuOK.ok (ok_pop dX1_reviews_63)), m_pop⟩ (
  trivial)))))))))))))))))))))))))))))
theorem c_200_1 : LkP (OkP 200) [(64, o_goto 32), (67, o_aload 1 1), (68, o_ret 0)] := lkp_c (P := OkP 200) ⟨(PuOK.ok (ok_goto dX1_reviews_64 rfl)), m_goto⟩ (
  lkp_c (P := OkP 200) ⟨(PuOK.ok (ok_aload_n dX1_reviews_67 rfl)), m_aload⟩ (
  lkp_c (P := OkP 200) ⟨ok_aret rfl (Or.inl ⟨_, rfl⟩) dX1_reviews_68, m_ret⟩ (
  trivial)))
theorem mt_200 : MtOK TB NT IT 200 := ⟨by decide +kernel, rfl, (fun h => by cases h), Or.inl ⟨rfl, rfl⟩, rfl, by decide, lk2_all (P := OkP 200) ⟨c_200_0, c_200_1, trivial⟩⟩
def dkwX1_decide_3 : List UInt8 := [182, 1, 60, 44, 180, 1, 54, 172]
abbrev dktX1_decide_3 : List UInt8 := dkwX1_decide_3 ++ []
def dkwX1_decide_2 : List UInt8 := [2, 160, 0, 11, 44, 5, 181, 0, 162, 167, 0, 18, 44, 16, 100, 181, 1, 57, 42, 180, 0, 19, 44, 27]
abbrev dktX1_decide_2 : List UInt8 := dkwX1_decide_2 ++ dktX1_decide_3
def dkwX1_decide_1 : List UInt8 := [42, 182, 1, 46, 182, 1, 51, 192, 0, 160, 77, 44, 198, 0, 7, 4, 167, 0, 4, 3, 184, 0, 82, 27]
abbrev dktX1_decide_1 : List UInt8 := dkwX1_decide_1 ++ dktX1_decide_2
def dkwX1_decide_0 : List UInt8 := [27, 133, 20, 0, 116, 42, 180, 0, 19, 180, 0, 54, 182, 0, 58, 4, 100, 133, 184, 0, 46, 184, 0, 50]
abbrev dktX1_decide_0 : List UInt8 := dkwX1_decide_0 ++ dktX1_decide_1
theorem dksX1_decide_0 : cX1_decide.data.toList.drop 0 = dktX1_decide_0 := by decide +kernel
theorem dksX1_decide_1 : cX1_decide.data.toList.drop 24 = dktX1_decide_1 := dk_seg dksX1_decide_0 24 rfl rfl
theorem dksX1_decide_2 : cX1_decide.data.toList.drop 48 = dktX1_decide_2 := dk_seg dksX1_decide_1 24 rfl rfl
theorem dksX1_decide_3 : cX1_decide.data.toList.drop 72 = dktX1_decide_3 := dk_seg dksX1_decide_2 24 rfl rfl
theorem dX1_decide_0 : decode cX1_decide 0 = .ok (.iload_n 1, 1) := dk_27 (dk_at dksX1_decide_0 0 rfl rfl)
theorem dX1_decide_1 : decode cX1_decide 1 = .ok (.i2l, 1) := dk_133 (dk_at dksX1_decide_0 1 rfl rfl)
theorem dX1_decide_2 : decode cX1_decide 2 = .ok (.ldc2_w 116, 3) := dk_20 0 116 (dk_at dksX1_decide_0 2 rfl rfl)
theorem dX1_decide_5 : decode cX1_decide 5 = .ok (.aload_n 0, 1) := dk_42 (dk_at dksX1_decide_0 5 rfl rfl)
theorem dX1_decide_6 : decode cX1_decide 6 = .ok (.getfield 19, 3) := dk_180 0 19 (dk_at dksX1_decide_0 6 rfl rfl)
theorem dX1_decide_9 : decode cX1_decide 9 = .ok (.getfield 54, 3) := dk_180 0 54 (dk_at dksX1_decide_0 9 rfl rfl)
theorem dX1_decide_12 : decode cX1_decide 12 = .ok (.invokevirtual 58, 3) := dk_182 0 58 (dk_at dksX1_decide_0 12 rfl rfl)
theorem dX1_decide_15 : decode cX1_decide 15 = .ok (.iconst 1, 1) := dk_4 (dk_at dksX1_decide_0 15 rfl rfl)
theorem dX1_decide_16 : decode cX1_decide 16 = .ok (.isub, 1) := dk_100 (dk_at dksX1_decide_0 16 rfl rfl)
theorem dX1_decide_17 : decode cX1_decide 17 = .ok (.i2l, 1) := dk_133 (dk_at dksX1_decide_0 17 rfl rfl)
theorem dX1_decide_18 : decode cX1_decide 18 = .ok (.invokestatic 46, 3) := dk_184 0 46 (dk_at dksX1_decide_0 18 rfl rfl)
theorem dX1_decide_21 : decode cX1_decide 21 = .ok (.invokestatic 50, 3) := dk_184 0 50 (dk_at dksX1_decide_0 21 rfl rfl)
theorem dX1_decide_24 : decode cX1_decide 24 = .ok (.aload_n 0, 1) := dk_42 (dk_at dksX1_decide_1 0 rfl rfl)
theorem dX1_decide_25 : decode cX1_decide 25 = .ok (.invokevirtual 302, 3) := dk_182 1 46 (dk_at dksX1_decide_1 1 rfl rfl)
theorem dX1_decide_28 : decode cX1_decide 28 = .ok (.invokevirtual 307, 3) := dk_182 1 51 (dk_at dksX1_decide_1 4 rfl rfl)
theorem dX1_decide_31 : decode cX1_decide 31 = .ok (.checkcast 160, 3) := dk_192 0 160 (dk_at dksX1_decide_1 7 rfl rfl)
theorem dX1_decide_34 : decode cX1_decide 34 = .ok (.astore_n 2, 1) := dk_77 (dk_at dksX1_decide_1 10 rfl rfl)
theorem dX1_decide_35 : decode cX1_decide 35 = .ok (.aload_n 2, 1) := dk_44 (dk_at dksX1_decide_1 11 rfl rfl)
theorem dX1_decide_36 : decode cX1_decide 36 = .ok (.ifnull 7, 3) := dk_198 0 7 (dk_at dksX1_decide_1 12 rfl rfl)
theorem dX1_decide_39 : decode cX1_decide 39 = .ok (.iconst 1, 1) := dk_4 (dk_at dksX1_decide_1 15 rfl rfl)
theorem dX1_decide_40 : decode cX1_decide 40 = .ok (.goto 4, 3) := dk_167 0 4 (dk_at dksX1_decide_1 16 rfl rfl)
theorem dX1_decide_43 : decode cX1_decide 43 = .ok (.iconst 0, 1) := dk_3 (dk_at dksX1_decide_1 19 rfl rfl)
theorem dX1_decide_44 : decode cX1_decide 44 = .ok (.invokestatic 82, 3) := dk_184 0 82 (dk_at dksX1_decide_1 20 rfl rfl)
theorem dX1_decide_47 : decode cX1_decide 47 = .ok (.iload_n 1, 1) := dk_27 (dk_at dksX1_decide_1 23 rfl rfl)
theorem dX1_decide_48 : decode cX1_decide 48 = .ok (.iconst (-1), 1) := dk_2 (dk_at dksX1_decide_2 0 rfl rfl)
theorem dX1_decide_49 : decode cX1_decide 49 = .ok (.if_icmp .ne 11, 3) := dk_160 0 11 (dk_at dksX1_decide_2 1 rfl rfl)
theorem dX1_decide_52 : decode cX1_decide 52 = .ok (.aload_n 2, 1) := dk_44 (dk_at dksX1_decide_2 4 rfl rfl)
theorem dX1_decide_53 : decode cX1_decide 53 = .ok (.iconst 2, 1) := dk_5 (dk_at dksX1_decide_2 5 rfl rfl)
theorem dX1_decide_54 : decode cX1_decide 54 = .ok (.putfield 162, 3) := dk_181 0 162 (dk_at dksX1_decide_2 6 rfl rfl)
theorem dX1_decide_57 : decode cX1_decide 57 = .ok (.goto 18, 3) := dk_167 0 18 (dk_at dksX1_decide_2 9 rfl rfl)
theorem dX1_decide_60 : decode cX1_decide 60 = .ok (.aload_n 2, 1) := dk_44 (dk_at dksX1_decide_2 12 rfl rfl)
theorem dX1_decide_61 : decode cX1_decide 61 = .ok (.bipush 100, 2) := dk_16 100 (dk_at dksX1_decide_2 13 rfl rfl)
theorem dX1_decide_63 : decode cX1_decide 63 = .ok (.putfield 313, 3) := dk_181 1 57 (dk_at dksX1_decide_2 15 rfl rfl)
theorem dX1_decide_66 : decode cX1_decide 66 = .ok (.aload_n 0, 1) := dk_42 (dk_at dksX1_decide_2 18 rfl rfl)
theorem dX1_decide_67 : decode cX1_decide 67 = .ok (.getfield 19, 3) := dk_180 0 19 (dk_at dksX1_decide_2 19 rfl rfl)
theorem dX1_decide_70 : decode cX1_decide 70 = .ok (.aload_n 2, 1) := dk_44 (dk_at dksX1_decide_2 22 rfl rfl)
theorem dX1_decide_71 : decode cX1_decide 71 = .ok (.iload_n 1, 1) := dk_27 (dk_at dksX1_decide_2 23 rfl rfl)
theorem dX1_decide_72 : decode cX1_decide 72 = .ok (.invokevirtual 316, 3) := dk_182 1 60 (dk_at dksX1_decide_3 0 rfl rfl)
theorem dX1_decide_75 : decode cX1_decide 75 = .ok (.aload_n 2, 1) := dk_44 (dk_at dksX1_decide_3 3 rfl rfl)
theorem dX1_decide_76 : decode cX1_decide 76 = .ok (.getfield 310, 3) := dk_180 1 54 (dk_at dksX1_decide_3 4 rfl rfl)
theorem dX1_decide_79 : decode cX1_decide 79 = .ok (.ireturn, 1) := dk_172 (dk_at dksX1_decide_3 7 rfl rfl)
theorem c_201_0 : LkP (OkP 201) [(0, o_iload 1 1), (1, o_i2l), (2, o_push 3 (.long (-1))), (5, o_aload 0 1), (6, o_get 0), (9, o_get 10), (12, o_cv [(3, 42)] 0 3 false none), (15, o_push 1 (.int 1)), (16, o_iop (fun x y => x - y)), (17, o_i2l), (18, o_cs 165 3 false none), (21, o_cs 176 1 true none), (24, o_aload 0 1), (25, o_cv [(0, 200)] 0 3 false none), (28, o_cv [(18, 80)] 0 3 false none), (31, o_cast [17]), (34, o_astore 2 1), (35, o_aload 2 1), (36, o_ifnull 43), (39, o_push 1 (.int 1)), (40, o_goto 44), (43, o_push 1 (.int 0)), (44, o_cs 170 1 true none), (47, o_iload 1 1), (48, o_push 1 (.int (-1))), (49, o_icmp (fun x y => decide (¬ x = y)) 60), (52, o_aload 2 1), (53, o_push 1 (.int 2)), (54, o_put 95 1), (57, o_goto 75), (60, o_aload 2 1), (61, o_push 2 (.int 100)), (63, o_put 94 1)] := lkp_c (P := OkP 201) ⟨(PuOK.ok (ok_iload_n dX1_decide_0 rfl)), m_iload⟩ (
  lkp_c (P := OkP 201) ⟨(PuOK.ok (ok_i2l dX1_decide_1)), m_i2l⟩ (
  lkp_c (P := OkP 201) ⟨(PuOK.ok (ok_ldc2 q1734 dX1_decide_2)), m_push⟩ (
  lkp_c (P := OkP 201) ⟨(PuOK.ok (ok_aload_n dX1_decide_5 rfl)), m_aload⟩ (
  lkp_c (P := OkP 201) ⟨ok_get ⟨"TollRoad", q664, Or.inl rfl⟩ dX1_decide_6, m_get⟩ (
  lkp_c (P := OkP 201) ⟨ok_getN ⟨"TollRoad$World", "TollRoad", q639, Or.inl rfl⟩ dX1_decide_9, m_get⟩ (
  lkp_c (P := OkP 201) ⟨ok_cv (List.forall_mem_cons.mpr ⟨tg_V (ci := 3) (r := CLr 3) (y := 42) rfl ⟨rfl, by decide⟩ rfl q1256 q1257 q1258 q120 q1259 ⟨cn_15.1, cn_15.2, pd_13⟩ dX1_decide_12, (List.forall_mem_nil _)⟩) hd_no, m_cv⟩ (
  lkp_c (P := OkP 201) ⟨(PuOK.ok (ok_iconst dX1_decide_15 rfl)), m_push⟩ (
  lkp_c (P := OkP 201) ⟨(PuOK.ok (ok_isub dX1_decide_16)), m_iop⟩ (
  lkp_c (P := OkP 201) ⟨(PuOK.ok (ok_i2l dX1_decide_17)), m_i2l⟩ (
  lkp_c (P := OkP 201) ⟨ok_cs (tg_S ⟨rfl, by decide⟩ q1643 q1284 q115 q1285 ⟨cn_33.1, cn_33.2, pd_74⟩ dX1_decide_18) hd_no, m_cs⟩ (
  lkp_c (P := OkP 201) ⟨ok_cs (tg_S ⟨rfl, by decide⟩ q1691 q1692 q115 q1693 ⟨cn_33.1, cn_33.2, pd_18⟩ dX1_decide_21) hd_no, m_cs⟩ (
  lkp_c (P := OkP 201) ⟨(PuOK.ok (ok_aload_n dX1_decide_24 rfl)), m_aload⟩ (
  lkp_c (P := OkP 201) ⟨ok_cv (List.forall_mem_cons.mpr ⟨tg_V (ci := 0) (r := CLr 0) (y := 200) rfl ⟨rfl, by decide⟩ rfl q2075 q2077 qs22 q115 q2078 ⟨cn_33.1, cn_33.2, pd_87⟩ dX1_decide_25, (List.forall_mem_nil _)⟩) hd_no, m_cv⟩ (
  lkp_c (P := OkP 201) ⟨ok_cv (List.forall_mem_cons.mpr ⟨tg_V (ci := 18) (r := CLr 18) (y := 80) rfl ⟨rfl, by decide⟩ rfl q2188 q2189 q2190 q159 q2191 ⟨cn_24.1, cn_24.2, pd_71⟩ dX1_decide_28, (List.forall_mem_nil _)⟩) hd_no, m_cv⟩ (
  lkp_c (P := OkP 201) ⟨ok_cast q1771 cst_6 dX1_decide_31, m_cast⟩ (
  lkp_c (P := OkP 201) ⟨(PuOK.ok (ok_astore_n dX1_decide_34 rfl)), m_astore⟩ (
  lkp_c (P := OkP 201) ⟨(PuOK.ok (ok_aload_n dX1_decide_35 rfl)), m_aload⟩ (
  lkp_c (P := OkP 201) ⟨(PuOK.ok (ok_ifnull dX1_decide_36 rfl)), m_ifnull⟩ (
  lkp_c (P := OkP 201) ⟨(PuOK.ok (ok_iconst dX1_decide_39 rfl)), m_push⟩ (
  lkp_c (P := OkP 201) ⟨(PuOK.ok (ok_goto dX1_decide_40 rfl)), m_goto⟩ (
  lkp_c (P := OkP 201) ⟨(PuOK.ok (ok_iconst dX1_decide_43 rfl)), m_push⟩ (
  lkp_c (P := OkP 201) ⟨ok_cs (tg_S ⟨rfl, by decide⟩ q1611 q1612 q115 q1613 ⟨cn_33.1, cn_33.2, pd_18⟩ dX1_decide_44) hd_no, m_cs⟩ (
  lkp_c (P := OkP 201) ⟨(PuOK.ok (ok_iload_n dX1_decide_47 rfl)), m_iload⟩ (
  lkp_c (P := OkP 201) ⟨(PuOK.ok (ok_iconst dX1_decide_48 rfl)), m_push⟩ (
  lkp_c (P := OkP 201) ⟨(PuOK.ok (ok_icmp_ne dX1_decide_49 rfl)), m_icmp⟩ (
  lkp_c (P := OkP 201) ⟨(PuOK.ok (ok_aload_n dX1_decide_52 rfl)), m_aload⟩ (
  lkp_c (P := OkP 201) ⟨(PuOK.ok (ok_iconst dX1_decide_53 rfl)), m_push⟩ (
  lkp_c (P := OkP 201) ⟨ok_putN ⟨"TollRoad$Read", "TollRoad", q2016, Or.inl rfl⟩ rfl fd_95 rfl dX1_decide_54, m_put⟩ (
  lkp_c (P := OkP 201) ⟨(PuOK.ok (ok_goto dX1_decide_57 rfl)), m_goto⟩ (
  lkp_c (P := OkP 201) ⟨(PuOK.ok (ok_aload_n dX1_decide_60 rfl)), m_aload⟩ (
  lkp_c (P := OkP 201) ⟨(PuOK.ok (ok_bipush dX1_decide_61 rfl)), m_push⟩ (
  lkp_c (P := OkP 201) ⟨ok_putN ⟨"TollRoad$Read", "TollRoad", q2013, Or.inl rfl⟩ rfl fd_94 rfl dX1_decide_63, m_put⟩ (
  trivial)))))))))))))))))))))))))))))))))
theorem c_201_1 : LkP (OkP 201) [(66, o_aload 0 1), (67, o_get 0), (70, o_aload 2 1), (71, o_iload 1 1), (72, o_cv [(1, 263)] 2 3 true none), (75, o_aload 2 1), (76, o_get 89), (79, o_ret 1)] := lkp_c (P := OkP 201) ⟨(PuOK.ok (ok_aload_n dX1_decide_66 rfl)), m_aload⟩ (
  lkp_c (P := OkP 201) ⟨ok_get ⟨"TollRoad", q664, Or.inl rfl⟩ dX1_decide_67, m_get⟩ (
  lkp_c (P := OkP 201) ⟨(PuOK.ok (ok_aload_n dX1_decide_70 rfl)), m_aload⟩ (
  lkp_c (P := OkP 201) ⟨(PuOK.ok (ok_iload_n dX1_decide_71 rfl)), m_iload⟩ (
  lkp_c (P := OkP 201) ⟨ok_cv (List.forall_mem_cons.mpr ⟨tg_V (ci := 1) (r := CLr 1) (y := 263) rfl ⟨rfl, by decide⟩ rfl q2205 q2041 q2042 q116 q2043 ⟨cn_36.1, cn_36.2, pd_90⟩ dX1_decide_72, (List.forall_mem_nil _)⟩) hd_no, m_cv⟩ (
  lkp_c (P := OkP 201) ⟨(PuOK.ok (ok_aload_n dX1_decide_75 rfl)), m_aload⟩ (
  lkp_c (P := OkP 201) ⟨ok_getN ⟨"TollRoad$Read", "TollRoad", q1996, Or.inl rfl⟩ dX1_decide_76, m_get⟩ (
  lkp_c (P := OkP 201) ⟨ok_iret rfl rfl (by decide) dX1_decide_79, m_ret⟩ (
  trivial))))))))
theorem mt_201 : MtOK TB NT IT 201 := ⟨by decide +kernel, rfl, (fun h => by cases h), Or.inl ⟨rfl, rfl⟩, rfl, by decide, lk2_all (P := OkP 201) ⟨c_201_0, c_201_1, trivial⟩⟩
def dkwX1_correct_2 : List UInt8 := [45, 180, 0, 162, 172]
abbrev dktX1_correct_2 : List UInt8 := dkwX1_correct_2 ++ []
def dkwX1_correct_1 : List UInt8 := [180, 0, 162, 7, 160, 0, 7, 4, 167, 0, 4, 3, 184, 0, 82, 42, 180, 0, 19, 45, 28, 182, 1, 60]
abbrev dktX1_correct_1 : List UInt8 := dkwX1_correct_1 ++ dktX1_correct_2
def dkwX1_correct_0 : List UInt8 := [42, 27, 182, 1, 27, 78, 42, 28, 182, 0, 207, 58, 4, 45, 180, 0, 162, 4, 159, 0, 11, 45]
abbrev dktX1_correct_0 : List UInt8 := dkwX1_correct_0 ++ dktX1_correct_1
theorem dksX1_correct_0 : cX1_correct.data.toList.drop 0 = dktX1_correct_0 := by decide +kernel
theorem dksX1_correct_1 : cX1_correct.data.toList.drop 22 = dktX1_correct_1 := dk_seg dksX1_correct_0 22 rfl rfl
theorem dksX1_correct_2 : cX1_correct.data.toList.drop 46 = dktX1_correct_2 := dk_seg dksX1_correct_1 24 rfl rfl
theorem dX1_correct_0 : decode cX1_correct 0 = .ok (.aload_n 0, 1) := dk_42 (dk_at dksX1_correct_0 0 rfl rfl)
theorem dX1_correct_1 : decode cX1_correct 1 = .ok (.iload_n 1, 1) := dk_27 (dk_at dksX1_correct_0 1 rfl rfl)
theorem dX1_correct_2 : decode cX1_correct 2 = .ok (.invokevirtual 283, 3) := dk_182 1 27 (dk_at dksX1_correct_0 2 rfl rfl)
theorem dX1_correct_5 : decode cX1_correct 5 = .ok (.astore_n 3, 1) := dk_78 (dk_at dksX1_correct_0 5 rfl rfl)
theorem dX1_correct_6 : decode cX1_correct 6 = .ok (.aload_n 0, 1) := dk_42 (dk_at dksX1_correct_0 6 rfl rfl)
theorem dX1_correct_7 : decode cX1_correct 7 = .ok (.iload_n 2, 1) := dk_28 (dk_at dksX1_correct_0 7 rfl rfl)
theorem dX1_correct_8 : decode cX1_correct 8 = .ok (.invokevirtual 207, 3) := dk_182 0 207 (dk_at dksX1_correct_0 8 rfl rfl)
theorem dX1_correct_11 : decode cX1_correct 11 = .ok (.astore 4, 2) := dk_58 4 (dk_at dksX1_correct_0 11 rfl rfl)
theorem dX1_correct_13 : decode cX1_correct 13 = .ok (.aload_n 3, 1) := dk_45 (dk_at dksX1_correct_0 13 rfl rfl)
theorem dX1_correct_14 : decode cX1_correct 14 = .ok (.getfield 162, 3) := dk_180 0 162 (dk_at dksX1_correct_0 14 rfl rfl)
theorem dX1_correct_17 : decode cX1_correct 17 = .ok (.iconst 1, 1) := dk_4 (dk_at dksX1_correct_0 17 rfl rfl)
theorem dX1_correct_18 : decode cX1_correct 18 = .ok (.if_icmp .eq 11, 3) := dk_159 0 11 (dk_at dksX1_correct_0 18 rfl rfl)
theorem dX1_correct_21 : decode cX1_correct 21 = .ok (.aload_n 3, 1) := dk_45 (dk_at dksX1_correct_0 21 rfl rfl)
theorem dX1_correct_22 : decode cX1_correct 22 = .ok (.getfield 162, 3) := dk_180 0 162 (dk_at dksX1_correct_1 0 rfl rfl)
theorem dX1_correct_25 : decode cX1_correct 25 = .ok (.iconst 4, 1) := dk_7 (dk_at dksX1_correct_1 3 rfl rfl)
theorem dX1_correct_26 : decode cX1_correct 26 = .ok (.if_icmp .ne 7, 3) := dk_160 0 7 (dk_at dksX1_correct_1 4 rfl rfl)
theorem dX1_correct_29 : decode cX1_correct 29 = .ok (.iconst 1, 1) := dk_4 (dk_at dksX1_correct_1 7 rfl rfl)
theorem dX1_correct_30 : decode cX1_correct 30 = .ok (.goto 4, 3) := dk_167 0 4 (dk_at dksX1_correct_1 8 rfl rfl)
theorem dX1_correct_33 : decode cX1_correct 33 = .ok (.iconst 0, 1) := dk_3 (dk_at dksX1_correct_1 11 rfl rfl)
theorem dX1_correct_34 : decode cX1_correct 34 = .ok (.invokestatic 82, 3) := dk_184 0 82 (dk_at dksX1_correct_1 12 rfl rfl)
theorem dX1_correct_37 : decode cX1_correct 37 = .ok (.aload_n 0, 1) := dk_42 (dk_at dksX1_correct_1 15 rfl rfl)
theorem dX1_correct_38 : decode cX1_correct 38 = .ok (.getfield 19, 3) := dk_180 0 19 (dk_at dksX1_correct_1 16 rfl rfl)
theorem dX1_correct_41 : decode cX1_correct 41 = .ok (.aload_n 3, 1) := dk_45 (dk_at dksX1_correct_1 19 rfl rfl)
theorem dX1_correct_42 : decode cX1_correct 42 = .ok (.iload_n 2, 1) := dk_28 (dk_at dksX1_correct_1 20 rfl rfl)
theorem dX1_correct_43 : decode cX1_correct 43 = .ok (.invokevirtual 316, 3) := dk_182 1 60 (dk_at dksX1_correct_1 21 rfl rfl)
theorem dX1_correct_46 : decode cX1_correct 46 = .ok (.aload_n 3, 1) := dk_45 (dk_at dksX1_correct_2 0 rfl rfl)
theorem dX1_correct_47 : decode cX1_correct 47 = .ok (.getfield 162, 3) := dk_180 0 162 (dk_at dksX1_correct_2 1 rfl rfl)
theorem dX1_correct_50 : decode cX1_correct 50 = .ok (.ireturn, 1) := dk_172 (dk_at dksX1_correct_2 4 rfl rfl)
theorem c_202_0 : LkP (OkP 202) [(0, o_aload 0 1), (1, o_iload 1 1), (2, o_cv [(0, 198)] 1 3 false none), (5, o_astore 3 1), (6, o_aload 0 1), (7, o_iload 2 1), (8, o_cv [(0, 188)] 1 3 false none), (11, o_astore 4 2), (13, o_aload 3 1), (14, o_get 95), (17, o_push 1 (.int 1)), (18, o_icmp (fun x y => decide (x = y)) 29), (21, o_aload 3 1), (22, o_get 95), (25, o_push 1 (.int 4)), (26, o_icmp (fun x y => decide (¬ x = y)) 33), (29, o_push 1 (.int 1)), (30, o_goto 34), (33, o_push 1 (.int 0)), (34, o_cs 170 1 true none), (37, o_aload 0 1), (38, o_get 0), (41, o_aload 3 1), (42, o_iload 2 1), (43, o_cv [(1, 263)] 2 3 true none), (46, o_aload 3 1), (47, o_get 95), (50, o_ret 1)] := lkp_c (P := OkP 202) ⟨(PuOK.ok (ok_aload_n dX1_correct_0 rfl)), m_aload⟩ (
  lkp_c (P := OkP 202) ⟨(PuOK.ok (ok_iload_n dX1_correct_1 rfl)), m_iload⟩ (
  lkp_c (P := OkP 202) ⟨ok_cv (List.forall_mem_cons.mpr ⟨tg_V (ci := 0) (r := CLr 0) (y := 198) rfl ⟨rfl, by decide⟩ rfl q2060 q2062 qs21 q115 q2063 ⟨cn_33.1, cn_33.2, pd_86⟩ dX1_correct_2, (List.forall_mem_nil _)⟩) hd_no, m_cv⟩ (
  lkp_c (P := OkP 202) ⟨(PuOK.ok (ok_astore_n dX1_correct_5 rfl)), m_astore⟩ (
  lkp_c (P := OkP 202) ⟨(PuOK.ok (ok_aload_n dX1_correct_6 rfl)), m_aload⟩ (
  lkp_c (P := OkP 202) ⟨(PuOK.ok (ok_iload_n dX1_correct_7 rfl)), m_iload⟩ (
  lkp_c (P := OkP 202) ⟨ok_cv (List.forall_mem_cons.mpr ⟨tg_V (ci := 0) (r := CLr 0) (y := 188) rfl ⟨rfl, by decide⟩ rfl q1802 q1804 qs18 q115 q1805 ⟨cn_33.1, cn_33.2, pd_80⟩ dX1_correct_8, (List.forall_mem_nil _)⟩) hd_no, m_cv⟩ (
  lkp_c (P := OkP 202) ⟨(PuOK.ok (ok_astore dX1_correct_11)), m_astore⟩ (
  lkp_c (P := OkP 202) ⟨(PuOK.ok (ok_aload_n dX1_correct_13 rfl)), m_aload⟩ (
  lkp_c (P := OkP 202) ⟨ok_getN ⟨"TollRoad$Read", "TollRoad", q2016, Or.inl rfl⟩ dX1_correct_14, m_get⟩ (
  lkp_c (P := OkP 202) ⟨(PuOK.ok (ok_iconst dX1_correct_17 rfl)), m_push⟩ (
  lkp_c (P := OkP 202) ⟨(PuOK.ok (ok_icmp_eq dX1_correct_18 rfl)), m_icmp⟩ (
  lkp_c (P := OkP 202) ⟨(PuOK.ok (ok_aload_n dX1_correct_21 rfl)), m_aload⟩ (
  lkp_c (P := OkP 202) ⟨ok_getN ⟨"TollRoad$Read", "TollRoad", q2016, Or.inl rfl⟩ dX1_correct_22, m_get⟩ (
  lkp_c (P := OkP 202) ⟨(PuOK.ok (ok_iconst dX1_correct_25 rfl)), m_push⟩ (
  lkp_c (P := OkP 202) ⟨(PuOK.ok (ok_icmp_ne dX1_correct_26 rfl)), m_icmp⟩ (
  lkp_c (P := OkP 202) ⟨(PuOK.ok (ok_iconst dX1_correct_29 rfl)), m_push⟩ (
  lkp_c (P := OkP 202) ⟨(PuOK.ok (ok_goto dX1_correct_30 rfl)), m_goto⟩ (
  lkp_c (P := OkP 202) ⟨(PuOK.ok (ok_iconst dX1_correct_33 rfl)), m_push⟩ (
  lkp_c (P := OkP 202) ⟨ok_cs (tg_S ⟨rfl, by decide⟩ q1611 q1612 q115 q1613 ⟨cn_33.1, cn_33.2, pd_18⟩ dX1_correct_34) hd_no, m_cs⟩ (
  lkp_c (P := OkP 202) ⟨(PuOK.ok (ok_aload_n dX1_correct_37 rfl)), m_aload⟩ (
  lkp_c (P := OkP 202) ⟨ok_get ⟨"TollRoad", q664, Or.inl rfl⟩ dX1_correct_38, m_get⟩ (
  lkp_c (P := OkP 202) ⟨(PuOK.ok (ok_aload_n dX1_correct_41 rfl)), m_aload⟩ (
  lkp_c (P := OkP 202) ⟨(PuOK.ok (ok_iload_n dX1_correct_42 rfl)), m_iload⟩ (
  lkp_c (P := OkP 202) ⟨ok_cv (List.forall_mem_cons.mpr ⟨tg_V (ci := 1) (r := CLr 1) (y := 263) rfl ⟨rfl, by decide⟩ rfl q2205 q2041 q2042 q116 q2043 ⟨cn_36.1, cn_36.2, pd_90⟩ dX1_correct_43, (List.forall_mem_nil _)⟩) hd_no, m_cv⟩ (
  lkp_c (P := OkP 202) ⟨(PuOK.ok (ok_aload_n dX1_correct_46 rfl)), m_aload⟩ (
  lkp_c (P := OkP 202) ⟨ok_getN ⟨"TollRoad$Read", "TollRoad", q2016, Or.inl rfl⟩ dX1_correct_47, m_get⟩ (
  lkp_c (P := OkP 202) ⟨ok_iret rfl rfl (by decide) dX1_correct_50, m_ret⟩ (
  trivial))))))))))))))))))))))))))))
theorem mt_202 : MtOK TB NT IT 202 := ⟨by decide +kernel, rfl, (fun h => by cases h), Or.inl ⟨rfl, rfl⟩, rfl, by decide, lk2_all (P := OkP 202) ⟨c_202_0, trivial⟩⟩
def dkwX1_trips_0 : List UInt8 := [42, 27, 182, 0, 207, 77, 42, 180, 0, 19, 27, 182, 1, 64, 182, 0, 58, 172]
abbrev dktX1_trips_0 : List UInt8 := dkwX1_trips_0 ++ []
theorem dksX1_trips_0 : cX1_trips.data.toList.drop 0 = dktX1_trips_0 := by decide +kernel
theorem dX1_trips_0 : decode cX1_trips 0 = .ok (.aload_n 0, 1) := dk_42 (dk_at dksX1_trips_0 0 rfl rfl)
theorem dX1_trips_1 : decode cX1_trips 1 = .ok (.iload_n 1, 1) := dk_27 (dk_at dksX1_trips_0 1 rfl rfl)
theorem dX1_trips_2 : decode cX1_trips 2 = .ok (.invokevirtual 207, 3) := dk_182 0 207 (dk_at dksX1_trips_0 2 rfl rfl)
theorem dX1_trips_5 : decode cX1_trips 5 = .ok (.astore_n 2, 1) := dk_77 (dk_at dksX1_trips_0 5 rfl rfl)
theorem dX1_trips_6 : decode cX1_trips 6 = .ok (.aload_n 0, 1) := dk_42 (dk_at dksX1_trips_0 6 rfl rfl)
theorem dX1_trips_7 : decode cX1_trips 7 = .ok (.getfield 19, 3) := dk_180 0 19 (dk_at dksX1_trips_0 7 rfl rfl)
theorem dX1_trips_10 : decode cX1_trips 10 = .ok (.iload_n 1, 1) := dk_27 (dk_at dksX1_trips_0 10 rfl rfl)
theorem dX1_trips_11 : decode cX1_trips 11 = .ok (.invokevirtual 320, 3) := dk_182 1 64 (dk_at dksX1_trips_0 11 rfl rfl)
theorem dX1_trips_14 : decode cX1_trips 14 = .ok (.invokevirtual 58, 3) := dk_182 0 58 (dk_at dksX1_trips_0 14 rfl rfl)
theorem dX1_trips_17 : decode cX1_trips 17 = .ok (.ireturn, 1) := dk_172 (dk_at dksX1_trips_0 17 rfl rfl)
theorem c_203_0 : LkP (OkP 203) [(0, o_aload 0 1), (1, o_iload 1 1), (2, o_cv [(0, 188)] 1 3 false none), (5, o_astore 2 1), (6, o_aload 0 1), (7, o_get 0), (10, o_iload 1 1), (11, o_cv [(1, 264)] 1 3 false none), (14, o_cv [(3, 42)] 0 3 false none), (17, o_ret 1)] := lkp_c (P := OkP 203) ⟨(PuOK.ok (ok_aload_n dX1_trips_0 rfl)), m_aload⟩ (
  lkp_c (P := OkP 203) ⟨(PuOK.ok (ok_iload_n dX1_trips_1 rfl)), m_iload⟩ (
  lkp_c (P := OkP 203) ⟨ok_cv (List.forall_mem_cons.mpr ⟨tg_V (ci := 0) (r := CLr 0) (y := 188) rfl ⟨rfl, by decide⟩ rfl q1802 q1804 qs18 q115 q1805 ⟨cn_33.1, cn_33.2, pd_80⟩ dX1_trips_2, (List.forall_mem_nil _)⟩) hd_no, m_cv⟩ (
  lkp_c (P := OkP 203) ⟨(PuOK.ok (ok_astore_n dX1_trips_5 rfl)), m_astore⟩ (
  lkp_c (P := OkP 203) ⟨(PuOK.ok (ok_aload_n dX1_trips_6 rfl)), m_aload⟩ (
  lkp_c (P := OkP 203) ⟨ok_get ⟨"TollRoad", q664, Or.inl rfl⟩ dX1_trips_7, m_get⟩ (
  lkp_c (P := OkP 203) ⟨(PuOK.ok (ok_iload_n dX1_trips_10 rfl)), m_iload⟩ (
  lkp_c (P := OkP 203) ⟨ok_cv (List.forall_mem_cons.mpr ⟨tg_V (ci := 1) (r := CLr 1) (y := 264) rfl ⟨rfl, by decide⟩ rfl q2220 q2221 q2222 q116 q2223 ⟨cn_36.1, cn_36.2, pd_91⟩ dX1_trips_11, (List.forall_mem_nil _)⟩) hd_no, m_cv⟩ (
  lkp_c (P := OkP 203) ⟨ok_cv (List.forall_mem_cons.mpr ⟨tg_V (ci := 3) (r := CLr 3) (y := 42) rfl ⟨rfl, by decide⟩ rfl q1256 q1257 q1258 q120 q1259 ⟨cn_15.1, cn_15.2, pd_13⟩ dX1_trips_14, (List.forall_mem_nil _)⟩) hd_no, m_cv⟩ (
  lkp_c (P := OkP 203) ⟨ok_iret rfl rfl (by decide) dX1_trips_17, m_ret⟩ (
  trivial))))))))))
theorem mt_203 : MtOK TB NT IT 203 := ⟨by decide +kernel, rfl, (fun h => by cases h), Or.inl ⟨rfl, rfl⟩, rfl, by decide, lk2_all (P := OkP 203) ⟨c_203_0, trivial⟩⟩
def dkwX1_trip_4 : List UInt8 := [172, 25, 4, 182, 1, 89, 172]
abbrev dktX1_trip_4 : List UInt8 := dkwX1_trip_4 ++ []
def dkwX1_trip_3 : List UInt8 := [180, 1, 81, 182, 0, 58, 172, 25, 4, 180, 1, 83, 172, 25, 4, 182, 1, 86, 172, 25, 4, 180, 1, 88]
abbrev dktX1_trip_3 : List UInt8 := dkwX1_trip_3 ++ dktX1_trip_4
def dkwX1_trip_2 : List UInt8 := [25, 4, 182, 1, 74, 172, 25, 4, 182, 1, 77, 172, 25, 4, 180, 1, 80, 182, 0, 58, 172, 25, 4]
abbrev dktX1_trip_2 : List UInt8 := dkwX1_trip_2 ++ dktX1_trip_3
def dkwX1_trip_1 : List UInt8 := [170, 0, 0, 0, 0, 0, 91, 0, 0, 0, 0, 0, 0, 0, 6, 0, 0, 0, 43, 0, 0, 0, 49, 0, 0, 0, 55, 0, 0, 0, 64, 0, 0, 0, 73, 0, 0, 0, 79, 0, 0, 0, 85]
abbrev dktX1_trip_1 : List UInt8 := dkwX1_trip_1 ++ dktX1_trip_2
def dkwX1_trip_0 : List UInt8 := [42, 27, 28, 182, 1, 70, 58, 4, 29, 133, 9, 20, 0, 127, 184, 0, 46, 184, 0, 79, 29]
abbrev dktX1_trip_0 : List UInt8 := dkwX1_trip_0 ++ dktX1_trip_1
theorem dksX1_trip_0 : cX1_trip.data.toList.drop 0 = dktX1_trip_0 := by decide +kernel
theorem dksX1_trip_1 : cX1_trip.data.toList.drop 21 = dktX1_trip_1 := dk_seg dksX1_trip_0 21 rfl rfl
theorem dksX1_trip_2 : cX1_trip.data.toList.drop 64 = dktX1_trip_2 := dk_seg dksX1_trip_1 43 rfl rfl
theorem dksX1_trip_3 : cX1_trip.data.toList.drop 87 = dktX1_trip_3 := dk_seg dksX1_trip_2 23 rfl rfl
theorem dksX1_trip_4 : cX1_trip.data.toList.drop 111 = dktX1_trip_4 := dk_seg dksX1_trip_3 24 rfl rfl
theorem dX1_trip_0 : decode cX1_trip 0 = .ok (.aload_n 0, 1) := dk_42 (dk_at dksX1_trip_0 0 rfl rfl)
theorem dX1_trip_1 : decode cX1_trip 1 = .ok (.iload_n 1, 1) := dk_27 (dk_at dksX1_trip_0 1 rfl rfl)
theorem dX1_trip_2 : decode cX1_trip 2 = .ok (.iload_n 2, 1) := dk_28 (dk_at dksX1_trip_0 2 rfl rfl)
theorem dX1_trip_3 : decode cX1_trip 3 = .ok (.invokevirtual 326, 3) := dk_182 1 70 (dk_at dksX1_trip_0 3 rfl rfl)
theorem dX1_trip_6 : decode cX1_trip 6 = .ok (.astore 4, 2) := dk_58 4 (dk_at dksX1_trip_0 6 rfl rfl)
theorem dX1_trip_8 : decode cX1_trip 8 = .ok (.iload_n 3, 1) := dk_29 (dk_at dksX1_trip_0 8 rfl rfl)
theorem dX1_trip_9 : decode cX1_trip 9 = .ok (.i2l, 1) := dk_133 (dk_at dksX1_trip_0 9 rfl rfl)
theorem dX1_trip_10 : decode cX1_trip 10 = .ok (.lconst 0, 1) := dk_9 (dk_at dksX1_trip_0 10 rfl rfl)
theorem dX1_trip_11 : decode cX1_trip 11 = .ok (.ldc2_w 127, 3) := dk_20 0 127 (dk_at dksX1_trip_0 11 rfl rfl)
theorem dX1_trip_14 : decode cX1_trip 14 = .ok (.invokestatic 46, 3) := dk_184 0 46 (dk_at dksX1_trip_0 14 rfl rfl)
theorem dX1_trip_17 : decode cX1_trip 17 = .ok (.invokestatic 79, 3) := dk_184 0 79 (dk_at dksX1_trip_0 17 rfl rfl)
theorem dX1_trip_20 : decode cX1_trip 20 = .ok (.iload_n 3, 1) := dk_29 (dk_at dksX1_trip_0 20 rfl rfl)
theorem dX1_trip_21 : decode cX1_trip 21 = .ok (.tableswitch 91 0 6 #[43, 49, 55, 64, 73, 79, 85], 43) := by decide +kernel
theorem dX1_trip_64 : decode cX1_trip 64 = .ok (.aload 4, 2) := dk_25 4 (dk_at dksX1_trip_2 0 rfl rfl)
theorem dX1_trip_66 : decode cX1_trip 66 = .ok (.invokevirtual 330, 3) := dk_182 1 74 (dk_at dksX1_trip_2 2 rfl rfl)
theorem dX1_trip_69 : decode cX1_trip 69 = .ok (.ireturn, 1) := dk_172 (dk_at dksX1_trip_2 5 rfl rfl)
theorem dX1_trip_70 : decode cX1_trip 70 = .ok (.aload 4, 2) := dk_25 4 (dk_at dksX1_trip_2 6 rfl rfl)
theorem dX1_trip_72 : decode cX1_trip 72 = .ok (.invokevirtual 333, 3) := dk_182 1 77 (dk_at dksX1_trip_2 8 rfl rfl)
theorem dX1_trip_75 : decode cX1_trip 75 = .ok (.ireturn, 1) := dk_172 (dk_at dksX1_trip_2 11 rfl rfl)
theorem dX1_trip_76 : decode cX1_trip 76 = .ok (.aload 4, 2) := dk_25 4 (dk_at dksX1_trip_2 12 rfl rfl)
theorem dX1_trip_78 : decode cX1_trip 78 = .ok (.getfield 336, 3) := dk_180 1 80 (dk_at dksX1_trip_2 14 rfl rfl)
theorem dX1_trip_81 : decode cX1_trip 81 = .ok (.invokevirtual 58, 3) := dk_182 0 58 (dk_at dksX1_trip_2 17 rfl rfl)
theorem dX1_trip_84 : decode cX1_trip 84 = .ok (.ireturn, 1) := dk_172 (dk_at dksX1_trip_2 20 rfl rfl)
theorem dX1_trip_85 : decode cX1_trip 85 = .ok (.aload 4, 2) := dk_25 4 (dk_at dksX1_trip_2 21 rfl rfl)
theorem dX1_trip_87 : decode cX1_trip 87 = .ok (.getfield 337, 3) := dk_180 1 81 (dk_at dksX1_trip_3 0 rfl rfl)
theorem dX1_trip_90 : decode cX1_trip 90 = .ok (.invokevirtual 58, 3) := dk_182 0 58 (dk_at dksX1_trip_3 3 rfl rfl)
theorem dX1_trip_93 : decode cX1_trip 93 = .ok (.ireturn, 1) := dk_172 (dk_at dksX1_trip_3 6 rfl rfl)
theorem dX1_trip_94 : decode cX1_trip 94 = .ok (.aload 4, 2) := dk_25 4 (dk_at dksX1_trip_3 7 rfl rfl)
theorem dX1_trip_96 : decode cX1_trip 96 = .ok (.getfield 339, 3) := dk_180 1 83 (dk_at dksX1_trip_3 9 rfl rfl)
theorem dX1_trip_99 : decode cX1_trip 99 = .ok (.ireturn, 1) := dk_172 (dk_at dksX1_trip_3 12 rfl rfl)
theorem dX1_trip_100 : decode cX1_trip 100 = .ok (.aload 4, 2) := dk_25 4 (dk_at dksX1_trip_3 13 rfl rfl)
theorem dX1_trip_102 : decode cX1_trip 102 = .ok (.invokevirtual 342, 3) := dk_182 1 86 (dk_at dksX1_trip_3 15 rfl rfl)
theorem dX1_trip_105 : decode cX1_trip 105 = .ok (.ireturn, 1) := dk_172 (dk_at dksX1_trip_3 18 rfl rfl)
theorem dX1_trip_106 : decode cX1_trip 106 = .ok (.aload 4, 2) := dk_25 4 (dk_at dksX1_trip_3 19 rfl rfl)
theorem dX1_trip_108 : decode cX1_trip 108 = .ok (.getfield 344, 3) := dk_180 1 88 (dk_at dksX1_trip_3 21 rfl rfl)
theorem dX1_trip_111 : decode cX1_trip 111 = .ok (.ireturn, 1) := dk_172 (dk_at dksX1_trip_4 0 rfl rfl)
theorem dX1_trip_112 : decode cX1_trip 112 = .ok (.aload 4, 2) := dk_25 4 (dk_at dksX1_trip_4 1 rfl rfl)
theorem dX1_trip_114 : decode cX1_trip 114 = .ok (.invokevirtual 345, 3) := dk_182 1 89 (dk_at dksX1_trip_4 3 rfl rfl)
theorem dX1_trip_117 : decode cX1_trip 117 = .ok (.ireturn, 1) := dk_172 (dk_at dksX1_trip_4 6 rfl rfl)
theorem c_204_0 : LkP (OkP 204) [(0, o_aload 0 1), (1, o_iload 1 1), (2, o_iload 2 1), (3, o_cv [(0, 205)] 2 3 false none), (6, o_astore 4 2), (8, o_iload 3 1), (9, o_i2l), (10, o_push 1 (.long 0)), (11, o_push 3 (.long 7)), (14, o_cs 165 3 false none), (17, o_cs 172 1 true none), (20, o_iload 3 1), (21, o_sw (swt 0 [64, 70, 76, 85, 94, 100, 106] 112))] := lkp_c (P := OkP 204) ⟨(PuOK.ok (ok_aload_n dX1_trip_0 rfl)), m_aload⟩ (
  lkp_c (P := OkP 204) ⟨(PuOK.ok (ok_iload_n dX1_trip_1 rfl)), m_iload⟩ (
  lkp_c (P := OkP 204) ⟨(PuOK.ok (ok_iload_n dX1_trip_2 rfl)), m_iload⟩ (
  lkp_c (P := OkP 204) ⟨ok_cv (List.forall_mem_cons.mpr ⟨tg_V (ci := 0) (r := CLr 0) (y := 205) rfl ⟨rfl, by decide⟩ rfl q2529 q2531 qs32 q115 q2532 ⟨cn_33.1, cn_33.2, pd_92⟩ dX1_trip_3, (List.forall_mem_nil _)⟩) hd_no, m_cv⟩ (
  lkp_c (P := OkP 204) ⟨(PuOK.ok (ok_astore dX1_trip_6)), m_astore⟩ (
  lkp_c (P := OkP 204) ⟨(PuOK.ok (ok_iload_n dX1_trip_8 rfl)), m_iload⟩ (
  lkp_c (P := OkP 204) ⟨(PuOK.ok (ok_i2l dX1_trip_9)), m_i2l⟩ (
  lkp_c (P := OkP 204) ⟨(PuOK.ok (ok_lconst dX1_trip_10 rfl)), m_push⟩ (
  lkp_c (P := OkP 204) ⟨(PuOK.ok (ok_ldc2 q1744 dX1_trip_11)), m_push⟩ (
  lkp_c (P := OkP 204) ⟨ok_cs (tg_S ⟨rfl, by decide⟩ q1643 q1284 q115 q1285 ⟨cn_33.1, cn_33.2, pd_74⟩ dX1_trip_14) hd_no, m_cs⟩ (
  lkp_c (P := OkP 204) ⟨ok_cs (tg_S ⟨rfl, by decide⟩ q1644 q1645 q115 q1646 ⟨cn_33.1, cn_33.2, pd_18⟩ dX1_trip_17) hd_no, m_cs⟩ (
  lkp_c (P := OkP 204) ⟨(PuOK.ok (ok_iload_n dX1_trip_20 rfl)), m_iload⟩ (
  lkp_c (P := OkP 204) ⟨(PuOK.ok (ok_tsw dX1_trip_21 (by decide +kernel))), m_sw⟩ (
  trivial)))))))))))))
theorem c_204_1 : LkP (OkP 204) [(64, o_aload 4 2), (66, o_cv [(26, 244)] 0 3 false none), (69, o_ret 1), (70, o_aload 4 2), (72, o_cv [(26, 245)] 0 3 false none), (75, o_ret 1), (76, o_aload 4 2), (78, o_get 127), (81, o_cv [(3, 42)] 0 3 false none), (84, o_ret 1), (85, o_aload 4 2), (87, o_get 128), (90, o_cv [(3, 42)] 0 3 false none), (93, o_ret 1), (94, o_aload 4 2), (96, o_get 130), (99, o_ret 1), (100, o_aload 4 2), (102, o_cv [(26, 246)] 0 3 false none), (105, o_ret 1), (106, o_aload 4 2), (108, o_get 132), (111, o_ret 1), (112, o_aload 4 2), (114, o_cv [(26, 247)] 0 3 false none), (117, o_ret 1)] := lkp_c (P := OkP 204) ⟨(PuOK.ok (ok_aload dX1_trip_64)), m_aload⟩ (
  lkp_c (P := OkP 204) ⟨ok_cv (List.forall_mem_cons.mpr ⟨tg_V (ci := 26) (r := CLr 26) (y := 244) rfl ⟨rfl, by decide⟩ rfl q2534 q2535 q2536 q173 q2537 ⟨cn_46.1, cn_46.2, pd_13⟩ dX1_trip_66, (List.forall_mem_nil _)⟩) hd_no, m_cv⟩ (
  lkp_c (P := OkP 204) ⟨ok_iret rfl rfl (by decide) dX1_trip_69, m_ret⟩ (
  lkp_c (P := OkP 204) ⟨(PuOK.ok (ok_aload dX1_trip_70)), m_aload⟩ (
  lkp_c (P := OkP 204) ⟨ok_cv (List.forall_mem_cons.mpr ⟨tg_V (ci := 26) (r := CLr 26) (y := 245) rfl ⟨rfl, by decide⟩ rfl q2540 q2541 q2542 q173 q2543 ⟨cn_46.1, cn_46.2, pd_13⟩ dX1_trip_72, (List.forall_mem_nil _)⟩) hd_no, m_cv⟩ (
  lkp_c (P := OkP 204) ⟨ok_iret rfl rfl (by decide) dX1_trip_75, m_ret⟩ (
  lkp_c (P := OkP 204) ⟨(PuOK.ok (ok_aload dX1_trip_76)), m_aload⟩ (
  lkp_c (P := OkP 204) ⟨ok_getN ⟨"TollRoad$Trip", "TollRoad", q2496, Or.inl rfl⟩ dX1_trip_78, m_get⟩ (
  lkp_c (P := OkP 204) ⟨ok_cv (List.forall_mem_cons.mpr ⟨tg_V (ci := 3) (r := CLr 3) (y := 42) rfl ⟨rfl, by decide⟩ rfl q1256 q1257 q1258 q120 q1259 ⟨cn_15.1, cn_15.2, pd_13⟩ dX1_trip_81, (List.forall_mem_nil _)⟩) hd_no, m_cv⟩ (
  lkp_c (P := OkP 204) ⟨ok_iret rfl rfl (by decide) dX1_trip_84, m_ret⟩ (
  lkp_c (P := OkP 204) ⟨(PuOK.ok (ok_aload dX1_trip_85)), m_aload⟩ (
  lkp_c (P := OkP 204) ⟨ok_getN ⟨"TollRoad$Trip", "TollRoad", q2499, Or.inl rfl⟩ dX1_trip_87, m_get⟩ (
  lkp_c (P := OkP 204) ⟨ok_cv (List.forall_mem_cons.mpr ⟨tg_V (ci := 3) (r := CLr 3) (y := 42) rfl ⟨rfl, by decide⟩ rfl q1256 q1257 q1258 q120 q1259 ⟨cn_15.1, cn_15.2, pd_13⟩ dX1_trip_90, (List.forall_mem_nil _)⟩) hd_no, m_cv⟩ (
  lkp_c (P := OkP 204) ⟨ok_iret rfl rfl (by decide) dX1_trip_93, m_ret⟩ (
  lkp_c (P := OkP 204) ⟨(PuOK.ok (ok_aload dX1_trip_94)), m_aload⟩ (
  lkp_c (P := OkP 204) ⟨ok_getN ⟨"TollRoad$Trip", "TollRoad", q2503, Or.inl rfl⟩ dX1_trip_96, m_get⟩ (
  lkp_c (P := OkP 204) ⟨ok_iret rfl rfl (by decide) dX1_trip_99, m_ret⟩ (
  lkp_c (P := OkP 204) ⟨(PuOK.ok (ok_aload dX1_trip_100)), m_aload⟩ (
  lkp_c (P := OkP 204) ⟨ok_cv (List.forall_mem_cons.mpr ⟨tg_V (ci := 26) (r := CLr 26) (y := 246) rfl ⟨rfl, by decide⟩ rfl q2545 q2546 q2547 q173 q2548 ⟨cn_46.1, cn_46.2, pd_13⟩ dX1_trip_102, (List.forall_mem_nil _)⟩) hd_no, m_cv⟩ (
  lkp_c (P := OkP 204) ⟨ok_iret rfl rfl (by decide) dX1_trip_105, m_ret⟩ (
  lkp_c (P := OkP 204) ⟨(PuOK.ok (ok_aload dX1_trip_106)), m_aload⟩ (
  lkp_c (P := OkP 204) ⟨ok_getN ⟨"TollRoad$Trip", "TollRoad", q2506, Or.inl rfl⟩ dX1_trip_108, m_get⟩ (
  lkp_c (P := OkP 204) ⟨ok_iret rfl rfl (by decide) dX1_trip_111, m_ret⟩ (
  lkp_c (P := OkP 204) ⟨(PuOK.ok (ok_aload dX1_trip_112)), m_aload⟩ (
  lkp_c (P := OkP 204) ⟨ok_cv (List.forall_mem_cons.mpr ⟨tg_V (ci := 26) (r := CLr 26) (y := 247) rfl ⟨rfl, by decide⟩ rfl q2549 q2550 q2551 q173 q2552 ⟨cn_46.1, cn_46.2, pd_13⟩ dX1_trip_114, (List.forall_mem_nil _)⟩) hd_no, m_cv⟩ (
  lkp_c (P := OkP 204) ⟨ok_iret rfl rfl (by decide) dX1_trip_117, m_ret⟩ (
  trivial))))))))))))))))))))))))))
theorem mt_204 : MtOK TB NT IT 204 := ⟨by decide +kernel, rfl, (fun h => by cases h), Or.inl ⟨rfl, rfl⟩, rfl, by decide, lk2_all (P := OkP 204) ⟨c_204_0, c_204_1, trivial⟩⟩
def dkwX1_tripAt_1 : List UInt8 := [4, 100, 133, 184, 0, 46, 184, 0, 50, 25, 4, 28, 182, 0, 64, 192, 1, 68, 176]
abbrev dktX1_tripAt_1 : List UInt8 := dkwX1_tripAt_1 ++ []
def dkwX1_tripAt_0 : List UInt8 := [42, 27, 182, 0, 207, 78, 42, 180, 0, 19, 27, 182, 1, 64, 58, 4, 28, 133, 9, 25, 4, 182, 0, 58]
abbrev dktX1_tripAt_0 : List UInt8 := dkwX1_tripAt_0 ++ dktX1_tripAt_1
theorem dksX1_tripAt_0 : cX1_tripAt.data.toList.drop 0 = dktX1_tripAt_0 := by decide +kernel
theorem dksX1_tripAt_1 : cX1_tripAt.data.toList.drop 24 = dktX1_tripAt_1 := dk_seg dksX1_tripAt_0 24 rfl rfl
theorem dX1_tripAt_0 : decode cX1_tripAt 0 = .ok (.aload_n 0, 1) := dk_42 (dk_at dksX1_tripAt_0 0 rfl rfl)
theorem dX1_tripAt_1 : decode cX1_tripAt 1 = .ok (.iload_n 1, 1) := dk_27 (dk_at dksX1_tripAt_0 1 rfl rfl)
theorem dX1_tripAt_2 : decode cX1_tripAt 2 = .ok (.invokevirtual 207, 3) := dk_182 0 207 (dk_at dksX1_tripAt_0 2 rfl rfl)
theorem dX1_tripAt_5 : decode cX1_tripAt 5 = .ok (.astore_n 3, 1) := dk_78 (dk_at dksX1_tripAt_0 5 rfl rfl)
theorem dX1_tripAt_6 : decode cX1_tripAt 6 = .ok (.aload_n 0, 1) := dk_42 (dk_at dksX1_tripAt_0 6 rfl rfl)
theorem dX1_tripAt_7 : decode cX1_tripAt 7 = .ok (.getfield 19, 3) := dk_180 0 19 (dk_at dksX1_tripAt_0 7 rfl rfl)
theorem dX1_tripAt_10 : decode cX1_tripAt 10 = .ok (.iload_n 1, 1) := dk_27 (dk_at dksX1_tripAt_0 10 rfl rfl)
theorem dX1_tripAt_11 : decode cX1_tripAt 11 = .ok (.invokevirtual 320, 3) := dk_182 1 64 (dk_at dksX1_tripAt_0 11 rfl rfl)
theorem dX1_tripAt_14 : decode cX1_tripAt 14 = .ok (.astore 4, 2) := dk_58 4 (dk_at dksX1_tripAt_0 14 rfl rfl)
theorem dX1_tripAt_16 : decode cX1_tripAt 16 = .ok (.iload_n 2, 1) := dk_28 (dk_at dksX1_tripAt_0 16 rfl rfl)
theorem dX1_tripAt_17 : decode cX1_tripAt 17 = .ok (.i2l, 1) := dk_133 (dk_at dksX1_tripAt_0 17 rfl rfl)
theorem dX1_tripAt_18 : decode cX1_tripAt 18 = .ok (.lconst 0, 1) := dk_9 (dk_at dksX1_tripAt_0 18 rfl rfl)
theorem dX1_tripAt_19 : decode cX1_tripAt 19 = .ok (.aload 4, 2) := dk_25 4 (dk_at dksX1_tripAt_0 19 rfl rfl)
theorem dX1_tripAt_21 : decode cX1_tripAt 21 = .ok (.invokevirtual 58, 3) := dk_182 0 58 (dk_at dksX1_tripAt_0 21 rfl rfl)
theorem dX1_tripAt_24 : decode cX1_tripAt 24 = .ok (.iconst 1, 1) := dk_4 (dk_at dksX1_tripAt_1 0 rfl rfl)
theorem dX1_tripAt_25 : decode cX1_tripAt 25 = .ok (.isub, 1) := dk_100 (dk_at dksX1_tripAt_1 1 rfl rfl)
theorem dX1_tripAt_26 : decode cX1_tripAt 26 = .ok (.i2l, 1) := dk_133 (dk_at dksX1_tripAt_1 2 rfl rfl)
theorem dX1_tripAt_27 : decode cX1_tripAt 27 = .ok (.invokestatic 46, 3) := dk_184 0 46 (dk_at dksX1_tripAt_1 3 rfl rfl)
theorem dX1_tripAt_30 : decode cX1_tripAt 30 = .ok (.invokestatic 50, 3) := dk_184 0 50 (dk_at dksX1_tripAt_1 6 rfl rfl)
theorem dX1_tripAt_33 : decode cX1_tripAt 33 = .ok (.aload 4, 2) := dk_25 4 (dk_at dksX1_tripAt_1 9 rfl rfl)
theorem dX1_tripAt_35 : decode cX1_tripAt 35 = .ok (.iload_n 2, 1) := dk_28 (dk_at dksX1_tripAt_1 11 rfl rfl)
theorem dX1_tripAt_36 : decode cX1_tripAt 36 = .ok (.invokevirtual 64, 3) := dk_182 0 64 (dk_at dksX1_tripAt_1 12 rfl rfl)
theorem dX1_tripAt_39 : decode cX1_tripAt 39 = .ok (.checkcast 324, 3) := dk_192 1 68 (dk_at dksX1_tripAt_1 15 rfl rfl)
theorem dX1_tripAt_42 : decode cX1_tripAt 42 = .ok (.areturn, 1) := dk_176 (dk_at dksX1_tripAt_1 18 rfl rfl)
theorem c_205_0 : LkP (OkP 205) [(0, o_aload 0 1), (1, o_iload 1 1), (2, o_cv [(0, 188)] 1 3 false none), (5, o_astore 3 1), (6, o_aload 0 1), (7, o_get 0), (10, o_iload 1 1), (11, o_cv [(1, 264)] 1 3 false none), (14, o_astore 4 2), (16, o_iload 2 1), (17, o_i2l), (18, o_push 1 (.long 0)), (19, o_aload 4 2), (21, o_cv [(3, 42)] 0 3 false none), (24, o_push 1 (.int 1)), (25, o_iop (fun x y => x - y)), (26, o_i2l), (27, o_cs 165 3 false none), (30, o_cs 176 1 true none), (33, o_aload 4 2), (35, o_iload 2 1), (36, o_cv [(3, 47)] 1 3 false none), (39, o_cast [26]), (42, o_ret 0)] := lkp_c (P := OkP 205) ⟨(PuOK.ok (ok_aload_n dX1_tripAt_0 rfl)), m_aload⟩ (
  lkp_c (P := OkP 205) ⟨(PuOK.ok (ok_iload_n dX1_tripAt_1 rfl)), m_iload⟩ (
  lkp_c (P := OkP 205) ⟨ok_cv (List.forall_mem_cons.mpr ⟨tg_V (ci := 0) (r := CLr 0) (y := 188) rfl ⟨rfl, by decide⟩ rfl q1802 q1804 qs18 q115 q1805 ⟨cn_33.1, cn_33.2, pd_80⟩ dX1_tripAt_2, (List.forall_mem_nil _)⟩) hd_no, m_cv⟩ (
  lkp_c (P := OkP 205) ⟨(PuOK.ok (ok_astore_n dX1_tripAt_5 rfl)), m_astore⟩ (
  lkp_c (P := OkP 205) ⟨(PuOK.ok (ok_aload_n dX1_tripAt_6 rfl)), m_aload⟩ (
  lkp_c (P := OkP 205) ⟨ok_get ⟨"TollRoad", q664, Or.inl rfl⟩ dX1_tripAt_7, m_get⟩ (
  lkp_c (P := OkP 205) ⟨(PuOK.ok (ok_iload_n dX1_tripAt_10 rfl)), m_iload⟩ (
  lkp_c (P := OkP 205) ⟨ok_cv (List.forall_mem_cons.mpr ⟨tg_V (ci := 1) (r := CLr 1) (y := 264) rfl ⟨rfl, by decide⟩ rfl q2220 q2221 q2222 q116 q2223 ⟨cn_36.1, cn_36.2, pd_91⟩ dX1_tripAt_11, (List.forall_mem_nil _)⟩) hd_no, m_cv⟩ (
  lkp_c (P := OkP 205) ⟨(PuOK.ok (ok_astore dX1_tripAt_14)), m_astore⟩ (
  lkp_c (P := OkP 205) ⟨(PuOK.ok (ok_iload_n dX1_tripAt_16 rfl)), m_iload⟩ (
  lkp_c (P := OkP 205) ⟨(PuOK.ok (ok_i2l dX1_tripAt_17)), m_i2l⟩ (
  lkp_c (P := OkP 205) ⟨(PuOK.ok (ok_lconst dX1_tripAt_18 rfl)), m_push⟩ (
  lkp_c (P := OkP 205) ⟨(PuOK.ok (ok_aload dX1_tripAt_19)), m_aload⟩ (
  lkp_c (P := OkP 205) ⟨ok_cv (List.forall_mem_cons.mpr ⟨tg_V (ci := 3) (r := CLr 3) (y := 42) rfl ⟨rfl, by decide⟩ rfl q1256 q1257 q1258 q120 q1259 ⟨cn_15.1, cn_15.2, pd_13⟩ dX1_tripAt_21, (List.forall_mem_nil _)⟩) hd_no, m_cv⟩ (
  lkp_c (P := OkP 205) ⟨(PuOK.ok (ok_iconst dX1_tripAt_24 rfl)), m_push⟩ (
  lkp_c (P := OkP 205) ⟨(PuOK.ok (ok_isub dX1_tripAt_25)), m_iop⟩ (
  lkp_c (P := OkP 205) ⟨(PuOK.ok (ok_i2l dX1_tripAt_26)), m_i2l⟩ (
  lkp_c (P := OkP 205) ⟨ok_cs (tg_S ⟨rfl, by decide⟩ q1643 q1284 q115 q1285 ⟨cn_33.1, cn_33.2, pd_74⟩ dX1_tripAt_27) hd_no, m_cs⟩ (
  lkp_c (P := OkP 205) ⟨ok_cs (tg_S ⟨rfl, by decide⟩ q1691 q1692 q115 q1693 ⟨cn_33.1, cn_33.2, pd_18⟩ dX1_tripAt_30) hd_no, m_cs⟩ (
  lkp_c (P := OkP 205) ⟨(PuOK.ok (ok_aload dX1_tripAt_33)), m_aload⟩ (
  lkp_c (P := OkP 205) ⟨(PuOK.ok (ok_iload_n dX1_tripAt_35 rfl)), m_iload⟩ (
  lkp_c (P := OkP 205) ⟨ok_cv (List.forall_mem_cons.mpr ⟨tg_V (ci := 3) (r := CLr 3) (y := 47) rfl ⟨rfl, by decide⟩ rfl q1806 q1807 q1808 q120 q1809 ⟨cn_15.1, cn_15.2, pd_27⟩ dX1_tripAt_36, (List.forall_mem_nil _)⟩) hd_no, m_cv⟩ (
  lkp_c (P := OkP 205) ⟨ok_cast q2533 cst_8 dX1_tripAt_39, m_cast⟩ (
  lkp_c (P := OkP 205) ⟨ok_aret rfl (Or.inl ⟨_, rfl⟩) dX1_tripAt_42, m_ret⟩ (
  trivial))))))))))))))))))))))))
theorem mt_205 : MtOK TB NT IT 205 := ⟨by decide +kernel, rfl, (fun h => by cases h), Or.inl ⟨rfl, rfl⟩, rfl, by decide, lk2_all (P := OkP 205) ⟨c_205_0, trivial⟩⟩
def dkwX1_tripGantry_1 : List UInt8 := [184, 0, 46, 184, 0, 50, 25, 4, 180, 1, 81, 29, 182, 0, 64, 192, 1, 92, 182, 1, 94, 172]
abbrev dktX1_tripGantry_1 : List UInt8 := dkwX1_tripGantry_1 ++ []
def dkwX1_tripGantry_0 : List UInt8 := [42, 27, 28, 182, 1, 70, 58, 4, 29, 133, 9, 25, 4, 180, 1, 81, 182, 0, 58, 4, 100, 133]
abbrev dktX1_tripGantry_0 : List UInt8 := dkwX1_tripGantry_0 ++ dktX1_tripGantry_1
theorem dksX1_tripGantry_0 : cX1_tripGantry.data.toList.drop 0 = dktX1_tripGantry_0 := by decide +kernel
theorem dksX1_tripGantry_1 : cX1_tripGantry.data.toList.drop 22 = dktX1_tripGantry_1 := dk_seg dksX1_tripGantry_0 22 rfl rfl
theorem dX1_tripGantry_0 : decode cX1_tripGantry 0 = .ok (.aload_n 0, 1) := dk_42 (dk_at dksX1_tripGantry_0 0 rfl rfl)
theorem dX1_tripGantry_1 : decode cX1_tripGantry 1 = .ok (.iload_n 1, 1) := dk_27 (dk_at dksX1_tripGantry_0 1 rfl rfl)
theorem dX1_tripGantry_2 : decode cX1_tripGantry 2 = .ok (.iload_n 2, 1) := dk_28 (dk_at dksX1_tripGantry_0 2 rfl rfl)
theorem dX1_tripGantry_3 : decode cX1_tripGantry 3 = .ok (.invokevirtual 326, 3) := dk_182 1 70 (dk_at dksX1_tripGantry_0 3 rfl rfl)
theorem dX1_tripGantry_6 : decode cX1_tripGantry 6 = .ok (.astore 4, 2) := dk_58 4 (dk_at dksX1_tripGantry_0 6 rfl rfl)
theorem dX1_tripGantry_8 : decode cX1_tripGantry 8 = .ok (.iload_n 3, 1) := dk_29 (dk_at dksX1_tripGantry_0 8 rfl rfl)
theorem dX1_tripGantry_9 : decode cX1_tripGantry 9 = .ok (.i2l, 1) := dk_133 (dk_at dksX1_tripGantry_0 9 rfl rfl)
theorem dX1_tripGantry_10 : decode cX1_tripGantry 10 = .ok (.lconst 0, 1) := dk_9 (dk_at dksX1_tripGantry_0 10 rfl rfl)
theorem dX1_tripGantry_11 : decode cX1_tripGantry 11 = .ok (.aload 4, 2) := dk_25 4 (dk_at dksX1_tripGantry_0 11 rfl rfl)
theorem dX1_tripGantry_13 : decode cX1_tripGantry 13 = .ok (.getfield 337, 3) := dk_180 1 81 (dk_at dksX1_tripGantry_0 13 rfl rfl)
theorem dX1_tripGantry_16 : decode cX1_tripGantry 16 = .ok (.invokevirtual 58, 3) := dk_182 0 58 (dk_at dksX1_tripGantry_0 16 rfl rfl)
theorem dX1_tripGantry_19 : decode cX1_tripGantry 19 = .ok (.iconst 1, 1) := dk_4 (dk_at dksX1_tripGantry_0 19 rfl rfl)
theorem dX1_tripGantry_20 : decode cX1_tripGantry 20 = .ok (.isub, 1) := dk_100 (dk_at dksX1_tripGantry_0 20 rfl rfl)
theorem dX1_tripGantry_21 : decode cX1_tripGantry 21 = .ok (.i2l, 1) := dk_133 (dk_at dksX1_tripGantry_0 21 rfl rfl)
theorem dX1_tripGantry_22 : decode cX1_tripGantry 22 = .ok (.invokestatic 46, 3) := dk_184 0 46 (dk_at dksX1_tripGantry_1 0 rfl rfl)
theorem dX1_tripGantry_25 : decode cX1_tripGantry 25 = .ok (.invokestatic 50, 3) := dk_184 0 50 (dk_at dksX1_tripGantry_1 3 rfl rfl)
theorem dX1_tripGantry_28 : decode cX1_tripGantry 28 = .ok (.aload 4, 2) := dk_25 4 (dk_at dksX1_tripGantry_1 6 rfl rfl)
theorem dX1_tripGantry_30 : decode cX1_tripGantry 30 = .ok (.getfield 337, 3) := dk_180 1 81 (dk_at dksX1_tripGantry_1 8 rfl rfl)
theorem dX1_tripGantry_33 : decode cX1_tripGantry 33 = .ok (.iload_n 3, 1) := dk_29 (dk_at dksX1_tripGantry_1 11 rfl rfl)
theorem dX1_tripGantry_34 : decode cX1_tripGantry 34 = .ok (.invokevirtual 64, 3) := dk_182 0 64 (dk_at dksX1_tripGantry_1 12 rfl rfl)
theorem dX1_tripGantry_37 : decode cX1_tripGantry 37 = .ok (.checkcast 348, 3) := dk_192 1 92 (dk_at dksX1_tripGantry_1 15 rfl rfl)
theorem dX1_tripGantry_40 : decode cX1_tripGantry 40 = .ok (.invokevirtual 350, 3) := dk_182 1 94 (dk_at dksX1_tripGantry_1 18 rfl rfl)
theorem dX1_tripGantry_43 : decode cX1_tripGantry 43 = .ok (.ireturn, 1) := dk_172 (dk_at dksX1_tripGantry_1 21 rfl rfl)
theorem c_206_0 : LkP (OkP 206) [(0, o_aload 0 1), (1, o_iload 1 1), (2, o_iload 2 1), (3, o_cv [(0, 205)] 2 3 false none), (6, o_astore 4 2), (8, o_iload 3 1), (9, o_i2l), (10, o_push 1 (.long 0)), (11, o_aload 4 2), (13, o_get 128), (16, o_cv [(3, 42)] 0 3 false none), (19, o_push 1 (.int 1)), (20, o_iop (fun x y => x - y)), (21, o_i2l), (22, o_cs 165 3 false none), (25, o_cs 176 1 true none), (28, o_aload 4 2), (30, o_get 128), (33, o_iload 3 1), (34, o_cv [(3, 47)] 1 3 false none), (37, o_cast [21]), (40, o_cvs [(21, 21)] 0 3 false), (43, o_ret 1)] := lkp_c (P := OkP 206) ⟨(PuOK.ok (ok_aload_n dX1_tripGantry_0 rfl)), m_aload⟩ (
  lkp_c (P := OkP 206) ⟨(PuOK.ok (ok_iload_n dX1_tripGantry_1 rfl)), m_iload⟩ (
  lkp_c (P := OkP 206) ⟨(PuOK.ok (ok_iload_n dX1_tripGantry_2 rfl)), m_iload⟩ (
  lkp_c (P := OkP 206) ⟨ok_cv (List.forall_mem_cons.mpr ⟨tg_V (ci := 0) (r := CLr 0) (y := 205) rfl ⟨rfl, by decide⟩ rfl q2529 q2531 qs32 q115 q2532 ⟨cn_33.1, cn_33.2, pd_92⟩ dX1_tripGantry_3, (List.forall_mem_nil _)⟩) hd_no, m_cv⟩ (
  lkp_c (P := OkP 206) ⟨(PuOK.ok (ok_astore dX1_tripGantry_6)), m_astore⟩ (
  lkp_c (P := OkP 206) ⟨(PuOK.ok (ok_iload_n dX1_tripGantry_8 rfl)), m_iload⟩ (
  lkp_c (P := OkP 206) ⟨(PuOK.ok (ok_i2l dX1_tripGantry_9)), m_i2l⟩ (
  lkp_c (P := OkP 206) ⟨(PuOK.ok (ok_lconst dX1_tripGantry_10 rfl)), m_push⟩ (
  lkp_c (P := OkP 206) ⟨(PuOK.ok (ok_aload dX1_tripGantry_11)), m_aload⟩ (
  lkp_c (P := OkP 206) ⟨ok_getN ⟨"TollRoad$Trip", "TollRoad", q2499, Or.inl rfl⟩ dX1_tripGantry_13, m_get⟩ (
  lkp_c (P := OkP 206) ⟨ok_cv (List.forall_mem_cons.mpr ⟨tg_V (ci := 3) (r := CLr 3) (y := 42) rfl ⟨rfl, by decide⟩ rfl q1256 q1257 q1258 q120 q1259 ⟨cn_15.1, cn_15.2, pd_13⟩ dX1_tripGantry_16, (List.forall_mem_nil _)⟩) hd_no, m_cv⟩ (
  lkp_c (P := OkP 206) ⟨(PuOK.ok (ok_iconst dX1_tripGantry_19 rfl)), m_push⟩ (
  lkp_c (P := OkP 206) ⟨(PuOK.ok (ok_isub dX1_tripGantry_20)), m_iop⟩ (
  lkp_c (P := OkP 206) ⟨(PuOK.ok (ok_i2l dX1_tripGantry_21)), m_i2l⟩ (
  lkp_c (P := OkP 206) ⟨ok_cs (tg_S ⟨rfl, by decide⟩ q1643 q1284 q115 q1285 ⟨cn_33.1, cn_33.2, pd_74⟩ dX1_tripGantry_22) hd_no, m_cs⟩ (
  lkp_c (P := OkP 206) ⟨ok_cs (tg_S ⟨rfl, by decide⟩ q1691 q1692 q115 q1693 ⟨cn_33.1, cn_33.2, pd_18⟩ dX1_tripGantry_25) hd_no, m_cs⟩ (
  lkp_c (P := OkP 206) ⟨(PuOK.ok (ok_aload dX1_tripGantry_28)), m_aload⟩ (
  lkp_c (P := OkP 206) ⟨ok_getN ⟨"TollRoad$Trip", "TollRoad", q2499, Or.inl rfl⟩ dX1_tripGantry_30, m_get⟩ (
  lkp_c (P := OkP 206) ⟨(PuOK.ok (ok_iload_n dX1_tripGantry_33 rfl)), m_iload⟩ (
  lkp_c (P := OkP 206) ⟨ok_cv (List.forall_mem_cons.mpr ⟨tg_V (ci := 3) (r := CLr 3) (y := 47) rfl ⟨rfl, by decide⟩ rfl q1806 q1807 q1808 q120 q1809 ⟨cn_15.1, cn_15.2, pd_27⟩ dX1_tripGantry_34, (List.forall_mem_nil _)⟩) hd_no, m_cv⟩ (
  lkp_c (P := OkP 206) ⟨ok_cast q2560 cst_1 dX1_tripGantry_37, m_cast⟩ (
  lkp_c (P := OkP 206) ⟨ok_cvs (List.forall_mem_cons.mpr ⟨tg_V (ci := 21) (r := CLr 21) (y := 21) rfl ⟨rfl, by decide⟩ rfl q2561 q968 q969 q136 q970 ⟨cn_6.1, cn_6.2, pd_13⟩ dX1_tripGantry_40, (List.forall_mem_nil _)⟩) hd_no, m_cvs⟩ (
  lkp_c (P := OkP 206) ⟨ok_iret rfl rfl (by decide) dX1_tripGantry_43, m_ret⟩ (
  trivial)))))))))))))))))))))))
theorem mt_206 : MtOK TB NT IT 206 := ⟨by decide +kernel, rfl, (fun h => by cases h), Or.inl ⟨rfl, rfl⟩, rfl, by decide, lk2_all (P := OkP 206) ⟨c_206_0, trivial⟩⟩
def dkwX1_bill_0 : List UInt8 := [42, 27, 182, 0, 207, 78, 28, 184, 1, 99, 184, 0, 79, 42, 180, 0, 19, 27, 28, 182, 1, 102, 172]
abbrev dktX1_bill_0 : List UInt8 := dkwX1_bill_0 ++ []
theorem dksX1_bill_0 : cX1_bill.data.toList.drop 0 = dktX1_bill_0 := by decide +kernel
theorem dX1_bill_0 : decode cX1_bill 0 = .ok (.aload_n 0, 1) := dk_42 (dk_at dksX1_bill_0 0 rfl rfl)
theorem dX1_bill_1 : decode cX1_bill 1 = .ok (.iload_n 1, 1) := dk_27 (dk_at dksX1_bill_0 1 rfl rfl)
theorem dX1_bill_2 : decode cX1_bill 2 = .ok (.invokevirtual 207, 3) := dk_182 0 207 (dk_at dksX1_bill_0 2 rfl rfl)
theorem dX1_bill_5 : decode cX1_bill 5 = .ok (.astore_n 3, 1) := dk_78 (dk_at dksX1_bill_0 5 rfl rfl)
theorem dX1_bill_6 : decode cX1_bill 6 = .ok (.iload_n 2, 1) := dk_28 (dk_at dksX1_bill_0 6 rfl rfl)
theorem dX1_bill_7 : decode cX1_bill 7 = .ok (.invokestatic 355, 3) := dk_184 1 99 (dk_at dksX1_bill_0 7 rfl rfl)
theorem dX1_bill_10 : decode cX1_bill 10 = .ok (.invokestatic 79, 3) := dk_184 0 79 (dk_at dksX1_bill_0 10 rfl rfl)
theorem dX1_bill_13 : decode cX1_bill 13 = .ok (.aload_n 0, 1) := dk_42 (dk_at dksX1_bill_0 13 rfl rfl)
theorem dX1_bill_14 : decode cX1_bill 14 = .ok (.getfield 19, 3) := dk_180 0 19 (dk_at dksX1_bill_0 14 rfl rfl)
theorem dX1_bill_17 : decode cX1_bill 17 = .ok (.iload_n 1, 1) := dk_27 (dk_at dksX1_bill_0 17 rfl rfl)
theorem dX1_bill_18 : decode cX1_bill 18 = .ok (.iload_n 2, 1) := dk_28 (dk_at dksX1_bill_0 18 rfl rfl)
theorem dX1_bill_19 : decode cX1_bill 19 = .ok (.invokevirtual 358, 3) := dk_182 1 102 (dk_at dksX1_bill_0 19 rfl rfl)
theorem dX1_bill_22 : decode cX1_bill 22 = .ok (.ireturn, 1) := dk_172 (dk_at dksX1_bill_0 22 rfl rfl)
theorem c_207_0 : LkP (OkP 207) [(0, o_aload 0 1), (1, o_iload 1 1), (2, o_cv [(0, 188)] 1 3 false none), (5, o_astore 3 1), (6, o_iload 2 1), (7, o_cs 208 1 false none), (10, o_cs 172 1 true none), (13, o_aload 0 1), (14, o_get 0), (17, o_iload 1 1), (18, o_iload 2 1), (19, o_cv [(1, 265)] 2 3 false none), (22, o_ret 1)] := lkp_c (P := OkP 207) ⟨(PuOK.ok (ok_aload_n dX1_bill_0 rfl)), m_aload⟩ (
  lkp_c (P := OkP 207) ⟨(PuOK.ok (ok_iload_n dX1_bill_1 rfl)), m_iload⟩ (
  lkp_c (P := OkP 207) ⟨ok_cv (List.forall_mem_cons.mpr ⟨tg_V (ci := 0) (r := CLr 0) (y := 188) rfl ⟨rfl, by decide⟩ rfl q1802 q1804 qs18 q115 q1805 ⟨cn_33.1, cn_33.2, pd_80⟩ dX1_bill_2, (List.forall_mem_nil _)⟩) hd_no, m_cv⟩ (
  lkp_c (P := OkP 207) ⟨(PuOK.ok (ok_astore_n dX1_bill_5 rfl)), m_astore⟩ (
  lkp_c (P := OkP 207) ⟨(PuOK.ok (ok_iload_n dX1_bill_6 rfl)), m_iload⟩ (
  lkp_c (P := OkP 207) ⟨ok_cs (tg_S ⟨rfl, by decide⟩ q2569 q2570 q115 q2571 ⟨cn_33.1, cn_33.2, pd_77⟩ dX1_bill_7) hd_no, m_cs⟩ (
  lkp_c (P := OkP 207) ⟨ok_cs (tg_S ⟨rfl, by decide⟩ q1644 q1645 q115 q1646 ⟨cn_33.1, cn_33.2, pd_18⟩ dX1_bill_10) hd_no, m_cs⟩ (
  lkp_c (P := OkP 207) ⟨(PuOK.ok (ok_aload_n dX1_bill_13 rfl)), m_aload⟩ (
  lkp_c (P := OkP 207) ⟨ok_get ⟨"TollRoad", q664, Or.inl rfl⟩ dX1_bill_14, m_get⟩ (
  lkp_c (P := OkP 207) ⟨(PuOK.ok (ok_iload_n dX1_bill_17 rfl)), m_iload⟩ (
  lkp_c (P := OkP 207) ⟨(PuOK.ok (ok_iload_n dX1_bill_18 rfl)), m_iload⟩ (
  lkp_c (P := OkP 207) ⟨ok_cv (List.forall_mem_cons.mpr ⟨tg_V (ci := 1) (r := CLr 1) (y := 265) rfl ⟨rfl, by decide⟩ rfl q2573 q2574 q2575 q116 q2576 ⟨cn_36.1, cn_36.2, pd_1⟩ dX1_bill_19, (List.forall_mem_nil _)⟩) hd_no, m_cv⟩ (
  lkp_c (P := OkP 207) ⟨ok_iret rfl rfl (by decide) dX1_bill_22, m_ret⟩ (
  trivial)))))))))))))
theorem mt_207 : MtOK TB NT IT 207 := ⟨by decide +kernel, rfl, (fun h => by cases h), Or.inl ⟨rfl, rfl⟩, rfl, by decide, lk2_all (P := OkP 207) ⟨c_207_0, trivial⟩⟩
def dkwX1_isUntil_0 : List UInt8 := [26, 133, 9, 20, 1, 97, 184, 0, 46, 172]
abbrev dktX1_isUntil_0 : List UInt8 := dkwX1_isUntil_0 ++ []
theorem dksX1_isUntil_0 : cX1_isUntil.data.toList.drop 0 = dktX1_isUntil_0 := by decide +kernel
theorem dX1_isUntil_0 : decode cX1_isUntil 0 = .ok (.iload_n 0, 1) := dk_26 (dk_at dksX1_isUntil_0 0 rfl rfl)
theorem dX1_isUntil_1 : decode cX1_isUntil 1 = .ok (.i2l, 1) := dk_133 (dk_at dksX1_isUntil_0 1 rfl rfl)
theorem dX1_isUntil_2 : decode cX1_isUntil 2 = .ok (.lconst 0, 1) := dk_9 (dk_at dksX1_isUntil_0 2 rfl rfl)
theorem dX1_isUntil_3 : decode cX1_isUntil 3 = .ok (.ldc2_w 353, 3) := dk_20 1 97 (dk_at dksX1_isUntil_0 3 rfl rfl)
theorem dX1_isUntil_6 : decode cX1_isUntil 6 = .ok (.invokestatic 46, 3) := dk_184 0 46 (dk_at dksX1_isUntil_0 6 rfl rfl)
theorem dX1_isUntil_9 : decode cX1_isUntil 9 = .ok (.ireturn, 1) := dk_172 (dk_at dksX1_isUntil_0 9 rfl rfl)
theorem c_208_0 : LkP (OkP 208) [(0, o_iload 0 1), (1, o_i2l), (2, o_push 1 (.long 0)), (3, o_push 3 (.long 200000)), (6, o_cs 165 3 false none), (9, o_ret 5)] := lkp_c (P := OkP 208) ⟨(PuOK.ok (ok_iload_n dX1_isUntil_0 rfl)), m_iload⟩ (
  lkp_c (P := OkP 208) ⟨(PuOK.ok (ok_i2l dX1_isUntil_1)), m_i2l⟩ (
  lkp_c (P := OkP 208) ⟨(PuOK.ok (ok_lconst dX1_isUntil_2 rfl)), m_push⟩ (
  lkp_c (P := OkP 208) ⟨(PuOK.ok (ok_ldc2 q2572 dX1_isUntil_3)), m_push⟩ (
  lkp_c (P := OkP 208) ⟨ok_cs (tg_S ⟨rfl, by decide⟩ q1643 q1284 q115 q1285 ⟨cn_33.1, cn_33.2, pd_74⟩ dX1_isUntil_6) hd_no, m_cs⟩ (
  lkp_c (P := OkP 208) ⟨ok_iret rfl rfl (by decide) dX1_isUntil_9, m_ret⟩ (
  trivial))))))
theorem mt_208 : MtOK TB NT IT 208 := ⟨by decide +kernel, rfl, (fun h => by cases h), Or.inl ⟨rfl, rfl⟩, rfl, by decide, lk2_all (P := OkP 208) ⟨c_208_0, trivial⟩⟩
def dkwX1_billAll_1 : List UInt8 := [162, 0, 21, 28, 42, 180, 0, 19, 29, 27, 182, 1, 102, 96, 61, 132, 3, 1, 167, 255, 227, 28, 172]
abbrev dktX1_billAll_1 : List UInt8 := dkwX1_billAll_1 ++ []
def dkwX1_billAll_0 : List UInt8 := [27, 184, 1, 99, 184, 0, 79, 3, 61, 3, 62, 29, 42, 180, 0, 19, 180, 0, 54, 182, 0, 58]
abbrev dktX1_billAll_0 : List UInt8 := dkwX1_billAll_0 ++ dktX1_billAll_1
theorem dksX1_billAll_0 : cX1_billAll.data.toList.drop 0 = dktX1_billAll_0 := by decide +kernel
theorem dksX1_billAll_1 : cX1_billAll.data.toList.drop 22 = dktX1_billAll_1 := dk_seg dksX1_billAll_0 22 rfl rfl
theorem dX1_billAll_0 : decode cX1_billAll 0 = .ok (.iload_n 1, 1) := dk_27 (dk_at dksX1_billAll_0 0 rfl rfl)
theorem dX1_billAll_1 : decode cX1_billAll 1 = .ok (.invokestatic 355, 3) := dk_184 1 99 (dk_at dksX1_billAll_0 1 rfl rfl)
theorem dX1_billAll_4 : decode cX1_billAll 4 = .ok (.invokestatic 79, 3) := dk_184 0 79 (dk_at dksX1_billAll_0 4 rfl rfl)
theorem dX1_billAll_7 : decode cX1_billAll 7 = .ok (.iconst 0, 1) := dk_3 (dk_at dksX1_billAll_0 7 rfl rfl)
theorem dX1_billAll_8 : decode cX1_billAll 8 = .ok (.istore_n 2, 1) := dk_61 (dk_at dksX1_billAll_0 8 rfl rfl)
theorem dX1_billAll_9 : decode cX1_billAll 9 = .ok (.iconst 0, 1) := dk_3 (dk_at dksX1_billAll_0 9 rfl rfl)
theorem dX1_billAll_10 : decode cX1_billAll 10 = .ok (.istore_n 3, 1) := dk_62 (dk_at dksX1_billAll_0 10 rfl rfl)
theorem dX1_billAll_11 : decode cX1_billAll 11 = .ok (.iload_n 3, 1) := dk_29 (dk_at dksX1_billAll_0 11 rfl rfl)
theorem dX1_billAll_12 : decode cX1_billAll 12 = .ok (.aload_n 0, 1) := dk_42 (dk_at dksX1_billAll_0 12 rfl rfl)
theorem dX1_billAll_13 : decode cX1_billAll 13 = .ok (.getfield 19, 3) := dk_180 0 19 (dk_at dksX1_billAll_0 13 rfl rfl)
theorem dX1_billAll_16 : decode cX1_billAll 16 = .ok (.getfield 54, 3) := dk_180 0 54 (dk_at dksX1_billAll_0 16 rfl rfl)
theorem dX1_billAll_19 : decode cX1_billAll 19 = .ok (.invokevirtual 58, 3) := dk_182 0 58 (dk_at dksX1_billAll_0 19 rfl rfl)
theorem dX1_billAll_22 : decode cX1_billAll 22 = .ok (.if_icmp .ge 21, 3) := dk_162 0 21 (dk_at dksX1_billAll_1 0 rfl rfl)
theorem dX1_billAll_25 : decode cX1_billAll 25 = .ok (.iload_n 2, 1) := dk_28 (dk_at dksX1_billAll_1 3 rfl rfl)
theorem dX1_billAll_26 : decode cX1_billAll 26 = .ok (.aload_n 0, 1) := dk_42 (dk_at dksX1_billAll_1 4 rfl rfl)
theorem dX1_billAll_27 : decode cX1_billAll 27 = .ok (.getfield 19, 3) := dk_180 0 19 (dk_at dksX1_billAll_1 5 rfl rfl)
theorem dX1_billAll_30 : decode cX1_billAll 30 = .ok (.iload_n 3, 1) := dk_29 (dk_at dksX1_billAll_1 8 rfl rfl)
theorem dX1_billAll_31 : decode cX1_billAll 31 = .ok (.iload_n 1, 1) := dk_27 (dk_at dksX1_billAll_1 9 rfl rfl)
theorem dX1_billAll_32 : decode cX1_billAll 32 = .ok (.invokevirtual 358, 3) := dk_182 1 102 (dk_at dksX1_billAll_1 10 rfl rfl)
theorem dX1_billAll_35 : decode cX1_billAll 35 = .ok (.iadd, 1) := dk_96 (dk_at dksX1_billAll_1 13 rfl rfl)
theorem dX1_billAll_36 : decode cX1_billAll 36 = .ok (.istore_n 2, 1) := dk_61 (dk_at dksX1_billAll_1 14 rfl rfl)
theorem dX1_billAll_37 : decode cX1_billAll 37 = .ok (.iinc 3 1, 3) := dk_132 3 1 (dk_at dksX1_billAll_1 15 rfl rfl)
theorem dX1_billAll_40 : decode cX1_billAll 40 = .ok (.goto (-29), 3) := dk_167 255 227 (dk_at dksX1_billAll_1 18 rfl rfl)
theorem dX1_billAll_43 : decode cX1_billAll 43 = .ok (.iload_n 2, 1) := dk_28 (dk_at dksX1_billAll_1 21 rfl rfl)
theorem dX1_billAll_44 : decode cX1_billAll 44 = .ok (.ireturn, 1) := dk_172 (dk_at dksX1_billAll_1 22 rfl rfl)
theorem c_209_0 : LkP (OkP 209) [(0, o_iload 1 1), (1, o_cs 208 1 false none), (4, o_cs 172 1 true none), (7, o_push 1 (.int 0)), (8, o_istore 2 1), (9, o_push 1 (.int 0)), (10, o_istore 3 1), (11, o_iload 3 1), (12, o_aload 0 1), (13, o_get 0), (16, o_get 10), (19, o_cv [(3, 42)] 0 3 false none), (22, o_icmp (fun x y => decide (y ≤ x)) 43), (25, o_iload 2 1), (26, o_aload 0 1), (27, o_get 0), (30, o_iload 3 1), (31, o_iload 1 1), (32, o_cv [(1, 265)] 2 3 false none), (35, o_iop (fun x y => x + y)), (36, o_istore 2 1), (37, o_iinc 3 1), (40, o_goto 11), (43, o_iload 2 1), (44, o_ret 1)] := lkp_c (P := OkP 209) ⟨(PuOK.ok (ok_iload_n dX1_billAll_0 rfl)), m_iload⟩ (
  lkp_c (P := OkP 209) ⟨ok_cs (tg_S ⟨rfl, by decide⟩ q2569 q2570 q115 q2571 ⟨cn_33.1, cn_33.2, pd_77⟩ dX1_billAll_1) hd_no, m_cs⟩ (
  lkp_c (P := OkP 209) ⟨ok_cs (tg_S ⟨rfl, by decide⟩ q1644 q1645 q115 q1646 ⟨cn_33.1, cn_33.2, pd_18⟩ dX1_billAll_4) hd_no, m_cs⟩ (
  lkp_c (P := OkP 209) ⟨(PuOK.ok (ok_iconst dX1_billAll_7 rfl)), m_push⟩ (
  lkp_c (P := OkP 209) ⟨(PuOK.ok (ok_istore_n dX1_billAll_8 rfl)), m_istore⟩ (
  lkp_c (P := OkP 209) ⟨(PuOK.ok (ok_iconst dX1_billAll_9 rfl)), m_push⟩ (
  lkp_c (P := OkP 209) ⟨(PuOK.ok (ok_istore_n dX1_billAll_10 rfl)), m_istore⟩ (
  lkp_c (P := OkP 209) ⟨(PuOK.ok (ok_iload_n dX1_billAll_11 rfl)), m_iload⟩ (
  lkp_c (P := OkP 209) ⟨(PuOK.ok (ok_aload_n dX1_billAll_12 rfl)), m_aload⟩ (
  lkp_c (P := OkP 209) ⟨ok_get ⟨"TollRoad", q664, Or.inl rfl⟩ dX1_billAll_13, m_get⟩ (
  lkp_c (P := OkP 209) ⟨ok_getN ⟨"TollRoad$World", "TollRoad", q639, Or.inl rfl⟩ dX1_billAll_16, m_get⟩ (
  lkp_c (P := OkP 209) ⟨ok_cv (List.forall_mem_cons.mpr ⟨tg_V (ci := 3) (r := CLr 3) (y := 42) rfl ⟨rfl, by decide⟩ rfl q1256 q1257 q1258 q120 q1259 ⟨cn_15.1, cn_15.2, pd_13⟩ dX1_billAll_19, (List.forall_mem_nil _)⟩) hd_no, m_cv⟩ (
  lkp_c (P := OkP 209) ⟨(PuOK.ok (ok_icmp_ge dX1_billAll_22 rfl)), m_icmp⟩ (
  lkp_c (P := OkP 209) ⟨(PuOK.ok (ok_iload_n dX1_billAll_25 rfl)), m_iload⟩ (
  lkp_c (P := OkP 209) ⟨(PuOK.ok (ok_aload_n dX1_billAll_26 rfl)), m_aload⟩ (
  lkp_c (P := OkP 209) ⟨ok_get ⟨"TollRoad", q664, Or.inl rfl⟩ dX1_billAll_27, m_get⟩ (
  lkp_c (P := OkP 209) ⟨(PuOK.ok (ok_iload_n dX1_billAll_30 rfl)), m_iload⟩ (
  lkp_c (P := OkP 209) ⟨(PuOK.ok (ok_iload_n dX1_billAll_31 rfl)), m_iload⟩ (
  lkp_c (P := OkP 209) ⟨ok_cv (List.forall_mem_cons.mpr ⟨tg_V (ci := 1) (r := CLr 1) (y := 265) rfl ⟨rfl, by decide⟩ rfl q2573 q2574 q2575 q116 q2576 ⟨cn_36.1, cn_36.2, pd_1⟩ dX1_billAll_32, (List.forall_mem_nil _)⟩) hd_no, m_cv⟩ (
  lkp_c (P := OkP 209) ⟨(PuOK.ok (ok_iadd dX1_billAll_35)), m_iop⟩ (
  lkp_c (P := OkP 209) ⟨(PuOK.ok (ok_istore_n dX1_billAll_36 rfl)), m_istore⟩ (
  lkp_c (P := OkP 209) ⟨(PuOK.ok (ok_iinc dX1_billAll_37 rfl)), m_iinc⟩ (
  lkp_c (P := OkP 209) ⟨(PuOK.ok (ok_goto dX1_billAll_40 rfl)), m_goto⟩ (
  lkp_c (P := OkP 209) ⟨(PuOK.ok (ok_iload_n dX1_billAll_43 rfl)), m_iload⟩ (
  lkp_c (P := OkP 209) ⟨ok_iret rfl rfl (by decide) dX1_billAll_44, m_ret⟩ (
  trivial)))))))))))))))))))))))))
theorem mt_209 : MtOK TB NT IT 209 := ⟨by decide +kernel, rfl, (fun h => by cases h), Or.inl ⟨rfl, rfl⟩, rfl, by decide, lk2_all (P := OkP 209) ⟨c_209_0, trivial⟩⟩
def dkwX1_due_0 : List UInt8 := [42, 27, 182, 0, 207, 78, 28, 184, 1, 99, 184, 0, 79, 42, 180, 0, 19, 27, 28, 182, 1, 105, 172]
abbrev dktX1_due_0 : List UInt8 := dkwX1_due_0 ++ []
theorem dksX1_due_0 : cX1_due.data.toList.drop 0 = dktX1_due_0 := by decide +kernel
theorem dX1_due_0 : decode cX1_due 0 = .ok (.aload_n 0, 1) := dk_42 (dk_at dksX1_due_0 0 rfl rfl)
theorem dX1_due_1 : decode cX1_due 1 = .ok (.iload_n 1, 1) := dk_27 (dk_at dksX1_due_0 1 rfl rfl)
theorem dX1_due_2 : decode cX1_due 2 = .ok (.invokevirtual 207, 3) := dk_182 0 207 (dk_at dksX1_due_0 2 rfl rfl)
theorem dX1_due_5 : decode cX1_due 5 = .ok (.astore_n 3, 1) := dk_78 (dk_at dksX1_due_0 5 rfl rfl)
theorem dX1_due_6 : decode cX1_due 6 = .ok (.iload_n 2, 1) := dk_28 (dk_at dksX1_due_0 6 rfl rfl)
theorem dX1_due_7 : decode cX1_due 7 = .ok (.invokestatic 355, 3) := dk_184 1 99 (dk_at dksX1_due_0 7 rfl rfl)
theorem dX1_due_10 : decode cX1_due 10 = .ok (.invokestatic 79, 3) := dk_184 0 79 (dk_at dksX1_due_0 10 rfl rfl)
theorem dX1_due_13 : decode cX1_due 13 = .ok (.aload_n 0, 1) := dk_42 (dk_at dksX1_due_0 13 rfl rfl)
theorem dX1_due_14 : decode cX1_due 14 = .ok (.getfield 19, 3) := dk_180 0 19 (dk_at dksX1_due_0 14 rfl rfl)
theorem dX1_due_17 : decode cX1_due 17 = .ok (.iload_n 1, 1) := dk_27 (dk_at dksX1_due_0 17 rfl rfl)
theorem dX1_due_18 : decode cX1_due 18 = .ok (.iload_n 2, 1) := dk_28 (dk_at dksX1_due_0 18 rfl rfl)
theorem dX1_due_19 : decode cX1_due 19 = .ok (.invokevirtual 361, 3) := dk_182 1 105 (dk_at dksX1_due_0 19 rfl rfl)
theorem dX1_due_22 : decode cX1_due 22 = .ok (.ireturn, 1) := dk_172 (dk_at dksX1_due_0 22 rfl rfl)
theorem c_210_0 : LkP (OkP 210) [(0, o_aload 0 1), (1, o_iload 1 1), (2, o_cv [(0, 188)] 1 3 false none), (5, o_astore 3 1), (6, o_iload 2 1), (7, o_cs 208 1 false none), (10, o_cs 172 1 true none), (13, o_aload 0 1), (14, o_get 0), (17, o_iload 1 1), (18, o_iload 2 1), (19, o_cv [(1, 272)] 2 3 false none), (22, o_ret 1)] := lkp_c (P := OkP 210) ⟨(PuOK.ok (ok_aload_n dX1_due_0 rfl)), m_aload⟩ (
  lkp_c (P := OkP 210) ⟨(PuOK.ok (ok_iload_n dX1_due_1 rfl)), m_iload⟩ (
  lkp_c (P := OkP 210) ⟨ok_cv (List.forall_mem_cons.mpr ⟨tg_V (ci := 0) (r := CLr 0) (y := 188) rfl ⟨rfl, by decide⟩ rfl q1802 q1804 qs18 q115 q1805 ⟨cn_33.1, cn_33.2, pd_80⟩ dX1_due_2, (List.forall_mem_nil _)⟩) hd_no, m_cv⟩ (
  lkp_c (P := OkP 210) ⟨(PuOK.ok (ok_astore_n dX1_due_5 rfl)), m_astore⟩ (
  lkp_c (P := OkP 210) ⟨(PuOK.ok (ok_iload_n dX1_due_6 rfl)), m_iload⟩ (
  lkp_c (P := OkP 210) ⟨ok_cs (tg_S ⟨rfl, by decide⟩ q2569 q2570 q115 q2571 ⟨cn_33.1, cn_33.2, pd_77⟩ dX1_due_7) hd_no, m_cs⟩ (
  lkp_c (P := OkP 210) ⟨ok_cs (tg_S ⟨rfl, by decide⟩ q1644 q1645 q115 q1646 ⟨cn_33.1, cn_33.2, pd_18⟩ dX1_due_10) hd_no, m_cs⟩ (
  lkp_c (P := OkP 210) ⟨(PuOK.ok (ok_aload_n dX1_due_13 rfl)), m_aload⟩ (
  lkp_c (P := OkP 210) ⟨ok_get ⟨"TollRoad", q664, Or.inl rfl⟩ dX1_due_14, m_get⟩ (
  lkp_c (P := OkP 210) ⟨(PuOK.ok (ok_iload_n dX1_due_17 rfl)), m_iload⟩ (
  lkp_c (P := OkP 210) ⟨(PuOK.ok (ok_iload_n dX1_due_18 rfl)), m_iload⟩ (
  lkp_c (P := OkP 210) ⟨ok_cv (List.forall_mem_cons.mpr ⟨tg_V (ci := 1) (r := CLr 1) (y := 272) rfl ⟨rfl, by decide⟩ rfl q2850 q2851 q2852 q116 q2853 ⟨cn_36.1, cn_36.2, pd_1⟩ dX1_due_19, (List.forall_mem_nil _)⟩) hd_no, m_cv⟩ (
  lkp_c (P := OkP 210) ⟨ok_iret rfl rfl (by decide) dX1_due_22, m_ret⟩ (
  trivial)))))))))))))
theorem mt_210 : MtOK TB NT IT 210 := ⟨by decide +kernel, rfl, (fun h => by cases h), Or.inl ⟨rfl, rfl⟩, rfl, by decide, lk2_all (P := OkP 210) ⟨c_210_0, trivial⟩⟩
def dkwX1_billed_5 : List UInt8 := [180, 1, 80, 182, 0, 58, 172, 45, 180, 0, 170, 172, 45, 180, 1, 132, 172]
abbrev dktX1_billed_5 : List UInt8 := dkwX1_billed_5 ++ []
def dkwX1_billed_4 : List UInt8 := [180, 1, 128, 180, 1, 81, 182, 0, 58, 172, 45, 180, 1, 128, 180, 1, 83, 172, 45, 180, 1, 128]
abbrev dktX1_billed_4 : List UInt8 := dkwX1_billed_4 ++ dktX1_billed_5
def dkwX1_billed_3 : List UInt8 := [172, 45, 180, 1, 125, 172, 45, 180, 1, 128, 182, 1, 74, 172, 45, 180, 1, 128, 182, 1, 77, 172, 45]
abbrev dktX1_billed_3 : List UInt8 := dkwX1_billed_3 ++ dktX1_billed_4
def dkwX1_billed_2 : List UInt8 := [45, 180, 1, 114, 172, 45, 180, 1, 117, 172, 45, 180, 1, 118, 172, 45, 180, 1, 121, 172, 45, 182, 1, 122]
abbrev dktX1_billed_2 : List UInt8 := dkwX1_billed_2 ++ dktX1_billed_3
def dkwX1_billed_1 : List UInt8 := [170, 0, 0, 0, 142, 0, 0, 0, 0, 0, 0, 0, 11, 0, 0, 0, 61, 0, 0, 0, 66, 0, 0, 0, 71, 0, 0, 0, 76, 0, 0, 0, 81, 0, 0, 0, 86, 0, 0, 0, 91, 0, 0, 0, 99, 0, 0, 0, 107, 0, 0, 0, 118, 0, 0, 0, 126, 0, 0, 0, 137]
abbrev dktX1_billed_1 : List UInt8 := dkwX1_billed_1 ++ dktX1_billed_2
def dkwX1_billed_0 : List UInt8 := [42, 27, 182, 1, 108, 78, 28, 133, 9, 20, 1, 112, 184, 0, 46, 184, 0, 79, 28]
abbrev dktX1_billed_0 : List UInt8 := dkwX1_billed_0 ++ dktX1_billed_1
theorem dksX1_billed_0 : cX1_billed.data.toList.drop 0 = dktX1_billed_0 := by decide +kernel
theorem dksX1_billed_1 : cX1_billed.data.toList.drop 19 = dktX1_billed_1 := dk_seg dksX1_billed_0 19 rfl rfl
theorem dksX1_billed_2 : cX1_billed.data.toList.drop 80 = dktX1_billed_2 := dk_seg dksX1_billed_1 61 rfl rfl
theorem dksX1_billed_3 : cX1_billed.data.toList.drop 104 = dktX1_billed_3 := dk_seg dksX1_billed_2 24 rfl rfl
theorem dksX1_billed_4 : cX1_billed.data.toList.drop 127 = dktX1_billed_4 := dk_seg dksX1_billed_3 23 rfl rfl
theorem dksX1_billed_5 : cX1_billed.data.toList.drop 149 = dktX1_billed_5 := dk_seg dksX1_billed_4 22 rfl rfl
theorem dX1_billed_0 : decode cX1_billed 0 = .ok (.aload_n 0, 1) := dk_42 (dk_at dksX1_billed_0 0 rfl rfl)
theorem dX1_billed_1 : decode cX1_billed 1 = .ok (.iload_n 1, 1) := dk_27 (dk_at dksX1_billed_0 1 rfl rfl)
theorem dX1_billed_2 : decode cX1_billed 2 = .ok (.invokevirtual 364, 3) := dk_182 1 108 (dk_at dksX1_billed_0 2 rfl rfl)
theorem dX1_billed_5 : decode cX1_billed 5 = .ok (.astore_n 3, 1) := dk_78 (dk_at dksX1_billed_0 5 rfl rfl)
theorem dX1_billed_6 : decode cX1_billed 6 = .ok (.iload_n 2, 1) := dk_28 (dk_at dksX1_billed_0 6 rfl rfl)
theorem dX1_billed_7 : decode cX1_billed 7 = .ok (.i2l, 1) := dk_133 (dk_at dksX1_billed_0 7 rfl rfl)
theorem dX1_billed_8 : decode cX1_billed 8 = .ok (.lconst 0, 1) := dk_9 (dk_at dksX1_billed_0 8 rfl rfl)
theorem dX1_billed_9 : decode cX1_billed 9 = .ok (.ldc2_w 368, 3) := dk_20 1 112 (dk_at dksX1_billed_0 9 rfl rfl)
theorem dX1_billed_12 : decode cX1_billed 12 = .ok (.invokestatic 46, 3) := dk_184 0 46 (dk_at dksX1_billed_0 12 rfl rfl)
theorem dX1_billed_15 : decode cX1_billed 15 = .ok (.invokestatic 79, 3) := dk_184 0 79 (dk_at dksX1_billed_0 15 rfl rfl)
theorem dX1_billed_18 : decode cX1_billed 18 = .ok (.iload_n 2, 1) := dk_28 (dk_at dksX1_billed_0 18 rfl rfl)
theorem dX1_billed_19 : decode cX1_billed 19 = .ok (.tableswitch 142 0 11 #[61, 66, 71, 76, 81, 86, 91, 99, 107, 118, 126, 137], 61) := by decide +kernel
theorem dX1_billed_80 : decode cX1_billed 80 = .ok (.aload_n 3, 1) := dk_45 (dk_at dksX1_billed_2 0 rfl rfl)
theorem dX1_billed_81 : decode cX1_billed 81 = .ok (.getfield 370, 3) := dk_180 1 114 (dk_at dksX1_billed_2 1 rfl rfl)
theorem dX1_billed_84 : decode cX1_billed 84 = .ok (.ireturn, 1) := dk_172 (dk_at dksX1_billed_2 4 rfl rfl)
theorem dX1_billed_85 : decode cX1_billed 85 = .ok (.aload_n 3, 1) := dk_45 (dk_at dksX1_billed_2 5 rfl rfl)
theorem dX1_billed_86 : decode cX1_billed 86 = .ok (.getfield 373, 3) := dk_180 1 117 (dk_at dksX1_billed_2 6 rfl rfl)
theorem dX1_billed_89 : decode cX1_billed 89 = .ok (.ireturn, 1) := dk_172 (dk_at dksX1_billed_2 9 rfl rfl)
theorem dX1_billed_90 : decode cX1_billed 90 = .ok (.aload_n 3, 1) := dk_45 (dk_at dksX1_billed_2 10 rfl rfl)
theorem dX1_billed_91 : decode cX1_billed 91 = .ok (.getfield 374, 3) := dk_180 1 118 (dk_at dksX1_billed_2 11 rfl rfl)
theorem dX1_billed_94 : decode cX1_billed 94 = .ok (.ireturn, 1) := dk_172 (dk_at dksX1_billed_2 14 rfl rfl)
theorem dX1_billed_95 : decode cX1_billed 95 = .ok (.aload_n 3, 1) := dk_45 (dk_at dksX1_billed_2 15 rfl rfl)
theorem dX1_billed_96 : decode cX1_billed 96 = .ok (.getfield 377, 3) := dk_180 1 121 (dk_at dksX1_billed_2 16 rfl rfl)
theorem dX1_billed_99 : decode cX1_billed 99 = .ok (.ireturn, 1) := dk_172 (dk_at dksX1_billed_2 19 rfl rfl)
theorem dX1_billed_100 : decode cX1_billed 100 = .ok (.aload_n 3, 1) := dk_45 (dk_at dksX1_billed_2 20 rfl rfl)
theorem dX1_billed_101 : decode cX1_billed 101 = .ok (.invokevirtual 378, 3) := dk_182 1 122 (dk_at dksX1_billed_2 21 rfl rfl)
theorem dX1_billed_104 : decode cX1_billed 104 = .ok (.ireturn, 1) := dk_172 (dk_at dksX1_billed_3 0 rfl rfl)
theorem dX1_billed_105 : decode cX1_billed 105 = .ok (.aload_n 3, 1) := dk_45 (dk_at dksX1_billed_3 1 rfl rfl)
theorem dX1_billed_106 : decode cX1_billed 106 = .ok (.getfield 381, 3) := dk_180 1 125 (dk_at dksX1_billed_3 2 rfl rfl)
theorem dX1_billed_109 : decode cX1_billed 109 = .ok (.ireturn, 1) := dk_172 (dk_at dksX1_billed_3 5 rfl rfl)
theorem dX1_billed_110 : decode cX1_billed 110 = .ok (.aload_n 3, 1) := dk_45 (dk_at dksX1_billed_3 6 rfl rfl)
theorem dX1_billed_111 : decode cX1_billed 111 = .ok (.getfield 384, 3) := dk_180 1 128 (dk_at dksX1_billed_3 7 rfl rfl)
theorem dX1_billed_114 : decode cX1_billed 114 = .ok (.invokevirtual 330, 3) := dk_182 1 74 (dk_at dksX1_billed_3 10 rfl rfl)
theorem dX1_billed_117 : decode cX1_billed 117 = .ok (.ireturn, 1) := dk_172 (dk_at dksX1_billed_3 13 rfl rfl)
theorem dX1_billed_118 : decode cX1_billed 118 = .ok (.aload_n 3, 1) := dk_45 (dk_at dksX1_billed_3 14 rfl rfl)
theorem dX1_billed_119 : decode cX1_billed 119 = .ok (.getfield 384, 3) := dk_180 1 128 (dk_at dksX1_billed_3 15 rfl rfl)
theorem dX1_billed_122 : decode cX1_billed 122 = .ok (.invokevirtual 333, 3) := dk_182 1 77 (dk_at dksX1_billed_3 18 rfl rfl)
theorem dX1_billed_125 : decode cX1_billed 125 = .ok (.ireturn, 1) := dk_172 (dk_at dksX1_billed_3 21 rfl rfl)
theorem dX1_billed_126 : decode cX1_billed 126 = .ok (.aload_n 3, 1) := dk_45 (dk_at dksX1_billed_3 22 rfl rfl)
theorem dX1_billed_127 : decode cX1_billed 127 = .ok (.getfield 384, 3) := dk_180 1 128 (dk_at dksX1_billed_4 0 rfl rfl)
theorem dX1_billed_130 : decode cX1_billed 130 = .ok (.getfield 337, 3) := dk_180 1 81 (dk_at dksX1_billed_4 3 rfl rfl)
theorem dX1_billed_133 : decode cX1_billed 133 = .ok (.invokevirtual 58, 3) := dk_182 0 58 (dk_at dksX1_billed_4 6 rfl rfl)
theorem dX1_billed_136 : decode cX1_billed 136 = .ok (.ireturn, 1) := dk_172 (dk_at dksX1_billed_4 9 rfl rfl)
theorem dX1_billed_137 : decode cX1_billed 137 = .ok (.aload_n 3, 1) := dk_45 (dk_at dksX1_billed_4 10 rfl rfl)
theorem dX1_billed_138 : decode cX1_billed 138 = .ok (.getfield 384, 3) := dk_180 1 128 (dk_at dksX1_billed_4 11 rfl rfl)
theorem dX1_billed_141 : decode cX1_billed 141 = .ok (.getfield 339, 3) := dk_180 1 83 (dk_at dksX1_billed_4 14 rfl rfl)
theorem dX1_billed_144 : decode cX1_billed 144 = .ok (.ireturn, 1) := dk_172 (dk_at dksX1_billed_4 17 rfl rfl)
theorem dX1_billed_145 : decode cX1_billed 145 = .ok (.aload_n 3, 1) := dk_45 (dk_at dksX1_billed_4 18 rfl rfl)
theorem dX1_billed_146 : decode cX1_billed 146 = .ok (.getfield 384, 3) := dk_180 1 128 (dk_at dksX1_billed_4 19 rfl rfl)
theorem dX1_billed_149 : decode cX1_billed 149 = .ok (.getfield 336, 3) := dk_180 1 80 (dk_at dksX1_billed_5 0 rfl rfl)
theorem dX1_billed_152 : decode cX1_billed 152 = .ok (.invokevirtual 58, 3) := dk_182 0 58 (dk_at dksX1_billed_5 3 rfl rfl)
theorem dX1_billed_155 : decode cX1_billed 155 = .ok (.ireturn, 1) := dk_172 (dk_at dksX1_billed_5 6 rfl rfl)
theorem dX1_billed_156 : decode cX1_billed 156 = .ok (.aload_n 3, 1) := dk_45 (dk_at dksX1_billed_5 7 rfl rfl)
theorem dX1_billed_157 : decode cX1_billed 157 = .ok (.getfield 170, 3) := dk_180 0 170 (dk_at dksX1_billed_5 8 rfl rfl)
theorem dX1_billed_160 : decode cX1_billed 160 = .ok (.ireturn, 1) := dk_172 (dk_at dksX1_billed_5 11 rfl rfl)
theorem dX1_billed_161 : decode cX1_billed 161 = .ok (.aload_n 3, 1) := dk_45 (dk_at dksX1_billed_5 12 rfl rfl)
theorem dX1_billed_162 : decode cX1_billed 162 = .ok (.getfield 388, 3) := dk_180 1 132 (dk_at dksX1_billed_5 13 rfl rfl)
theorem dX1_billed_165 : decode cX1_billed 165 = .ok (.ireturn, 1) := dk_172 (dk_at dksX1_billed_5 16 rfl rfl)
theorem c_211_0 : LkP (OkP 211) [(0, o_aload 0 1), (1, o_iload 1 1), (2, o_cv [(0, 212)] 1 3 false none), (5, o_astore 3 1), (6, o_iload 2 1), (7, o_i2l), (8, o_push 1 (.long 0)), (9, o_push 3 (.long 12)), (12, o_cs 165 3 false none), (15, o_cs 172 1 true none), (18, o_iload 2 1), (19, o_sw (swt 0 [80, 85, 90, 95, 100, 105, 110, 118, 126, 137, 145, 156] 161))] := lkp_c (P := OkP 211) ⟨(PuOK.ok (ok_aload_n dX1_billed_0 rfl)), m_aload⟩ (
  lkp_c (P := OkP 211) ⟨(PuOK.ok (ok_iload_n dX1_billed_1 rfl)), m_iload⟩ (
  lkp_c (P := OkP 211) ⟨ok_cv (List.forall_mem_cons.mpr ⟨tg_V (ci := 0) (r := CLr 0) (y := 212) rfl ⟨rfl, by decide⟩ rfl q2861 q2863 qs35 q115 q2864 ⟨cn_33.1, cn_33.2, pd_93⟩ dX1_billed_2, (List.forall_mem_nil _)⟩) hd_no, m_cv⟩ (
  lkp_c (P := OkP 211) ⟨(PuOK.ok (ok_astore_n dX1_billed_5 rfl)), m_astore⟩ (
  lkp_c (P := OkP 211) ⟨(PuOK.ok (ok_iload_n dX1_billed_6 rfl)), m_iload⟩ (
  lkp_c (P := OkP 211) ⟨(PuOK.ok (ok_i2l dX1_billed_7)), m_i2l⟩ (
  lkp_c (P := OkP 211) ⟨(PuOK.ok (ok_lconst dX1_billed_8 rfl)), m_push⟩ (
  lkp_c (P := OkP 211) ⟨(PuOK.ok (ok_ldc2 q2865 dX1_billed_9)), m_push⟩ (
  lkp_c (P := OkP 211) ⟨ok_cs (tg_S ⟨rfl, by decide⟩ q1643 q1284 q115 q1285 ⟨cn_33.1, cn_33.2, pd_74⟩ dX1_billed_12) hd_no, m_cs⟩ (
  lkp_c (P := OkP 211) ⟨ok_cs (tg_S ⟨rfl, by decide⟩ q1644 q1645 q115 q1646 ⟨cn_33.1, cn_33.2, pd_18⟩ dX1_billed_15) hd_no, m_cs⟩ (
  lkp_c (P := OkP 211) ⟨(PuOK.ok (ok_iload_n dX1_billed_18 rfl)), m_iload⟩ (
  lkp_c (P := OkP 211) ⟨(PuOK.ok (ok_tsw dX1_billed_19 (by decide +kernel))), m_sw⟩ (
  trivial))))))))))))
theorem c_211_1 : LkP (OkP 211) [(80, o_aload 3 1), (81, o_get 133), (84, o_ret 1), (85, o_aload 3 1), (86, o_get 134), (89, o_ret 1), (90, o_aload 3 1), (91, o_get 135), (94, o_ret 1), (95, o_aload 3 1), (96, o_get 136), (99, o_ret 1), (100, o_aload 3 1), (101, o_cv [(27, 250)] 0 3 false none), (104, o_ret 1), (105, o_aload 3 1), (106, o_get 138), (109, o_ret 1), (110, o_aload 3 1), (111, o_get 140), (114, o_cv [(26, 244)] 0 3 false none), (117, o_ret 1), (118, o_aload 3 1), (119, o_get 140), (122, o_cv [(26, 245)] 0 3 false none), (125, o_ret 1), (126, o_aload 3 1), (127, o_get 140)] := lkp_c (P := OkP 211) ⟨(PuOK.ok (ok_aload_n dX1_billed_80 rfl)), m_aload⟩ (
  lkp_c (P := OkP 211) ⟨ok_getN ⟨"TollRoad$Bill", "TollRoad", q2630, Or.inl rfl⟩ dX1_billed_81, m_get⟩ (
  lkp_c (P := OkP 211) ⟨ok_iret rfl rfl (by decide) dX1_billed_84, m_ret⟩ (
  lkp_c (P := OkP 211) ⟨(PuOK.ok (ok_aload_n dX1_billed_85 rfl)), m_aload⟩ (
  lkp_c (P := OkP 211) ⟨ok_getN ⟨"TollRoad$Bill", "TollRoad", q2633, Or.inl rfl⟩ dX1_billed_86, m_get⟩ (
  lkp_c (P := OkP 211) ⟨ok_iret rfl rfl (by decide) dX1_billed_89, m_ret⟩ (
  lkp_c (P := OkP 211) ⟨(PuOK.ok (ok_aload_n dX1_billed_90 rfl)), m_aload⟩ (
  lkp_c (P := OkP 211) ⟨ok_getN ⟨"TollRoad$Bill", "TollRoad", q2636, Or.inl rfl⟩ dX1_billed_91, m_get⟩ (
  lkp_c (P := OkP 211) ⟨ok_iret rfl rfl (by decide) dX1_billed_94, m_ret⟩ (
  lkp_c (P := OkP 211) ⟨(PuOK.ok (ok_aload_n dX1_billed_95 rfl)), m_aload⟩ (
  lkp_c (P := OkP 211) ⟨ok_getN ⟨"TollRoad$Bill", "TollRoad", q2639, Or.inl rfl⟩ dX1_billed_96, m_get⟩ (
  lkp_c (P := OkP 211) ⟨ok_iret rfl rfl (by decide) dX1_billed_99, m_ret⟩ (
  lkp_c (P := OkP 211) ⟨(PuOK.ok (ok_aload_n dX1_billed_100 rfl)), m_aload⟩ (
  lkp_c (P := OkP 211) ⟨ok_cv (List.forall_mem_cons.mpr ⟨tg_V (ci := 27) (r := CLr 27) (y := 250) rfl ⟨rfl, by decide⟩ rfl q2866 q2867 q2868 q174 q2869 ⟨cn_47.1, cn_47.2, pd_13⟩ dX1_billed_101, (List.forall_mem_nil _)⟩) hd_no, m_cv⟩ (
  lkp_c (P := OkP 211) ⟨ok_iret rfl rfl (by decide) dX1_billed_104, m_ret⟩ (
  lkp_c (P := OkP 211) ⟨(PuOK.ok (ok_aload_n dX1_billed_105 rfl)), m_aload⟩ (
  lkp_c (P := OkP 211) ⟨ok_getN ⟨"TollRoad$Bill", "TollRoad", q2643, Or.inl rfl⟩ dX1_billed_106, m_get⟩ (
  lkp_c (P := OkP 211) ⟨ok_iret rfl rfl (by decide) dX1_billed_109, m_ret⟩ (
  lkp_c (P := OkP 211) ⟨(PuOK.ok (ok_aload_n dX1_billed_110 rfl)), m_aload⟩ (
  lkp_c (P := OkP 211) ⟨ok_getN ⟨"TollRoad$Bill", "TollRoad", q2647, Or.inl rfl⟩ dX1_billed_111, m_get⟩ (
  lkp_c (P := OkP 211) ⟨ok_cv (List.forall_mem_cons.mpr ⟨tg_V (ci := 26) (r := CLr 26) (y := 244) rfl ⟨rfl, by decide⟩ rfl q2534 q2535 q2536 q173 q2537 ⟨cn_46.1, cn_46.2, pd_13⟩ dX1_billed_114, (List.forall_mem_nil _)⟩) hd_no, m_cv⟩ (
  lkp_c (P := OkP 211) ⟨ok_iret rfl rfl (by decide) dX1_billed_117, m_ret⟩ (
  lkp_c (P := OkP 211) ⟨(PuOK.ok (ok_aload_n dX1_billed_118 rfl)), m_aload⟩ (
  lkp_c (P := OkP 211) ⟨ok_getN ⟨"TollRoad$Bill", "TollRoad", q2647, Or.inl rfl⟩ dX1_billed_119, m_get⟩ (
  lkp_c (P := OkP 211) ⟨ok_cv (List.forall_mem_cons.mpr ⟨tg_V (ci := 26) (r := CLr 26) (y := 245) rfl ⟨rfl, by decide⟩ rfl q2540 q2541 q2542 q173 q2543 ⟨cn_46.1, cn_46.2, pd_13⟩ dX1_billed_122, (List.forall_mem_nil _)⟩) hd_no, m_cv⟩ (
  lkp_c (P := OkP 211) ⟨ok_iret rfl rfl (by decide) dX1_billed_125, m_ret⟩ (
  lkp_c (P := OkP 211) ⟨(PuOK.ok (ok_aload_n dX1_billed_126 rfl)), m_aload⟩ (
  lkp_c (P := OkP 211) ⟨ok_getN ⟨"TollRoad$Bill", "TollRoad", q2647, Or.inl rfl⟩ dX1_billed_127, m_get⟩ (
  trivial))))))))))))))))))))))))))))
theorem c_211_2 : LkP (OkP 211) [(130, o_get 128), (133, o_cv [(3, 42)] 0 3 false none), (136, o_ret 1), (137, o_aload 3 1), (138, o_get 140), (141, o_get 130), (144, o_ret 1), (145, o_aload 3 1), (146, o_get 140), (149, o_get 127), (152, o_cv [(3, 42)] 0 3 false none), (155, o_ret 1), (156, o_aload 3 1), (157, o_get 141), (160, o_ret 1), (161, o_aload 3 1), (162, o_get 142), (165, o_ret 1)] := lkp_c (P := OkP 211) ⟨ok_getN ⟨"TollRoad$Trip", "TollRoad", q2499, Or.inl rfl⟩ dX1_billed_130, m_get⟩ (
  lkp_c (P := OkP 211) ⟨ok_cv (List.forall_mem_cons.mpr ⟨tg_V (ci := 3) (r := CLr 3) (y := 42) rfl ⟨rfl, by decide⟩ rfl q1256 q1257 q1258 q120 q1259 ⟨cn_15.1, cn_15.2, pd_13⟩ dX1_billed_133, (List.forall_mem_nil _)⟩) hd_no, m_cv⟩ (
  lkp_c (P := OkP 211) ⟨ok_iret rfl rfl (by decide) dX1_billed_136, m_ret⟩ (
  lkp_c (P := OkP 211) ⟨(PuOK.ok (ok_aload_n dX1_billed_137 rfl)), m_aload⟩ (
  lkp_c (P := OkP 211) ⟨ok_getN ⟨"TollRoad$Bill", "TollRoad", q2647, Or.inl rfl⟩ dX1_billed_138, m_get⟩ (
  lkp_c (P := OkP 211) ⟨ok_getN ⟨"TollRoad$Trip", "TollRoad", q2503, Or.inl rfl⟩ dX1_billed_141, m_get⟩ (
  lkp_c (P := OkP 211) ⟨ok_iret rfl rfl (by decide) dX1_billed_144, m_ret⟩ (
  lkp_c (P := OkP 211) ⟨(PuOK.ok (ok_aload_n dX1_billed_145 rfl)), m_aload⟩ (
  lkp_c (P := OkP 211) ⟨ok_getN ⟨"TollRoad$Bill", "TollRoad", q2647, Or.inl rfl⟩ dX1_billed_146, m_get⟩ (
  lkp_c (P := OkP 211) ⟨ok_getN ⟨"TollRoad$Trip", "TollRoad", q2496, Or.inl rfl⟩ dX1_billed_149, m_get⟩ (
  lkp_c (P := OkP 211) ⟨ok_cv (List.forall_mem_cons.mpr ⟨tg_V (ci := 3) (r := CLr 3) (y := 42) rfl ⟨rfl, by decide⟩ rfl q1256 q1257 q1258 q120 q1259 ⟨cn_15.1, cn_15.2, pd_13⟩ dX1_billed_152, (List.forall_mem_nil _)⟩) hd_no, m_cv⟩ (
  lkp_c (P := OkP 211) ⟨ok_iret rfl rfl (by decide) dX1_billed_155, m_ret⟩ (
  lkp_c (P := OkP 211) ⟨(PuOK.ok (ok_aload_n dX1_billed_156 rfl)), m_aload⟩ (
  lkp_c (P := OkP 211) ⟨ok_getN ⟨"TollRoad$Bill", "TollRoad", q2649, Or.inl rfl⟩ dX1_billed_157, m_get⟩ (
  lkp_c (P := OkP 211) ⟨ok_iret rfl rfl (by decide) dX1_billed_160, m_ret⟩ (
  lkp_c (P := OkP 211) ⟨(PuOK.ok (ok_aload_n dX1_billed_161 rfl)), m_aload⟩ (
  lkp_c (P := OkP 211) ⟨ok_getN ⟨"TollRoad$Bill", "TollRoad", q2653, Or.inl rfl⟩ dX1_billed_162, m_get⟩ (
  lkp_c (P := OkP 211) ⟨ok_iret rfl rfl (by decide) dX1_billed_165, m_ret⟩ (
  trivial))))))))))))))))))
theorem mt_211 : MtOK TB NT IT 211 := ⟨by decide +kernel, rfl, (fun h => by cases h), Or.inl ⟨rfl, rfl⟩, rfl, by decide, lk2_all (P := OkP 211) ⟨c_211_0, c_211_1, c_211_2, trivial⟩⟩
def dkwX1_billAt_1 : List UInt8 := [180, 0, 19, 180, 0, 165, 27, 182, 0, 64, 192, 0, 168, 176]
abbrev dktX1_billAt_1 : List UInt8 := dkwX1_billAt_1 ++ []
def dkwX1_billAt_0 : List UInt8 := [27, 133, 9, 42, 180, 0, 19, 180, 0, 165, 182, 0, 58, 4, 100, 133, 184, 0, 46, 184, 0, 50, 42]
abbrev dktX1_billAt_0 : List UInt8 := dkwX1_billAt_0 ++ dktX1_billAt_1
theorem dksX1_billAt_0 : cX1_billAt.data.toList.drop 0 = dktX1_billAt_0 := by decide +kernel
theorem dksX1_billAt_1 : cX1_billAt.data.toList.drop 23 = dktX1_billAt_1 := dk_seg dksX1_billAt_0 23 rfl rfl
theorem dX1_billAt_0 : decode cX1_billAt 0 = .ok (.iload_n 1, 1) := dk_27 (dk_at dksX1_billAt_0 0 rfl rfl)
theorem dX1_billAt_1 : decode cX1_billAt 1 = .ok (.i2l, 1) := dk_133 (dk_at dksX1_billAt_0 1 rfl rfl)
theorem dX1_billAt_2 : decode cX1_billAt 2 = .ok (.lconst 0, 1) := dk_9 (dk_at dksX1_billAt_0 2 rfl rfl)
theorem dX1_billAt_3 : decode cX1_billAt 3 = .ok (.aload_n 0, 1) := dk_42 (dk_at dksX1_billAt_0 3 rfl rfl)
theorem dX1_billAt_4 : decode cX1_billAt 4 = .ok (.getfield 19, 3) := dk_180 0 19 (dk_at dksX1_billAt_0 4 rfl rfl)
theorem dX1_billAt_7 : decode cX1_billAt 7 = .ok (.getfield 165, 3) := dk_180 0 165 (dk_at dksX1_billAt_0 7 rfl rfl)
theorem dX1_billAt_10 : decode cX1_billAt 10 = .ok (.invokevirtual 58, 3) := dk_182 0 58 (dk_at dksX1_billAt_0 10 rfl rfl)
theorem dX1_billAt_13 : decode cX1_billAt 13 = .ok (.iconst 1, 1) := dk_4 (dk_at dksX1_billAt_0 13 rfl rfl)
theorem dX1_billAt_14 : decode cX1_billAt 14 = .ok (.isub, 1) := dk_100 (dk_at dksX1_billAt_0 14 rfl rfl)
theorem dX1_billAt_15 : decode cX1_billAt 15 = .ok (.i2l, 1) := dk_133 (dk_at dksX1_billAt_0 15 rfl rfl)
theorem dX1_billAt_16 : decode cX1_billAt 16 = .ok (.invokestatic 46, 3) := dk_184 0 46 (dk_at dksX1_billAt_0 16 rfl rfl)
theorem dX1_billAt_19 : decode cX1_billAt 19 = .ok (.invokestatic 50, 3) := dk_184 0 50 (dk_at dksX1_billAt_0 19 rfl rfl)
theorem dX1_billAt_22 : decode cX1_billAt 22 = .ok (.aload_n 0, 1) := dk_42 (dk_at dksX1_billAt_0 22 rfl rfl)
theorem dX1_billAt_23 : decode cX1_billAt 23 = .ok (.getfield 19, 3) := dk_180 0 19 (dk_at dksX1_billAt_1 0 rfl rfl)
theorem dX1_billAt_26 : decode cX1_billAt 26 = .ok (.getfield 165, 3) := dk_180 0 165 (dk_at dksX1_billAt_1 3 rfl rfl)
theorem dX1_billAt_29 : decode cX1_billAt 29 = .ok (.iload_n 1, 1) := dk_27 (dk_at dksX1_billAt_1 6 rfl rfl)
theorem dX1_billAt_30 : decode cX1_billAt 30 = .ok (.invokevirtual 64, 3) := dk_182 0 64 (dk_at dksX1_billAt_1 7 rfl rfl)
theorem dX1_billAt_33 : decode cX1_billAt 33 = .ok (.checkcast 168, 3) := dk_192 0 168 (dk_at dksX1_billAt_1 10 rfl rfl)
theorem dX1_billAt_36 : decode cX1_billAt 36 = .ok (.areturn, 1) := dk_176 (dk_at dksX1_billAt_1 13 rfl rfl)
theorem c_212_0 : LkP (OkP 212) [(0, o_iload 1 1), (1, o_i2l), (2, o_push 1 (.long 0)), (3, o_aload 0 1), (4, o_get 0), (7, o_get 12), (10, o_cv [(3, 42)] 0 3 false none), (13, o_push 1 (.int 1)), (14, o_iop (fun x y => x - y)), (15, o_i2l), (16, o_cs 165 3 false none), (19, o_cs 176 1 true none), (22, o_aload 0 1), (23, o_get 0), (26, o_get 12), (29, o_iload 1 1), (30, o_cv [(3, 47)] 1 3 false none), (33, o_cast [27]), (36, o_ret 0)] := lkp_c (P := OkP 212) ⟨(PuOK.ok (ok_iload_n dX1_billAt_0 rfl)), m_iload⟩ (
  lkp_c (P := OkP 212) ⟨(PuOK.ok (ok_i2l dX1_billAt_1)), m_i2l⟩ (
  lkp_c (P := OkP 212) ⟨(PuOK.ok (ok_lconst dX1_billAt_2 rfl)), m_push⟩ (
  lkp_c (P := OkP 212) ⟨(PuOK.ok (ok_aload_n dX1_billAt_3 rfl)), m_aload⟩ (
  lkp_c (P := OkP 212) ⟨ok_get ⟨"TollRoad", q664, Or.inl rfl⟩ dX1_billAt_4, m_get⟩ (
  lkp_c (P := OkP 212) ⟨ok_getN ⟨"TollRoad$World", "TollRoad", q644, Or.inl rfl⟩ dX1_billAt_7, m_get⟩ (
  lkp_c (P := OkP 212) ⟨ok_cv (List.forall_mem_cons.mpr ⟨tg_V (ci := 3) (r := CLr 3) (y := 42) rfl ⟨rfl, by decide⟩ rfl q1256 q1257 q1258 q120 q1259 ⟨cn_15.1, cn_15.2, pd_13⟩ dX1_billAt_10, (List.forall_mem_nil _)⟩) hd_no, m_cv⟩ (
  lkp_c (P := OkP 212) ⟨(PuOK.ok (ok_iconst dX1_billAt_13 rfl)), m_push⟩ (
  lkp_c (P := OkP 212) ⟨(PuOK.ok (ok_isub dX1_billAt_14)), m_iop⟩ (
  lkp_c (P := OkP 212) ⟨(PuOK.ok (ok_i2l dX1_billAt_15)), m_i2l⟩ (
  lkp_c (P := OkP 212) ⟨ok_cs (tg_S ⟨rfl, by decide⟩ q1643 q1284 q115 q1285 ⟨cn_33.1, cn_33.2, pd_74⟩ dX1_billAt_16) hd_no, m_cs⟩ (
  lkp_c (P := OkP 212) ⟨ok_cs (tg_S ⟨rfl, by decide⟩ q1691 q1692 q115 q1693 ⟨cn_33.1, cn_33.2, pd_18⟩ dX1_billAt_19) hd_no, m_cs⟩ (
  lkp_c (P := OkP 212) ⟨(PuOK.ok (ok_aload_n dX1_billAt_22 rfl)), m_aload⟩ (
  lkp_c (P := OkP 212) ⟨ok_get ⟨"TollRoad", q664, Or.inl rfl⟩ dX1_billAt_23, m_get⟩ (
  lkp_c (P := OkP 212) ⟨ok_getN ⟨"TollRoad$World", "TollRoad", q644, Or.inl rfl⟩ dX1_billAt_26, m_get⟩ (
  lkp_c (P := OkP 212) ⟨(PuOK.ok (ok_iload_n dX1_billAt_29 rfl)), m_iload⟩ (
  lkp_c (P := OkP 212) ⟨ok_cv (List.forall_mem_cons.mpr ⟨tg_V (ci := 3) (r := CLr 3) (y := 47) rfl ⟨rfl, by decide⟩ rfl q1806 q1807 q1808 q120 q1809 ⟨cn_15.1, cn_15.2, pd_27⟩ dX1_billAt_30, (List.forall_mem_nil _)⟩) hd_no, m_cv⟩ (
  lkp_c (P := OkP 212) ⟨ok_cast q804 cst_5 dX1_billAt_33, m_cast⟩ (
  lkp_c (P := OkP 212) ⟨ok_aret rfl (Or.inl ⟨_, rfl⟩) dX1_billAt_36, m_ret⟩ (
  trivial)))))))))))))))))))
theorem mt_212 : MtOK TB NT IT 212 := ⟨by decide +kernel, rfl, (fun h => by cases h), Or.inl ⟨rfl, rfl⟩, rfl, by decide, lk2_all (P := OkP 212) ⟨c_212_0, trivial⟩⟩
def dkwX1_billedGantry_1 : List UInt8 := [184, 0, 46, 184, 0, 50, 45, 180, 1, 128, 180, 1, 81, 28, 182, 0, 64, 192, 1, 92, 182, 1, 94, 172]
abbrev dktX1_billedGantry_1 : List UInt8 := dkwX1_billedGantry_1 ++ []
def dkwX1_billedGantry_0 : List UInt8 := [42, 27, 182, 1, 108, 78, 28, 133, 9, 45, 180, 1, 128, 180, 1, 81, 182, 0, 58, 4, 100, 133]
abbrev dktX1_billedGantry_0 : List UInt8 := dkwX1_billedGantry_0 ++ dktX1_billedGantry_1
theorem dksX1_billedGantry_0 : cX1_billedGantry.data.toList.drop 0 = dktX1_billedGantry_0 := by decide +kernel
theorem dksX1_billedGantry_1 : cX1_billedGantry.data.toList.drop 22 = dktX1_billedGantry_1 := dk_seg dksX1_billedGantry_0 22 rfl rfl
theorem dX1_billedGantry_0 : decode cX1_billedGantry 0 = .ok (.aload_n 0, 1) := dk_42 (dk_at dksX1_billedGantry_0 0 rfl rfl)
theorem dX1_billedGantry_1 : decode cX1_billedGantry 1 = .ok (.iload_n 1, 1) := dk_27 (dk_at dksX1_billedGantry_0 1 rfl rfl)
theorem dX1_billedGantry_2 : decode cX1_billedGantry 2 = .ok (.invokevirtual 364, 3) := dk_182 1 108 (dk_at dksX1_billedGantry_0 2 rfl rfl)
theorem dX1_billedGantry_5 : decode cX1_billedGantry 5 = .ok (.astore_n 3, 1) := dk_78 (dk_at dksX1_billedGantry_0 5 rfl rfl)
theorem dX1_billedGantry_6 : decode cX1_billedGantry 6 = .ok (.iload_n 2, 1) := dk_28 (dk_at dksX1_billedGantry_0 6 rfl rfl)
theorem dX1_billedGantry_7 : decode cX1_billedGantry 7 = .ok (.i2l, 1) := dk_133 (dk_at dksX1_billedGantry_0 7 rfl rfl)
theorem dX1_billedGantry_8 : decode cX1_billedGantry 8 = .ok (.lconst 0, 1) := dk_9 (dk_at dksX1_billedGantry_0 8 rfl rfl)
theorem dX1_billedGantry_9 : decode cX1_billedGantry 9 = .ok (.aload_n 3, 1) := dk_45 (dk_at dksX1_billedGantry_0 9 rfl rfl)
theorem dX1_billedGantry_10 : decode cX1_billedGantry 10 = .ok (.getfield 384, 3) := dk_180 1 128 (dk_at dksX1_billedGantry_0 10 rfl rfl)
theorem dX1_billedGantry_13 : decode cX1_billedGantry 13 = .ok (.getfield 337, 3) := dk_180 1 81 (dk_at dksX1_billedGantry_0 13 rfl rfl)
theorem dX1_billedGantry_16 : decode cX1_billedGantry 16 = .ok (.invokevirtual 58, 3) := dk_182 0 58 (dk_at dksX1_billedGantry_0 16 rfl rfl)
theorem dX1_billedGantry_19 : decode cX1_billedGantry 19 = .ok (.iconst 1, 1) := dk_4 (dk_at dksX1_billedGantry_0 19 rfl rfl)
theorem dX1_billedGantry_20 : decode cX1_billedGantry 20 = .ok (.isub, 1) := dk_100 (dk_at dksX1_billedGantry_0 20 rfl rfl)
theorem dX1_billedGantry_21 : decode cX1_billedGantry 21 = .ok (.i2l, 1) := dk_133 (dk_at dksX1_billedGantry_0 21 rfl rfl)
theorem dX1_billedGantry_22 : decode cX1_billedGantry 22 = .ok (.invokestatic 46, 3) := dk_184 0 46 (dk_at dksX1_billedGantry_1 0 rfl rfl)
theorem dX1_billedGantry_25 : decode cX1_billedGantry 25 = .ok (.invokestatic 50, 3) := dk_184 0 50 (dk_at dksX1_billedGantry_1 3 rfl rfl)
theorem dX1_billedGantry_28 : decode cX1_billedGantry 28 = .ok (.aload_n 3, 1) := dk_45 (dk_at dksX1_billedGantry_1 6 rfl rfl)
theorem dX1_billedGantry_29 : decode cX1_billedGantry 29 = .ok (.getfield 384, 3) := dk_180 1 128 (dk_at dksX1_billedGantry_1 7 rfl rfl)
theorem dX1_billedGantry_32 : decode cX1_billedGantry 32 = .ok (.getfield 337, 3) := dk_180 1 81 (dk_at dksX1_billedGantry_1 10 rfl rfl)
theorem dX1_billedGantry_35 : decode cX1_billedGantry 35 = .ok (.iload_n 2, 1) := dk_28 (dk_at dksX1_billedGantry_1 13 rfl rfl)
theorem dX1_billedGantry_36 : decode cX1_billedGantry 36 = .ok (.invokevirtual 64, 3) := dk_182 0 64 (dk_at dksX1_billedGantry_1 14 rfl rfl)
theorem dX1_billedGantry_39 : decode cX1_billedGantry 39 = .ok (.checkcast 348, 3) := dk_192 1 92 (dk_at dksX1_billedGantry_1 17 rfl rfl)
theorem dX1_billedGantry_42 : decode cX1_billedGantry 42 = .ok (.invokevirtual 350, 3) := dk_182 1 94 (dk_at dksX1_billedGantry_1 20 rfl rfl)
theorem dX1_billedGantry_45 : decode cX1_billedGantry 45 = .ok (.ireturn, 1) := dk_172 (dk_at dksX1_billedGantry_1 23 rfl rfl)
theorem c_213_0 : LkP (OkP 213) [(0, o_aload 0 1), (1, o_iload 1 1), (2, o_cv [(0, 212)] 1 3 false none), (5, o_astore 3 1), (6, o_iload 2 1), (7, o_i2l), (8, o_push 1 (.long 0)), (9, o_aload 3 1), (10, o_get 140), (13, o_get 128), (16, o_cv [(3, 42)] 0 3 false none), (19, o_push 1 (.int 1)), (20, o_iop (fun x y => x - y)), (21, o_i2l), (22, o_cs 165 3 false none), (25, o_cs 176 1 true none), (28, o_aload 3 1), (29, o_get 140), (32, o_get 128), (35, o_iload 2 1), (36, o_cv [(3, 47)] 1 3 false none), (39, o_cast [21]), (42, o_cvs [(21, 21)] 0 3 false), (45, o_ret 1)] := lkp_c (P := OkP 213) ⟨(PuOK.ok (ok_aload_n dX1_billedGantry_0 rfl)), m_aload⟩ (
  lkp_c (P := OkP 213) ⟨(PuOK.ok (ok_iload_n dX1_billedGantry_1 rfl)), m_iload⟩ (
  lkp_c (P := OkP 213) ⟨ok_cv (List.forall_mem_cons.mpr ⟨tg_V (ci := 0) (r := CLr 0) (y := 212) rfl ⟨rfl, by decide⟩ rfl q2861 q2863 qs35 q115 q2864 ⟨cn_33.1, cn_33.2, pd_93⟩ dX1_billedGantry_2, (List.forall_mem_nil _)⟩) hd_no, m_cv⟩ (
  lkp_c (P := OkP 213) ⟨(PuOK.ok (ok_astore_n dX1_billedGantry_5 rfl)), m_astore⟩ (
  lkp_c (P := OkP 213) ⟨(PuOK.ok (ok_iload_n dX1_billedGantry_6 rfl)), m_iload⟩ (
  lkp_c (P := OkP 213) ⟨(PuOK.ok (ok_i2l dX1_billedGantry_7)), m_i2l⟩ (
  lkp_c (P := OkP 213) ⟨(PuOK.ok (ok_lconst dX1_billedGantry_8 rfl)), m_push⟩ (
  lkp_c (P := OkP 213) ⟨(PuOK.ok (ok_aload_n dX1_billedGantry_9 rfl)), m_aload⟩ (
  lkp_c (P := OkP 213) ⟨ok_getN ⟨"TollRoad$Bill", "TollRoad", q2647, Or.inl rfl⟩ dX1_billedGantry_10, m_get⟩ (
  lkp_c (P := OkP 213) ⟨ok_getN ⟨"TollRoad$Trip", "TollRoad", q2499, Or.inl rfl⟩ dX1_billedGantry_13, m_get⟩ (
  lkp_c (P := OkP 213) ⟨ok_cv (List.forall_mem_cons.mpr ⟨tg_V (ci := 3) (r := CLr 3) (y := 42) rfl ⟨rfl, by decide⟩ rfl q1256 q1257 q1258 q120 q1259 ⟨cn_15.1, cn_15.2, pd_13⟩ dX1_billedGantry_16, (List.forall_mem_nil _)⟩) hd_no, m_cv⟩ (
  lkp_c (P := OkP 213) ⟨(PuOK.ok (ok_iconst dX1_billedGantry_19 rfl)), m_push⟩ (
  lkp_c (P := OkP 213) ⟨(PuOK.ok (ok_isub dX1_billedGantry_20)), m_iop⟩ (
  lkp_c (P := OkP 213) ⟨(PuOK.ok (ok_i2l dX1_billedGantry_21)), m_i2l⟩ (
  lkp_c (P := OkP 213) ⟨ok_cs (tg_S ⟨rfl, by decide⟩ q1643 q1284 q115 q1285 ⟨cn_33.1, cn_33.2, pd_74⟩ dX1_billedGantry_22) hd_no, m_cs⟩ (
  lkp_c (P := OkP 213) ⟨ok_cs (tg_S ⟨rfl, by decide⟩ q1691 q1692 q115 q1693 ⟨cn_33.1, cn_33.2, pd_18⟩ dX1_billedGantry_25) hd_no, m_cs⟩ (
  lkp_c (P := OkP 213) ⟨(PuOK.ok (ok_aload_n dX1_billedGantry_28 rfl)), m_aload⟩ (
  lkp_c (P := OkP 213) ⟨ok_getN ⟨"TollRoad$Bill", "TollRoad", q2647, Or.inl rfl⟩ dX1_billedGantry_29, m_get⟩ (
  lkp_c (P := OkP 213) ⟨ok_getN ⟨"TollRoad$Trip", "TollRoad", q2499, Or.inl rfl⟩ dX1_billedGantry_32, m_get⟩ (
  lkp_c (P := OkP 213) ⟨(PuOK.ok (ok_iload_n dX1_billedGantry_35 rfl)), m_iload⟩ (
  lkp_c (P := OkP 213) ⟨ok_cv (List.forall_mem_cons.mpr ⟨tg_V (ci := 3) (r := CLr 3) (y := 47) rfl ⟨rfl, by decide⟩ rfl q1806 q1807 q1808 q120 q1809 ⟨cn_15.1, cn_15.2, pd_27⟩ dX1_billedGantry_36, (List.forall_mem_nil _)⟩) hd_no, m_cv⟩ (
  lkp_c (P := OkP 213) ⟨ok_cast q2560 cst_1 dX1_billedGantry_39, m_cast⟩ (
  lkp_c (P := OkP 213) ⟨ok_cvs (List.forall_mem_cons.mpr ⟨tg_V (ci := 21) (r := CLr 21) (y := 21) rfl ⟨rfl, by decide⟩ rfl q2561 q968 q969 q136 q970 ⟨cn_6.1, cn_6.2, pd_13⟩ dX1_billedGantry_42, (List.forall_mem_nil _)⟩) hd_no, m_cvs⟩ (
  lkp_c (P := OkP 213) ⟨ok_iret rfl rfl (by decide) dX1_billedGantry_45, m_ret⟩ (
  trivial))))))))))))))))))))))))
theorem mt_213 : MtOK TB NT IT 213 := ⟨by decide +kernel, rfl, (fun h => by cases h), Or.inl ⟨rfl, rfl⟩, rfl, by decide, lk2_all (P := OkP 213) ⟨c_213_0, trivial⟩⟩
def dkwX1_dispute_1 : List UInt8 := [154, 0, 7, 4, 167, 0, 4, 3, 184, 0, 82, 42, 180, 0, 19, 45, 28, 182, 1, 137, 172]
abbrev dktX1_dispute_1 : List UInt8 := dkwX1_dispute_1 ++ []
def dkwX1_dispute_0 : List UInt8 := [42, 27, 182, 1, 108, 78, 28, 133, 9, 20, 1, 135, 184, 0, 46, 184, 0, 79, 45, 180, 0, 170]
abbrev dktX1_dispute_0 : List UInt8 := dkwX1_dispute_0 ++ dktX1_dispute_1
theorem dksX1_dispute_0 : cX1_dispute.data.toList.drop 0 = dktX1_dispute_0 := by decide +kernel
theorem dksX1_dispute_1 : cX1_dispute.data.toList.drop 22 = dktX1_dispute_1 := dk_seg dksX1_dispute_0 22 rfl rfl
theorem dX1_dispute_0 : decode cX1_dispute 0 = .ok (.aload_n 0, 1) := dk_42 (dk_at dksX1_dispute_0 0 rfl rfl)
theorem dX1_dispute_1 : decode cX1_dispute 1 = .ok (.iload_n 1, 1) := dk_27 (dk_at dksX1_dispute_0 1 rfl rfl)
theorem dX1_dispute_2 : decode cX1_dispute 2 = .ok (.invokevirtual 364, 3) := dk_182 1 108 (dk_at dksX1_dispute_0 2 rfl rfl)
theorem dX1_dispute_5 : decode cX1_dispute 5 = .ok (.astore_n 3, 1) := dk_78 (dk_at dksX1_dispute_0 5 rfl rfl)
theorem dX1_dispute_6 : decode cX1_dispute 6 = .ok (.iload_n 2, 1) := dk_28 (dk_at dksX1_dispute_0 6 rfl rfl)
theorem dX1_dispute_7 : decode cX1_dispute 7 = .ok (.i2l, 1) := dk_133 (dk_at dksX1_dispute_0 7 rfl rfl)
theorem dX1_dispute_8 : decode cX1_dispute 8 = .ok (.lconst 0, 1) := dk_9 (dk_at dksX1_dispute_0 8 rfl rfl)
theorem dX1_dispute_9 : decode cX1_dispute 9 = .ok (.ldc2_w 391, 3) := dk_20 1 135 (dk_at dksX1_dispute_0 9 rfl rfl)
theorem dX1_dispute_12 : decode cX1_dispute 12 = .ok (.invokestatic 46, 3) := dk_184 0 46 (dk_at dksX1_dispute_0 12 rfl rfl)
theorem dX1_dispute_15 : decode cX1_dispute 15 = .ok (.invokestatic 79, 3) := dk_184 0 79 (dk_at dksX1_dispute_0 15 rfl rfl)
theorem dX1_dispute_18 : decode cX1_dispute 18 = .ok (.aload_n 3, 1) := dk_45 (dk_at dksX1_dispute_0 18 rfl rfl)
theorem dX1_dispute_19 : decode cX1_dispute 19 = .ok (.getfield 170, 3) := dk_180 0 170 (dk_at dksX1_dispute_0 19 rfl rfl)
theorem dX1_dispute_22 : decode cX1_dispute 22 = .ok (.ifCond .ne 7, 3) := dk_154 0 7 (dk_at dksX1_dispute_1 0 rfl rfl)
theorem dX1_dispute_25 : decode cX1_dispute 25 = .ok (.iconst 1, 1) := dk_4 (dk_at dksX1_dispute_1 3 rfl rfl)
theorem dX1_dispute_26 : decode cX1_dispute 26 = .ok (.goto 4, 3) := dk_167 0 4 (dk_at dksX1_dispute_1 4 rfl rfl)
theorem dX1_dispute_29 : decode cX1_dispute 29 = .ok (.iconst 0, 1) := dk_3 (dk_at dksX1_dispute_1 7 rfl rfl)
theorem dX1_dispute_30 : decode cX1_dispute 30 = .ok (.invokestatic 82, 3) := dk_184 0 82 (dk_at dksX1_dispute_1 8 rfl rfl)
theorem dX1_dispute_33 : decode cX1_dispute 33 = .ok (.aload_n 0, 1) := dk_42 (dk_at dksX1_dispute_1 11 rfl rfl)
theorem dX1_dispute_34 : decode cX1_dispute 34 = .ok (.getfield 19, 3) := dk_180 0 19 (dk_at dksX1_dispute_1 12 rfl rfl)
theorem dX1_dispute_37 : decode cX1_dispute 37 = .ok (.aload_n 3, 1) := dk_45 (dk_at dksX1_dispute_1 15 rfl rfl)
theorem dX1_dispute_38 : decode cX1_dispute 38 = .ok (.iload_n 2, 1) := dk_28 (dk_at dksX1_dispute_1 16 rfl rfl)
theorem dX1_dispute_39 : decode cX1_dispute 39 = .ok (.invokevirtual 393, 3) := dk_182 1 137 (dk_at dksX1_dispute_1 17 rfl rfl)
theorem dX1_dispute_42 : decode cX1_dispute 42 = .ok (.ireturn, 1) := dk_172 (dk_at dksX1_dispute_1 20 rfl rfl)
theorem c_214_0 : LkP (OkP 214) [(0, o_aload 0 1), (1, o_iload 1 1), (2, o_cv [(0, 212)] 1 3 false none), (5, o_astore 3 1), (6, o_iload 2 1), (7, o_i2l), (8, o_push 1 (.long 0)), (9, o_push 3 (.long 2)), (12, o_cs 165 3 false none), (15, o_cs 172 1 true none), (18, o_aload 3 1), (19, o_get 141), (22, o_if (fun x => decide (¬ x = 0)) 29), (25, o_push 1 (.int 1)), (26, o_goto 30), (29, o_push 1 (.int 0)), (30, o_cs 170 1 true none), (33, o_aload 0 1), (34, o_get 0), (37, o_aload 3 1), (38, o_iload 2 1), (39, o_cv [(1, 273)] 2 3 false none), (42, o_ret 1)] := lkp_c (P := OkP 214) ⟨(PuOK.ok (ok_aload_n dX1_dispute_0 rfl)), m_aload⟩ (
  lkp_c (P := OkP 214) ⟨(PuOK.ok (ok_iload_n dX1_dispute_1 rfl)), m_iload⟩ (
  lkp_c (P := OkP 214) ⟨ok_cv (List.forall_mem_cons.mpr ⟨tg_V (ci := 0) (r := CLr 0) (y := 212) rfl ⟨rfl, by decide⟩ rfl q2861 q2863 qs35 q115 q2864 ⟨cn_33.1, cn_33.2, pd_93⟩ dX1_dispute_2, (List.forall_mem_nil _)⟩) hd_no, m_cv⟩ (
  lkp_c (P := OkP 214) ⟨(PuOK.ok (ok_astore_n dX1_dispute_5 rfl)), m_astore⟩ (
  lkp_c (P := OkP 214) ⟨(PuOK.ok (ok_iload_n dX1_dispute_6 rfl)), m_iload⟩ (
  lkp_c (P := OkP 214) ⟨(PuOK.ok (ok_i2l dX1_dispute_7)), m_i2l⟩ (
  lkp_c (P := OkP 214) ⟨(PuOK.ok (ok_lconst dX1_dispute_8 rfl)), m_push⟩ (
  lkp_c (P := OkP 214) ⟨(PuOK.ok (ok_ldc2 q2886 dX1_dispute_9)), m_push⟩ (
  lkp_c (P := OkP 214) ⟨ok_cs (tg_S ⟨rfl, by decide⟩ q1643 q1284 q115 q1285 ⟨cn_33.1, cn_33.2, pd_74⟩ dX1_dispute_12) hd_no, m_cs⟩ (
  lkp_c (P := OkP 214) ⟨ok_cs (tg_S ⟨rfl, by decide⟩ q1644 q1645 q115 q1646 ⟨cn_33.1, cn_33.2, pd_18⟩ dX1_dispute_15) hd_no, m_cs⟩ (
  lkp_c (P := OkP 214) ⟨(PuOK.ok (ok_aload_n dX1_dispute_18 rfl)), m_aload⟩ (
  lkp_c (P := OkP 214) ⟨ok_getN ⟨"TollRoad$Bill", "TollRoad", q2649, Or.inl rfl⟩ dX1_dispute_19, m_get⟩ (
  lkp_c (P := OkP 214) ⟨(PuOK.ok (ok_if_ne dX1_dispute_22 rfl)), m_if⟩ (
  lkp_c (P := OkP 214) ⟨(PuOK.ok (ok_iconst dX1_dispute_25 rfl)), m_push⟩ (
  lkp_c (P := OkP 214) ⟨(PuOK.ok (ok_goto dX1_dispute_26 rfl)), m_goto⟩ (
  lkp_c (P := OkP 214) ⟨(PuOK.ok (ok_iconst dX1_dispute_29 rfl)), m_push⟩ (
  lkp_c (P := OkP 214) ⟨ok_cs (tg_S ⟨rfl, by decide⟩ q1611 q1612 q115 q1613 ⟨cn_33.1, cn_33.2, pd_18⟩ dX1_dispute_30) hd_no, m_cs⟩ (
  lkp_c (P := OkP 214) ⟨(PuOK.ok (ok_aload_n dX1_dispute_33 rfl)), m_aload⟩ (
  lkp_c (P := OkP 214) ⟨ok_get ⟨"TollRoad", q664, Or.inl rfl⟩ dX1_dispute_34, m_get⟩ (
  lkp_c (P := OkP 214) ⟨(PuOK.ok (ok_aload_n dX1_dispute_37 rfl)), m_aload⟩ (
  lkp_c (P := OkP 214) ⟨(PuOK.ok (ok_iload_n dX1_dispute_38 rfl)), m_iload⟩ (
  lkp_c (P := OkP 214) ⟨ok_cv (List.forall_mem_cons.mpr ⟨tg_VW (ci := 1) (r := CLr 1) (y := 273) rfl ⟨rfl, by decide⟩ rfl q2887 q2888 q2889 q116 q2890 ⟨cn_36.1, cn_36.2, pd_94⟩ dX1_dispute_39, (List.forall_mem_nil _)⟩) hd_no, m_cv⟩ (
  lkp_c (P := OkP 214) ⟨ok_iret rfl rfl (by decide) dX1_dispute_42, m_ret⟩ (
  trivial)))))))))))))))))))))))
theorem mt_214 : MtOK TB NT IT 214 := ⟨by decide +kernel, rfl, (fun h => by cases h), Or.inl ⟨rfl, rfl⟩, rfl, by decide, lk2_all (P := OkP 214) ⟨c_214_0, trivial⟩⟩
def dkwX1_disputable_3 : List UInt8 := [96, 61, 167, 255, 207, 28, 172]
abbrev dktX1_disputable_3 : List UInt8 := dkwX1_disputable_3 ++ []
def dkwX1_disputable_2 : List UInt8 := [180, 0, 170, 154, 0, 20, 42, 180, 0, 19, 25, 4, 27, 182, 1, 140, 158, 0, 7, 4, 167, 0, 4, 3]
abbrev dktX1_disputable_2 : List UInt8 := dkwX1_disputable_2 ++ dktX1_disputable_3
def dkwX1_disputable_1 : List UInt8 := [78, 45, 185, 0, 150, 1, 0, 153, 0, 46, 45, 185, 0, 156, 1, 0, 192, 0, 168, 58, 4, 28, 25, 4]
abbrev dktX1_disputable_1 : List UInt8 := dkwX1_disputable_1 ++ dktX1_disputable_2
def dkwX1_disputable_0 : List UInt8 := [27, 133, 9, 20, 1, 135, 184, 0, 46, 184, 0, 79, 3, 61, 42, 180, 0, 19, 180, 0, 165, 182, 0, 146]
abbrev dktX1_disputable_0 : List UInt8 := dkwX1_disputable_0 ++ dktX1_disputable_1
theorem dksX1_disputable_0 : cX1_disputable.data.toList.drop 0 = dktX1_disputable_0 := by decide +kernel
theorem dksX1_disputable_1 : cX1_disputable.data.toList.drop 24 = dktX1_disputable_1 := dk_seg dksX1_disputable_0 24 rfl rfl
theorem dksX1_disputable_2 : cX1_disputable.data.toList.drop 48 = dktX1_disputable_2 := dk_seg dksX1_disputable_1 24 rfl rfl
theorem dksX1_disputable_3 : cX1_disputable.data.toList.drop 72 = dktX1_disputable_3 := dk_seg dksX1_disputable_2 24 rfl rfl
theorem dX1_disputable_0 : decode cX1_disputable 0 = .ok (.iload_n 1, 1) := dk_27 (dk_at dksX1_disputable_0 0 rfl rfl)
theorem dX1_disputable_1 : decode cX1_disputable 1 = .ok (.i2l, 1) := dk_133 (dk_at dksX1_disputable_0 1 rfl rfl)
theorem dX1_disputable_2 : decode cX1_disputable 2 = .ok (.lconst 0, 1) := dk_9 (dk_at dksX1_disputable_0 2 rfl rfl)
theorem dX1_disputable_3 : decode cX1_disputable 3 = .ok (.ldc2_w 391, 3) := dk_20 1 135 (dk_at dksX1_disputable_0 3 rfl rfl)
theorem dX1_disputable_6 : decode cX1_disputable 6 = .ok (.invokestatic 46, 3) := dk_184 0 46 (dk_at dksX1_disputable_0 6 rfl rfl)
theorem dX1_disputable_9 : decode cX1_disputable 9 = .ok (.invokestatic 79, 3) := dk_184 0 79 (dk_at dksX1_disputable_0 9 rfl rfl)
theorem dX1_disputable_12 : decode cX1_disputable 12 = .ok (.iconst 0, 1) := dk_3 (dk_at dksX1_disputable_0 12 rfl rfl)
theorem dX1_disputable_13 : decode cX1_disputable 13 = .ok (.istore_n 2, 1) := dk_61 (dk_at dksX1_disputable_0 13 rfl rfl)
theorem dX1_disputable_14 : decode cX1_disputable 14 = .ok (.aload_n 0, 1) := dk_42 (dk_at dksX1_disputable_0 14 rfl rfl)
theorem dX1_disputable_15 : decode cX1_disputable 15 = .ok (.getfield 19, 3) := dk_180 0 19 (dk_at dksX1_disputable_0 15 rfl rfl)
theorem dX1_disputable_18 : decode cX1_disputable 18 = .ok (.getfield 165, 3) := dk_180 0 165 (dk_at dksX1_disputable_0 18 rfl rfl)
theorem dX1_disputable_21 : decode cX1_disputable 21 = .ok (.invokevirtual 146, 3) := dk_182 0 146 (dk_at dksX1_disputable_0 21 rfl rfl)
theorem dX1_disputable_24 : decode cX1_disputable 24 = .ok (.astore_n 3, 1) := dk_78 (dk_at dksX1_disputable_1 0 rfl rfl)
theorem dX1_disputable_25 : decode cX1_disputable 25 = .ok (.aload_n 3, 1) := dk_45 (dk_at dksX1_disputable_1 1 rfl rfl)
theorem dX1_disputable_26 : decode cX1_disputable 26 = .ok (.invokeinterface 150 1, 5) := by decide +kernel
theorem dX1_disputable_31 : decode cX1_disputable 31 = .ok (.ifCond .eq 46, 3) := dk_153 0 46 (dk_at dksX1_disputable_1 7 rfl rfl)
theorem dX1_disputable_34 : decode cX1_disputable 34 = .ok (.aload_n 3, 1) := dk_45 (dk_at dksX1_disputable_1 10 rfl rfl)
theorem dX1_disputable_35 : decode cX1_disputable 35 = .ok (.invokeinterface 156 1, 5) := by decide +kernel
theorem dX1_disputable_40 : decode cX1_disputable 40 = .ok (.checkcast 168, 3) := dk_192 0 168 (dk_at dksX1_disputable_1 16 rfl rfl)
theorem dX1_disputable_43 : decode cX1_disputable 43 = .ok (.astore 4, 2) := dk_58 4 (dk_at dksX1_disputable_1 19 rfl rfl)
theorem dX1_disputable_45 : decode cX1_disputable 45 = .ok (.iload_n 2, 1) := dk_28 (dk_at dksX1_disputable_1 21 rfl rfl)
theorem dX1_disputable_46 : decode cX1_disputable 46 = .ok (.aload 4, 2) := dk_25 4 (dk_at dksX1_disputable_1 22 rfl rfl)
theorem dX1_disputable_48 : decode cX1_disputable 48 = .ok (.getfield 170, 3) := dk_180 0 170 (dk_at dksX1_disputable_2 0 rfl rfl)
theorem dX1_disputable_51 : decode cX1_disputable 51 = .ok (.ifCond .ne 20, 3) := dk_154 0 20 (dk_at dksX1_disputable_2 3 rfl rfl)
theorem dX1_disputable_54 : decode cX1_disputable 54 = .ok (.aload_n 0, 1) := dk_42 (dk_at dksX1_disputable_2 6 rfl rfl)
theorem dX1_disputable_55 : decode cX1_disputable 55 = .ok (.getfield 19, 3) := dk_180 0 19 (dk_at dksX1_disputable_2 7 rfl rfl)
theorem dX1_disputable_58 : decode cX1_disputable 58 = .ok (.aload 4, 2) := dk_25 4 (dk_at dksX1_disputable_2 10 rfl rfl)
theorem dX1_disputable_60 : decode cX1_disputable 60 = .ok (.iload_n 1, 1) := dk_27 (dk_at dksX1_disputable_2 12 rfl rfl)
theorem dX1_disputable_61 : decode cX1_disputable 61 = .ok (.invokevirtual 396, 3) := dk_182 1 140 (dk_at dksX1_disputable_2 13 rfl rfl)
theorem dX1_disputable_64 : decode cX1_disputable 64 = .ok (.ifCond .le 7, 3) := dk_158 0 7 (dk_at dksX1_disputable_2 16 rfl rfl)
theorem dX1_disputable_67 : decode cX1_disputable 67 = .ok (.iconst 1, 1) := dk_4 (dk_at dksX1_disputable_2 19 rfl rfl)
theorem dX1_disputable_68 : decode cX1_disputable 68 = .ok (.goto 4, 3) := dk_167 0 4 (dk_at dksX1_disputable_2 20 rfl rfl)
theorem dX1_disputable_71 : decode cX1_disputable 71 = .ok (.iconst 0, 1) := dk_3 (dk_at dksX1_disputable_2 23 rfl rfl)
theorem dX1_disputable_72 : decode cX1_disputable 72 = .ok (.iadd, 1) := dk_96 (dk_at dksX1_disputable_3 0 rfl rfl)
theorem dX1_disputable_73 : decode cX1_disputable 73 = .ok (.istore_n 2, 1) := dk_61 (dk_at dksX1_disputable_3 1 rfl rfl)
theorem dX1_disputable_74 : decode cX1_disputable 74 = .ok (.goto (-49), 3) := dk_167 255 207 (dk_at dksX1_disputable_3 2 rfl rfl)
theorem dX1_disputable_77 : decode cX1_disputable 77 = .ok (.iload_n 2, 1) := dk_28 (dk_at dksX1_disputable_3 5 rfl rfl)
theorem dX1_disputable_78 : decode cX1_disputable 78 = .ok (.ireturn, 1) := dk_172 (dk_at dksX1_disputable_3 6 rfl rfl)
theorem c_215_0 : LkP (OkP 215) [(0, o_iload 1 1), (1, o_i2l), (2, o_push 1 (.long 0)), (3, o_push 3 (.long 2)), (6, o_cs 165 3 false none), (9, o_cs 172 1 true none), (12, o_push 1 (.int 0)), (13, o_istore 2 1), (14, o_aload 0 1), (15, o_get 0), (18, o_get 12), (21, o_cv [(3, 40)] 0 3 false none), (24, o_astore 3 1), (25, o_aload 3 1), (26, o_cv [(7, 50), (24, 86), (25, 92)] 0 5 false none), (31, o_if (fun x => decide (x = 0)) 77), (34, o_aload 3 1), (35, o_cv [(7, 51), (24, 89), (25, 95)] 0 5 false none), (40, o_cast [27]), (43, o_astore 4 2), (45, o_iload 2 1), (46, o_aload 4 2), (48, o_get 141), (51, o_if (fun x => decide (¬ x = 0)) 71), (54, o_aload 0 1), (55, o_get 0), (58, o_aload 4 2), (60, o_iload 1 1), (61, o_cv [(1, 274)] 2 3 false none)] := lkp_c (P := OkP 215) ⟨(PuOK.ok (ok_iload_n dX1_disputable_0 rfl)), m_iload⟩ (
  lkp_c (P := OkP 215) ⟨(PuOK.ok (ok_i2l dX1_disputable_1)), m_i2l⟩ (
  lkp_c (P := OkP 215) ⟨(PuOK.ok (ok_lconst dX1_disputable_2 rfl)), m_push⟩ (
  lkp_c (P := OkP 215) ⟨(PuOK.ok (ok_ldc2 q2886 dX1_disputable_3)), m_push⟩ (
  lkp_c (P := OkP 215) ⟨ok_cs (tg_S ⟨rfl, by decide⟩ q1643 q1284 q115 q1285 ⟨cn_33.1, cn_33.2, pd_74⟩ dX1_disputable_6) hd_no, m_cs⟩ (
  lkp_c (P := OkP 215) ⟨ok_cs (tg_S ⟨rfl, by decide⟩ q1644 q1645 q115 q1646 ⟨cn_33.1, cn_33.2, pd_18⟩ dX1_disputable_9) hd_no, m_cs⟩ (
  lkp_c (P := OkP 215) ⟨(PuOK.ok (ok_iconst dX1_disputable_12 rfl)), m_push⟩ (
  lkp_c (P := OkP 215) ⟨(PuOK.ok (ok_istore_n dX1_disputable_13 rfl)), m_istore⟩ (
  lkp_c (P := OkP 215) ⟨(PuOK.ok (ok_aload_n dX1_disputable_14 rfl)), m_aload⟩ (
  lkp_c (P := OkP 215) ⟨ok_get ⟨"TollRoad", q664, Or.inl rfl⟩ dX1_disputable_15, m_get⟩ (
  lkp_c (P := OkP 215) ⟨ok_getN ⟨"TollRoad$World", "TollRoad", q644, Or.inl rfl⟩ dX1_disputable_18, m_get⟩ (
  lkp_c (P := OkP 215) ⟨ok_cv (List.forall_mem_cons.mpr ⟨tg_V (ci := 3) (r := CLr 3) (y := 40) rfl ⟨rfl, by decide⟩ rfl q688 q689 q690 q120 q691 ⟨cn_15.1, cn_15.2, pd_70⟩ dX1_disputable_21, (List.forall_mem_nil _)⟩) hd_no, m_cv⟩ (
  lkp_c (P := OkP 215) ⟨(PuOK.ok (ok_astore_n dX1_disputable_24 rfl)), m_astore⟩ (
  lkp_c (P := OkP 215) ⟨(PuOK.ok (ok_aload_n dX1_disputable_25 rfl)), m_aload⟩ (
  lkp_c (P := OkP 215) ⟨ok_cv (List.forall_mem_cons.mpr ⟨tg_F (ci := 7) (r := CLr 7) (y := 50) rfl ⟨rfl, by decide⟩ q712 q716 q718 q150 q720 q714 q713 q719 q717 q715 ⟨cn_37.1, cn_37.2, pd_50⟩ dX1_disputable_26, (List.forall_mem_cons.mpr ⟨tg_F (ci := 24) (r := CLr 24) (y := 86) rfl ⟨rfl, by decide⟩ q712 q722 q724 q168 q726 q714 q713 q725 q723 q721 ⟨cn_37.1, cn_37.2, pd_50⟩ dX1_disputable_26, (List.forall_mem_cons.mpr ⟨tg_F (ci := 25) (r := CLr 25) (y := 92) rfl ⟨rfl, by decide⟩ q712 q738 q740 q171 q742 q714 q713 q741 q739 q737 ⟨cn_37.1, cn_37.2, pd_50⟩ dX1_disputable_26, (List.forall_mem_nil _)⟩)⟩)⟩) hd_no, m_cv⟩ (
  lkp_c (P := OkP 215) ⟨(PuOK.ok (ok_if_eq dX1_disputable_31 rfl)), m_if⟩ (
  lkp_c (P := OkP 215) ⟨(PuOK.ok (ok_aload_n dX1_disputable_34 rfl)), m_aload⟩ (
  lkp_c (P := OkP 215) ⟨ok_cv (List.forall_mem_cons.mpr ⟨tg_F (ci := 7) (r := CLr 7) (y := 51) rfl ⟨rfl, by decide⟩ q744 q747 q749 q150 q751 q746 q745 q750 q748 q715 ⟨cn_37.1, cn_37.2, pd_71⟩ dX1_disputable_35, (List.forall_mem_cons.mpr ⟨tg_F (ci := 24) (r := CLr 24) (y := 89) rfl ⟨rfl, by decide⟩ q744 q756 q758 q169 q760 q746 q745 q759 q757 q721 ⟨cn_37.1, cn_37.2, pd_71⟩ dX1_disputable_35, (List.forall_mem_cons.mpr ⟨tg_F (ci := 25) (r := CLr 25) (y := 95) rfl ⟨rfl, by decide⟩ q744 q790 q792 q172 q794 q746 q745 q793 q791 q737 ⟨cn_37.1, cn_37.2, pd_71⟩ dX1_disputable_35, (List.forall_mem_nil _)⟩)⟩)⟩) hd_no, m_cv⟩ (
  lkp_c (P := OkP 215) ⟨ok_cast q804 cst_5 dX1_disputable_40, m_cast⟩ (
  lkp_c (P := OkP 215) ⟨(PuOK.ok (ok_astore dX1_disputable_43)), m_astore⟩ (
  lkp_c (P := OkP 215) ⟨(PuOK.ok (ok_iload_n dX1_disputable_45 rfl)), m_iload⟩ (
  lkp_c (P := OkP 215) ⟨(PuOK.ok (ok_aload dX1_disputable_46)), m_aload⟩ (
  lkp_c (P := OkP 215) ⟨ok_getN ⟨"TollRoad$Bill", "TollRoad", q2649, Or.inl rfl⟩ dX1_disputable_48, m_get⟩ (
  lkp_c (P := OkP 215) ⟨(PuOK.ok (ok_if_ne dX1_disputable_51 rfl)), m_if⟩ (
  lkp_c (P := OkP 215) ⟨(PuOK.ok (ok_aload_n dX1_disputable_54 rfl)), m_aload⟩ (
  lkp_c (P := OkP 215) ⟨ok_get ⟨"TollRoad", q664, Or.inl rfl⟩ dX1_disputable_55, m_get⟩ (
  lkp_c (P := OkP 215) ⟨(PuOK.ok (ok_aload dX1_disputable_58)), m_aload⟩ (
  lkp_c (P := OkP 215) ⟨(PuOK.ok (ok_iload_n dX1_disputable_60 rfl)), m_iload⟩ (
  lkp_c (P := OkP 215) ⟨ok_cv (List.forall_mem_cons.mpr ⟨tg_V (ci := 1) (r := CLr 1) (y := 274) rfl ⟨rfl, by decide⟩ rfl q2929 q2892 q2893 q116 q2894 ⟨cn_36.1, cn_36.2, pd_94⟩ dX1_disputable_61, (List.forall_mem_nil _)⟩) hd_no, m_cv⟩ (
  trivial)))))))))))))))))))))))))))))
theorem c_215_1 : LkP (OkP 215) [(64, o_if (fun x => decide (x ≤ 0)) 71), (67, o_push 1 (.int 1)), (68, o_goto 72), (71, o_push 1 (.int 0)), (72, o_iop (fun x y => x + y)), (73, o_istore 2 1), (74, o_goto 25), (77, o_iload 2 1), (78, o_ret 1)] := lkp_c (P := OkP 215) ⟨(PuOK.ok (ok_if_le dX1_disputable_64 rfl)), m_if⟩ (
  lkp_c (P := OkP 215) ⟨(PuOK.ok (ok_iconst dX1_disputable_67 rfl)), m_push⟩ (
  lkp_c (P := OkP 215) ⟨(PuOK.ok (ok_goto dX1_disputable_68 rfl)), m_goto⟩ (
  lkp_c (P := OkP 215) ⟨(PuOK.ok (ok_iconst dX1_disputable_71 rfl)), m_push⟩ (
  lkp_c (P := OkP 215) ⟨(PuOK.ok (ok_iadd dX1_disputable_72)), m_iop⟩ (
  lkp_c (P := OkP 215) ⟨(PuOK.ok (ok_istore_n dX1_disputable_73 rfl)), m_istore⟩ (
  lkp_c (P := OkP 215) ⟨(PuOK.ok (ok_goto dX1_disputable_74 rfl)), m_goto⟩ (
  lkp_c (P := OkP 215) ⟨(PuOK.ok (ok_iload_n dX1_disputable_77 rfl)), m_iload⟩ (
  lkp_c (P := OkP 215) ⟨ok_iret rfl rfl (by decide) dX1_disputable_78, m_ret⟩ (
  trivial)))))))))
theorem mt_215 : MtOK TB NT IT 215 := ⟨by decide +kernel, rfl, (fun h => by cases h), Or.inl ⟨rfl, rfl⟩, rfl, by decide, lk2_all (P := OkP 215) ⟨c_215_0, c_215_1, trivial⟩⟩
def dkwX1_gantry_3 : List UInt8 := [172, 42, 180, 0, 19, 27, 4, 182, 1, 145, 172]
abbrev dktX1_gantry_3 : List UInt8 := dkwX1_gantry_3 ++ []
def dkwX1_gantry_2 : List UInt8 := [42, 180, 0, 19, 180, 0, 37, 180, 1, 149, 27, 46, 172, 42, 27, 182, 1, 152, 172, 42, 27, 182, 1, 155]
abbrev dktX1_gantry_2 : List UInt8 := dkwX1_gantry_2 ++ dktX1_gantry_3
def dkwX1_gantry_1 : List UInt8 := [170, 0, 0, 0, 0, 51, 0, 0, 0, 0, 0, 0, 0, 2, 0, 0, 0, 26, 0, 0, 0, 39, 0, 0, 0, 45]
abbrev dktX1_gantry_1 : List UInt8 := dkwX1_gantry_1 ++ dktX1_gantry_2
def dkwX1_gantry_0 : List UInt8 := [42, 27, 182, 0, 89, 28, 133, 9, 20, 0, 251, 184, 0, 46, 184, 0, 79, 28]
abbrev dktX1_gantry_0 : List UInt8 := dkwX1_gantry_0 ++ dktX1_gantry_1
theorem dksX1_gantry_0 : cX1_gantry.data.toList.drop 0 = dktX1_gantry_0 := by decide +kernel
theorem dksX1_gantry_1 : cX1_gantry.data.toList.drop 18 = dktX1_gantry_1 := dk_seg dksX1_gantry_0 18 rfl rfl
theorem dksX1_gantry_2 : cX1_gantry.data.toList.drop 44 = dktX1_gantry_2 := dk_seg dksX1_gantry_1 26 rfl rfl
theorem dksX1_gantry_3 : cX1_gantry.data.toList.drop 68 = dktX1_gantry_3 := dk_seg dksX1_gantry_2 24 rfl rfl
theorem dX1_gantry_0 : decode cX1_gantry 0 = .ok (.aload_n 0, 1) := dk_42 (dk_at dksX1_gantry_0 0 rfl rfl)
theorem dX1_gantry_1 : decode cX1_gantry 1 = .ok (.iload_n 1, 1) := dk_27 (dk_at dksX1_gantry_0 1 rfl rfl)
theorem dX1_gantry_2 : decode cX1_gantry 2 = .ok (.invokevirtual 89, 3) := dk_182 0 89 (dk_at dksX1_gantry_0 2 rfl rfl)
theorem dX1_gantry_5 : decode cX1_gantry 5 = .ok (.iload_n 2, 1) := dk_28 (dk_at dksX1_gantry_0 5 rfl rfl)
theorem dX1_gantry_6 : decode cX1_gantry 6 = .ok (.i2l, 1) := dk_133 (dk_at dksX1_gantry_0 6 rfl rfl)
theorem dX1_gantry_7 : decode cX1_gantry 7 = .ok (.lconst 0, 1) := dk_9 (dk_at dksX1_gantry_0 7 rfl rfl)
theorem dX1_gantry_8 : decode cX1_gantry 8 = .ok (.ldc2_w 251, 3) := dk_20 0 251 (dk_at dksX1_gantry_0 8 rfl rfl)
theorem dX1_gantry_11 : decode cX1_gantry 11 = .ok (.invokestatic 46, 3) := dk_184 0 46 (dk_at dksX1_gantry_0 11 rfl rfl)
theorem dX1_gantry_14 : decode cX1_gantry 14 = .ok (.invokestatic 79, 3) := dk_184 0 79 (dk_at dksX1_gantry_0 14 rfl rfl)
theorem dX1_gantry_17 : decode cX1_gantry 17 = .ok (.iload_n 2, 1) := dk_28 (dk_at dksX1_gantry_0 17 rfl rfl)
theorem dX1_gantry_18 : decode cX1_gantry 18 = .ok (.tableswitch 51 0 2 #[26, 39, 45], 26) := by decide +kernel
theorem dX1_gantry_44 : decode cX1_gantry 44 = .ok (.aload_n 0, 1) := dk_42 (dk_at dksX1_gantry_2 0 rfl rfl)
theorem dX1_gantry_45 : decode cX1_gantry 45 = .ok (.getfield 19, 3) := dk_180 0 19 (dk_at dksX1_gantry_2 1 rfl rfl)
theorem dX1_gantry_48 : decode cX1_gantry 48 = .ok (.getfield 37, 3) := dk_180 0 37 (dk_at dksX1_gantry_2 4 rfl rfl)
theorem dX1_gantry_51 : decode cX1_gantry 51 = .ok (.getfield 405, 3) := dk_180 1 149 (dk_at dksX1_gantry_2 7 rfl rfl)
theorem dX1_gantry_54 : decode cX1_gantry 54 = .ok (.iload_n 1, 1) := dk_27 (dk_at dksX1_gantry_2 10 rfl rfl)
theorem dX1_gantry_55 : decode cX1_gantry 55 = .ok (.iaload, 1) := dk_46 (dk_at dksX1_gantry_2 11 rfl rfl)
theorem dX1_gantry_56 : decode cX1_gantry 56 = .ok (.ireturn, 1) := dk_172 (dk_at dksX1_gantry_2 12 rfl rfl)
theorem dX1_gantry_57 : decode cX1_gantry 57 = .ok (.aload_n 0, 1) := dk_42 (dk_at dksX1_gantry_2 13 rfl rfl)
theorem dX1_gantry_58 : decode cX1_gantry 58 = .ok (.iload_n 1, 1) := dk_27 (dk_at dksX1_gantry_2 14 rfl rfl)
theorem dX1_gantry_59 : decode cX1_gantry 59 = .ok (.invokevirtual 408, 3) := dk_182 1 152 (dk_at dksX1_gantry_2 15 rfl rfl)
theorem dX1_gantry_62 : decode cX1_gantry 62 = .ok (.ireturn, 1) := dk_172 (dk_at dksX1_gantry_2 18 rfl rfl)
theorem dX1_gantry_63 : decode cX1_gantry 63 = .ok (.aload_n 0, 1) := dk_42 (dk_at dksX1_gantry_2 19 rfl rfl)
theorem dX1_gantry_64 : decode cX1_gantry 64 = .ok (.iload_n 1, 1) := dk_27 (dk_at dksX1_gantry_2 20 rfl rfl)
theorem dX1_gantry_65 : decode cX1_gantry 65 = .ok (.invokevirtual 411, 3) := dk_182 1 155 (dk_at dksX1_gantry_2 21 rfl rfl)
theorem dX1_gantry_68 : decode cX1_gantry 68 = .ok (.ireturn, 1) := dk_172 (dk_at dksX1_gantry_3 0 rfl rfl)
theorem dX1_gantry_69 : decode cX1_gantry 69 = .ok (.aload_n 0, 1) := dk_42 (dk_at dksX1_gantry_3 1 rfl rfl)
theorem dX1_gantry_70 : decode cX1_gantry 70 = .ok (.getfield 19, 3) := dk_180 0 19 (dk_at dksX1_gantry_3 2 rfl rfl)
theorem dX1_gantry_73 : decode cX1_gantry 73 = .ok (.iload_n 1, 1) := dk_27 (dk_at dksX1_gantry_3 5 rfl rfl)
theorem dX1_gantry_74 : decode cX1_gantry 74 = .ok (.iconst 1, 1) := dk_4 (dk_at dksX1_gantry_3 6 rfl rfl)
theorem dX1_gantry_75 : decode cX1_gantry 75 = .ok (.invokevirtual 401, 3) := dk_182 1 145 (dk_at dksX1_gantry_3 7 rfl rfl)
theorem dX1_gantry_78 : decode cX1_gantry 78 = .ok (.ireturn, 1) := dk_172 (dk_at dksX1_gantry_3 10 rfl rfl)
theorem c_216_0 : LkP (OkP 216) [(0, o_aload 0 1), (1, o_iload 1 1), (2, o_cv [(0, 175)] 1 3 true none), (5, o_iload 2 1), (6, o_i2l), (7, o_push 1 (.long 0)), (8, o_push 3 (.long 3)), (11, o_cs 165 3 false none), (14, o_cs 172 1 true none), (17, o_iload 2 1), (18, o_sw (swt 0 [44, 57, 63] 69)), (44, o_aload 0 1), (45, o_get 0), (48, o_get 6), (51, o_get 14), (54, o_iload 1 1), (55, o_rdI 0), (56, o_ret 1), (57, o_aload 0 1), (58, o_iload 1 1), (59, o_cv [(0, 217)] 1 3 false none), (62, o_ret 1), (63, o_aload 0 1)] := lkp_c (P := OkP 216) ⟨(PuOK.ok (ok_aload_n dX1_gantry_0 rfl)), m_aload⟩ (
  lkp_c (P := OkP 216) ⟨(PuOK.ok (ok_iload_n dX1_gantry_1 rfl)), m_iload⟩ (
  lkp_c (P := OkP 216) ⟨ok_cv (List.forall_mem_cons.mpr ⟨tg_V (ci := 0) (r := CLr 0) (y := 175) rfl ⟨rfl, by decide⟩ rfl q1687 q1689 qs13 q115 q1690 ⟨cn_33.1, cn_33.2, pd_9⟩ dX1_gantry_2, (List.forall_mem_nil _)⟩) hd_no, m_cv⟩ (
  lkp_c (P := OkP 216) ⟨(PuOK.ok (ok_iload_n dX1_gantry_5 rfl)), m_iload⟩ (
  lkp_c (P := OkP 216) ⟨(PuOK.ok (ok_i2l dX1_gantry_6)), m_i2l⟩ (
  lkp_c (P := OkP 216) ⟨(PuOK.ok (ok_lconst dX1_gantry_7 rfl)), m_push⟩ (
  lkp_c (P := OkP 216) ⟨(PuOK.ok (ok_ldc2 q1849 dX1_gantry_8)), m_push⟩ (
  lkp_c (P := OkP 216) ⟨ok_cs (tg_S ⟨rfl, by decide⟩ q1643 q1284 q115 q1285 ⟨cn_33.1, cn_33.2, pd_74⟩ dX1_gantry_11) hd_no, m_cs⟩ (
  lkp_c (P := OkP 216) ⟨ok_cs (tg_S ⟨rfl, by decide⟩ q1644 q1645 q115 q1646 ⟨cn_33.1, cn_33.2, pd_18⟩ dX1_gantry_14) hd_no, m_cs⟩ (
  lkp_c (P := OkP 216) ⟨(PuOK.ok (ok_iload_n dX1_gantry_17 rfl)), m_iload⟩ (
  lkp_c (P := OkP 216) ⟨(PuOK.ok (ok_tsw dX1_gantry_18 (by decide +kernel))), m_sw⟩ (
  lkp_c (P := OkP 216) ⟨(PuOK.ok (ok_aload_n dX1_gantry_44 rfl)), m_aload⟩ (
  lkp_c (P := OkP 216) ⟨ok_get ⟨"TollRoad", q664, Or.inl rfl⟩ dX1_gantry_45, m_get⟩ (
  lkp_c (P := OkP 216) ⟨ok_getN ⟨"TollRoad$World", "TollRoad", q627, Or.inl rfl⟩ dX1_gantry_48, m_get⟩ (
  lkp_c (P := OkP 216) ⟨ok_getN ⟨"TollRoad$Network", "TollRoad", q206, Or.inl rfl⟩ dX1_gantry_51, m_get⟩ (
  lkp_c (P := OkP 216) ⟨(PuOK.ok (ok_iload_n dX1_gantry_54 rfl)), m_iload⟩ (
  lkp_c (P := OkP 216) ⟨ok_iald dX1_gantry_55, m_rdI⟩ (
  lkp_c (P := OkP 216) ⟨ok_iret rfl rfl (by decide) dX1_gantry_56, m_ret⟩ (
  lkp_c (P := OkP 216) ⟨(PuOK.ok (ok_aload_n dX1_gantry_57 rfl)), m_aload⟩ (
  lkp_c (P := OkP 216) ⟨(PuOK.ok (ok_iload_n dX1_gantry_58 rfl)), m_iload⟩ (
  lkp_c (P := OkP 216) ⟨ok_cv (List.forall_mem_cons.mpr ⟨tg_V (ci := 0) (r := CLr 0) (y := 217) rfl ⟨rfl, by decide⟩ rfl q2937 q2939 qs39 q115 q2940 ⟨cn_33.1, cn_33.2, pd_48⟩ dX1_gantry_59, (List.forall_mem_nil _)⟩) hd_no, m_cv⟩ (
  lkp_c (P := OkP 216) ⟨ok_iret rfl rfl (by decide) dX1_gantry_62, m_ret⟩ (
  lkp_c (P := OkP 216) ⟨(PuOK.ok (ok_aload_n dX1_gantry_63 rfl)), m_aload⟩ (
  trivial)))))))))))))))))))))))
theorem c_216_1 : LkP (OkP 216) [(64, o_iload 1 1), (65, o_cv [(0, 218)] 1 3 false none), (68, o_ret 1), (69, o_aload 0 1), (70, o_get 0), (73, o_iload 1 1), (74, o_push 1 (.int 1)), (75, o_cv [(1, 257)] 2 3 false none), (78, o_ret 1)] := lkp_c (P := OkP 216) ⟨(PuOK.ok (ok_iload_n dX1_gantry_64 rfl)), m_iload⟩ (
  lkp_c (P := OkP 216) ⟨ok_cv (List.forall_mem_cons.mpr ⟨tg_V (ci := 0) (r := CLr 0) (y := 218) rfl ⟨rfl, by decide⟩ rfl q2941 q2943 qs40 q115 q2944 ⟨cn_33.1, cn_33.2, pd_48⟩ dX1_gantry_65, (List.forall_mem_nil _)⟩) hd_no, m_cv⟩ (
  lkp_c (P := OkP 216) ⟨ok_iret rfl rfl (by decide) dX1_gantry_68, m_ret⟩ (
  lkp_c (P := OkP 216) ⟨(PuOK.ok (ok_aload_n dX1_gantry_69 rfl)), m_aload⟩ (
  lkp_c (P := OkP 216) ⟨ok_get ⟨"TollRoad", q664, Or.inl rfl⟩ dX1_gantry_70, m_get⟩ (
  lkp_c (P := OkP 216) ⟨(PuOK.ok (ok_iload_n dX1_gantry_73 rfl)), m_iload⟩ (
  lkp_c (P := OkP 216) ⟨(PuOK.ok (ok_iconst dX1_gantry_74 rfl)), m_push⟩ (
  lkp_c (P := OkP 216) ⟨ok_cv (List.forall_mem_cons.mpr ⟨tg_V (ci := 1) (r := CLr 1) (y := 257) rfl ⟨rfl, by decide⟩ rfl q809 q810 q811 q116 q812 ⟨cn_36.1, cn_36.2, pd_72⟩ dX1_gantry_75, (List.forall_mem_nil _)⟩) hd_no, m_cv⟩ (
  lkp_c (P := OkP 216) ⟨ok_iret rfl rfl (by decide) dX1_gantry_78, m_ret⟩ (
  trivial)))))))))
theorem mt_216 : MtOK TB NT IT 216 := ⟨by decide +kernel, rfl, (fun h => by cases h), Or.inl ⟨rfl, rfl⟩, rfl, by decide, lk2_all (P := OkP 216) ⟨c_216_0, c_216_1, trivial⟩⟩
def dkwX1_readsAt_3 : List UInt8 := [167, 255, 201, 28, 172]
abbrev dktX1_readsAt_3 : List UInt8 := dkwX1_readsAt_3 ++ []
def dkwX1_readsAt_2 : List UInt8 := [180, 0, 162, 4, 159, 0, 12, 25, 4, 180, 0, 162, 6, 160, 0, 7, 4, 167, 0, 4, 3, 96, 61]
abbrev dktX1_readsAt_2 : List UInt8 := dkwX1_readsAt_2 ++ dktX1_readsAt_3
def dkwX1_readsAt_1 : List UInt8 := [185, 0, 156, 1, 0, 192, 0, 160, 58, 4, 28, 25, 4, 180, 1, 142, 27, 160, 0, 25, 25, 4]
abbrev dktX1_readsAt_1 : List UInt8 := dkwX1_readsAt_1 ++ dktX1_readsAt_2
def dkwX1_readsAt_0 : List UInt8 := [3, 61, 42, 180, 0, 19, 180, 0, 143, 182, 0, 146, 78, 45, 185, 0, 150, 1, 0, 153, 0, 52, 45]
abbrev dktX1_readsAt_0 : List UInt8 := dkwX1_readsAt_0 ++ dktX1_readsAt_1
theorem dksX1_readsAt_0 : cX1_readsAt.data.toList.drop 0 = dktX1_readsAt_0 := by decide +kernel
theorem dksX1_readsAt_1 : cX1_readsAt.data.toList.drop 23 = dktX1_readsAt_1 := dk_seg dksX1_readsAt_0 23 rfl rfl
theorem dksX1_readsAt_2 : cX1_readsAt.data.toList.drop 45 = dktX1_readsAt_2 := dk_seg dksX1_readsAt_1 22 rfl rfl
theorem dksX1_readsAt_3 : cX1_readsAt.data.toList.drop 68 = dktX1_readsAt_3 := dk_seg dksX1_readsAt_2 23 rfl rfl
theorem dX1_readsAt_0 : decode cX1_readsAt 0 = .ok (.iconst 0, 1) := dk_3 (dk_at dksX1_readsAt_0 0 rfl rfl)
theorem dX1_readsAt_1 : decode cX1_readsAt 1 = .ok (.istore_n 2, 1) := dk_61 (dk_at dksX1_readsAt_0 1 rfl rfl)
theorem dX1_readsAt_2 : decode cX1_readsAt 2 = .ok (.aload_n 0, 1) := dk_42 (dk_at dksX1_readsAt_0 2 rfl rfl)
theorem dX1_readsAt_3 : decode cX1_readsAt 3 = .ok (.getfield 19, 3) := dk_180 0 19 (dk_at dksX1_readsAt_0 3 rfl rfl)
theorem dX1_readsAt_6 : decode cX1_readsAt 6 = .ok (.getfield 143, 3) := dk_180 0 143 (dk_at dksX1_readsAt_0 6 rfl rfl)
theorem dX1_readsAt_9 : decode cX1_readsAt 9 = .ok (.invokevirtual 146, 3) := dk_182 0 146 (dk_at dksX1_readsAt_0 9 rfl rfl)
theorem dX1_readsAt_12 : decode cX1_readsAt 12 = .ok (.astore_n 3, 1) := dk_78 (dk_at dksX1_readsAt_0 12 rfl rfl)
theorem dX1_readsAt_13 : decode cX1_readsAt 13 = .ok (.aload_n 3, 1) := dk_45 (dk_at dksX1_readsAt_0 13 rfl rfl)
theorem dX1_readsAt_14 : decode cX1_readsAt 14 = .ok (.invokeinterface 150 1, 5) := by decide +kernel
theorem dX1_readsAt_19 : decode cX1_readsAt 19 = .ok (.ifCond .eq 52, 3) := dk_153 0 52 (dk_at dksX1_readsAt_0 19 rfl rfl)
theorem dX1_readsAt_22 : decode cX1_readsAt 22 = .ok (.aload_n 3, 1) := dk_45 (dk_at dksX1_readsAt_0 22 rfl rfl)
theorem dX1_readsAt_23 : decode cX1_readsAt 23 = .ok (.invokeinterface 156 1, 5) := by decide +kernel
theorem dX1_readsAt_28 : decode cX1_readsAt 28 = .ok (.checkcast 160, 3) := dk_192 0 160 (dk_at dksX1_readsAt_1 5 rfl rfl)
theorem dX1_readsAt_31 : decode cX1_readsAt 31 = .ok (.astore 4, 2) := dk_58 4 (dk_at dksX1_readsAt_1 8 rfl rfl)
theorem dX1_readsAt_33 : decode cX1_readsAt 33 = .ok (.iload_n 2, 1) := dk_28 (dk_at dksX1_readsAt_1 10 rfl rfl)
theorem dX1_readsAt_34 : decode cX1_readsAt 34 = .ok (.aload 4, 2) := dk_25 4 (dk_at dksX1_readsAt_1 11 rfl rfl)
theorem dX1_readsAt_36 : decode cX1_readsAt 36 = .ok (.getfield 398, 3) := dk_180 1 142 (dk_at dksX1_readsAt_1 13 rfl rfl)
theorem dX1_readsAt_39 : decode cX1_readsAt 39 = .ok (.iload_n 1, 1) := dk_27 (dk_at dksX1_readsAt_1 16 rfl rfl)
theorem dX1_readsAt_40 : decode cX1_readsAt 40 = .ok (.if_icmp .ne 25, 3) := dk_160 0 25 (dk_at dksX1_readsAt_1 17 rfl rfl)
theorem dX1_readsAt_43 : decode cX1_readsAt 43 = .ok (.aload 4, 2) := dk_25 4 (dk_at dksX1_readsAt_1 20 rfl rfl)
theorem dX1_readsAt_45 : decode cX1_readsAt 45 = .ok (.getfield 162, 3) := dk_180 0 162 (dk_at dksX1_readsAt_2 0 rfl rfl)
theorem dX1_readsAt_48 : decode cX1_readsAt 48 = .ok (.iconst 1, 1) := dk_4 (dk_at dksX1_readsAt_2 3 rfl rfl)
theorem dX1_readsAt_49 : decode cX1_readsAt 49 = .ok (.if_icmp .eq 12, 3) := dk_159 0 12 (dk_at dksX1_readsAt_2 4 rfl rfl)
theorem dX1_readsAt_52 : decode cX1_readsAt 52 = .ok (.aload 4, 2) := dk_25 4 (dk_at dksX1_readsAt_2 7 rfl rfl)
theorem dX1_readsAt_54 : decode cX1_readsAt 54 = .ok (.getfield 162, 3) := dk_180 0 162 (dk_at dksX1_readsAt_2 9 rfl rfl)
theorem dX1_readsAt_57 : decode cX1_readsAt 57 = .ok (.iconst 3, 1) := dk_6 (dk_at dksX1_readsAt_2 12 rfl rfl)
theorem dX1_readsAt_58 : decode cX1_readsAt 58 = .ok (.if_icmp .ne 7, 3) := dk_160 0 7 (dk_at dksX1_readsAt_2 13 rfl rfl)
theorem dX1_readsAt_61 : decode cX1_readsAt 61 = .ok (.iconst 1, 1) := dk_4 (dk_at dksX1_readsAt_2 16 rfl rfl)
theorem dX1_readsAt_62 : decode cX1_readsAt 62 = .ok (.goto 4, 3) := dk_167 0 4 (dk_at dksX1_readsAt_2 17 rfl rfl)
theorem dX1_readsAt_65 : decode cX1_readsAt 65 = .ok (.iconst 0, 1) := dk_3 (dk_at dksX1_readsAt_2 20 rfl rfl)
theorem dX1_readsAt_66 : decode cX1_readsAt 66 = .ok (.iadd, 1) := dk_96 (dk_at dksX1_readsAt_2 21 rfl rfl)
theorem dX1_readsAt_67 : decode cX1_readsAt 67 = .ok (.istore_n 2, 1) := dk_61 (dk_at dksX1_readsAt_2 22 rfl rfl)
theorem dX1_readsAt_68 : decode cX1_readsAt 68 = .ok (.goto (-55), 3) := dk_167 255 201 (dk_at dksX1_readsAt_3 0 rfl rfl)
theorem dX1_readsAt_71 : decode cX1_readsAt 71 = .ok (.iload_n 2, 1) := dk_28 (dk_at dksX1_readsAt_3 3 rfl rfl)
theorem dX1_readsAt_72 : decode cX1_readsAt 72 = .ok (.ireturn, 1) := dk_172 (dk_at dksX1_readsAt_3 4 rfl rfl)
theorem c_217_0 : LkP (OkP 217) [(0, o_push 1 (.int 0)), (1, o_istore 2 1), (2, o_aload 0 1), (3, o_get 0), (6, o_get 11), (9, o_cv [(3, 40)] 0 3 false none), (12, o_astore 3 1), (13, o_aload 3 1), (14, o_cv [(7, 50), (24, 86), (25, 92)] 0 5 false none), (19, o_if (fun x => decide (x = 0)) 71), (22, o_aload 3 1), (23, o_cv [(7, 51), (24, 89), (25, 95)] 0 5 false none), (28, o_cast [17]), (31, o_astore 4 2), (33, o_iload 2 1), (34, o_aload 4 2), (36, o_get 90), (39, o_iload 1 1), (40, o_icmp (fun x y => decide (¬ x = y)) 65), (43, o_aload 4 2), (45, o_get 95), (48, o_push 1 (.int 1)), (49, o_icmp (fun x y => decide (x = y)) 61), (52, o_aload 4 2), (54, o_get 95), (57, o_push 1 (.int 3)), (58, o_icmp (fun x y => decide (¬ x = y)) 65), (61, o_push 1 (.int 1)), (62, o_goto 66)] := lkp_c (P := OkP 217) ⟨(PuOK.ok (ok_iconst dX1_readsAt_0 rfl)), m_push⟩ (
  lkp_c (P := OkP 217) ⟨(PuOK.ok (ok_istore_n dX1_readsAt_1 rfl)), m_istore⟩ (
  lkp_c (P := OkP 217) ⟨(PuOK.ok (ok_aload_n dX1_readsAt_2 rfl)), m_aload⟩ (
  lkp_c (P := OkP 217) ⟨ok_get ⟨"TollRoad", q664, Or.inl rfl⟩ dX1_readsAt_3, m_get⟩ (
  lkp_c (P := OkP 217) ⟨ok_getN ⟨"TollRoad$World", "TollRoad", q642, Or.inl rfl⟩ dX1_readsAt_6, m_get⟩ (
  lkp_c (P := OkP 217) ⟨ok_cv (List.forall_mem_cons.mpr ⟨tg_V (ci := 3) (r := CLr 3) (y := 40) rfl ⟨rfl, by decide⟩ rfl q688 q689 q690 q120 q691 ⟨cn_15.1, cn_15.2, pd_70⟩ dX1_readsAt_9, (List.forall_mem_nil _)⟩) hd_no, m_cv⟩ (
  lkp_c (P := OkP 217) ⟨(PuOK.ok (ok_astore_n dX1_readsAt_12 rfl)), m_astore⟩ (
  lkp_c (P := OkP 217) ⟨(PuOK.ok (ok_aload_n dX1_readsAt_13 rfl)), m_aload⟩ (
  lkp_c (P := OkP 217) ⟨ok_cv (List.forall_mem_cons.mpr ⟨tg_F (ci := 7) (r := CLr 7) (y := 50) rfl ⟨rfl, by decide⟩ q712 q716 q718 q150 q720 q714 q713 q719 q717 q715 ⟨cn_37.1, cn_37.2, pd_50⟩ dX1_readsAt_14, (List.forall_mem_cons.mpr ⟨tg_F (ci := 24) (r := CLr 24) (y := 86) rfl ⟨rfl, by decide⟩ q712 q722 q724 q168 q726 q714 q713 q725 q723 q721 ⟨cn_37.1, cn_37.2, pd_50⟩ dX1_readsAt_14, (List.forall_mem_cons.mpr ⟨tg_F (ci := 25) (r := CLr 25) (y := 92) rfl ⟨rfl, by decide⟩ q712 q738 q740 q171 q742 q714 q713 q741 q739 q737 ⟨cn_37.1, cn_37.2, pd_50⟩ dX1_readsAt_14, (List.forall_mem_nil _)⟩)⟩)⟩) hd_no, m_cv⟩ (
  lkp_c (P := OkP 217) ⟨(PuOK.ok (ok_if_eq dX1_readsAt_19 rfl)), m_if⟩ (
  lkp_c (P := OkP 217) ⟨(PuOK.ok (ok_aload_n dX1_readsAt_22 rfl)), m_aload⟩ (
  lkp_c (P := OkP 217) ⟨ok_cv (List.forall_mem_cons.mpr ⟨tg_F (ci := 7) (r := CLr 7) (y := 51) rfl ⟨rfl, by decide⟩ q744 q747 q749 q150 q751 q746 q745 q750 q748 q715 ⟨cn_37.1, cn_37.2, pd_71⟩ dX1_readsAt_23, (List.forall_mem_cons.mpr ⟨tg_F (ci := 24) (r := CLr 24) (y := 89) rfl ⟨rfl, by decide⟩ q744 q756 q758 q169 q760 q746 q745 q759 q757 q721 ⟨cn_37.1, cn_37.2, pd_71⟩ dX1_readsAt_23, (List.forall_mem_cons.mpr ⟨tg_F (ci := 25) (r := CLr 25) (y := 95) rfl ⟨rfl, by decide⟩ q744 q790 q792 q172 q794 q746 q745 q793 q791 q737 ⟨cn_37.1, cn_37.2, pd_71⟩ dX1_readsAt_23, (List.forall_mem_nil _)⟩)⟩)⟩) hd_no, m_cv⟩ (
  lkp_c (P := OkP 217) ⟨ok_cast q1771 cst_6 dX1_readsAt_28, m_cast⟩ (
  lkp_c (P := OkP 217) ⟨(PuOK.ok (ok_astore dX1_readsAt_31)), m_astore⟩ (
  lkp_c (P := OkP 217) ⟨(PuOK.ok (ok_iload_n dX1_readsAt_33 rfl)), m_iload⟩ (
  lkp_c (P := OkP 217) ⟨(PuOK.ok (ok_aload dX1_readsAt_34)), m_aload⟩ (
  lkp_c (P := OkP 217) ⟨ok_getN ⟨"TollRoad$Read", "TollRoad", q1999, Or.inl rfl⟩ dX1_readsAt_36, m_get⟩ (
  lkp_c (P := OkP 217) ⟨(PuOK.ok (ok_iload_n dX1_readsAt_39 rfl)), m_iload⟩ (
  lkp_c (P := OkP 217) ⟨(PuOK.ok (ok_icmp_ne dX1_readsAt_40 rfl)), m_icmp⟩ (
  lkp_c (P := OkP 217) ⟨(PuOK.ok (ok_aload dX1_readsAt_43)), m_aload⟩ (
  lkp_c (P := OkP 217) ⟨ok_getN ⟨"TollRoad$Read", "TollRoad", q2016, Or.inl rfl⟩ dX1_readsAt_45, m_get⟩ (
  lkp_c (P := OkP 217) ⟨(PuOK.ok (ok_iconst dX1_readsAt_48 rfl)), m_push⟩ (
  lkp_c (P := OkP 217) ⟨(PuOK.ok (ok_icmp_eq dX1_readsAt_49 rfl)), m_icmp⟩ (
  lkp_c (P := OkP 217) ⟨(PuOK.ok (ok_aload dX1_readsAt_52)), m_aload⟩ (
  lkp_c (P := OkP 217) ⟨ok_getN ⟨"TollRoad$Read", "TollRoad", q2016, Or.inl rfl⟩ dX1_readsAt_54, m_get⟩ (
  lkp_c (P := OkP 217) ⟨(PuOK.ok (ok_iconst dX1_readsAt_57 rfl)), m_push⟩ (
  lkp_c (P := OkP 217) ⟨(PuOK.ok (ok_icmp_ne dX1_readsAt_58 rfl)), m_icmp⟩ (
  lkp_c (P := OkP 217) ⟨(PuOK.ok (ok_iconst dX1_readsAt_61 rfl)), m_push⟩ (
  lkp_c (P := OkP 217) ⟨(PuOK.ok (ok_goto dX1_readsAt_62 rfl)), m_goto⟩ (
  trivial)))))))))))))))))))))))))))))
theorem c_217_1 : LkP (OkP 217) [(65, o_push 1 (.int 0)), (66, o_iop (fun x y => x + y)), (67, o_istore 2 1), (68, o_goto 13), (71, o_iload 2 1), (72, o_ret 1)] := lkp_c (P := OkP 217) ⟨(PuOK.ok (ok_iconst dX1_readsAt_65 rfl)), m_push⟩ (
  lkp_c (P := OkP 217) ⟨(PuOK.ok (ok_iadd dX1_readsAt_66)), m_iop⟩ (
  lkp_c (P := OkP 217) ⟨(PuOK.ok (ok_istore_n dX1_readsAt_67 rfl)), m_istore⟩ (
  lkp_c (P := OkP 217) ⟨(PuOK.ok (ok_goto dX1_readsAt_68 rfl)), m_goto⟩ (
  lkp_c (P := OkP 217) ⟨(PuOK.ok (ok_iload_n dX1_readsAt_71 rfl)), m_iload⟩ (
  lkp_c (P := OkP 217) ⟨ok_iret rfl rfl (by decide) dX1_readsAt_72, m_ret⟩ (
  trivial))))))
theorem mt_217 : MtOK TB NT IT 217 := ⟨by decide +kernel, rfl, (fun h => by cases h), Or.inl ⟨rfl, rfl⟩, rfl, by decide, lk2_all (P := OkP 217) ⟨c_217_0, c_217_1, trivial⟩⟩
def dkwX1_visits_0 : List UInt8 := [42, 180, 0, 19, 27, 4, 182, 1, 145, 42, 180, 0, 19, 27, 3, 182, 1, 145, 96, 172]
abbrev dktX1_visits_0 : List UInt8 := dkwX1_visits_0 ++ []
theorem dksX1_visits_0 : cX1_visits.data.toList.drop 0 = dktX1_visits_0 := by decide +kernel
theorem dX1_visits_0 : decode cX1_visits 0 = .ok (.aload_n 0, 1) := dk_42 (dk_at dksX1_visits_0 0 rfl rfl)
theorem dX1_visits_1 : decode cX1_visits 1 = .ok (.getfield 19, 3) := dk_180 0 19 (dk_at dksX1_visits_0 1 rfl rfl)
theorem dX1_visits_4 : decode cX1_visits 4 = .ok (.iload_n 1, 1) := dk_27 (dk_at dksX1_visits_0 4 rfl rfl)
theorem dX1_visits_5 : decode cX1_visits 5 = .ok (.iconst 1, 1) := dk_4 (dk_at dksX1_visits_0 5 rfl rfl)
theorem dX1_visits_6 : decode cX1_visits 6 = .ok (.invokevirtual 401, 3) := dk_182 1 145 (dk_at dksX1_visits_0 6 rfl rfl)
theorem dX1_visits_9 : decode cX1_visits 9 = .ok (.aload_n 0, 1) := dk_42 (dk_at dksX1_visits_0 9 rfl rfl)
theorem dX1_visits_10 : decode cX1_visits 10 = .ok (.getfield 19, 3) := dk_180 0 19 (dk_at dksX1_visits_0 10 rfl rfl)
theorem dX1_visits_13 : decode cX1_visits 13 = .ok (.iload_n 1, 1) := dk_27 (dk_at dksX1_visits_0 13 rfl rfl)
theorem dX1_visits_14 : decode cX1_visits 14 = .ok (.iconst 0, 1) := dk_3 (dk_at dksX1_visits_0 14 rfl rfl)
theorem dX1_visits_15 : decode cX1_visits 15 = .ok (.invokevirtual 401, 3) := dk_182 1 145 (dk_at dksX1_visits_0 15 rfl rfl)
theorem dX1_visits_18 : decode cX1_visits 18 = .ok (.iadd, 1) := dk_96 (dk_at dksX1_visits_0 18 rfl rfl)
theorem dX1_visits_19 : decode cX1_visits 19 = .ok (.ireturn, 1) := dk_172 (dk_at dksX1_visits_0 19 rfl rfl)
theorem c_218_0 : LkP (OkP 218) [(0, o_aload 0 1), (1, o_get 0), (4, o_iload 1 1), (5, o_push 1 (.int 1)), (6, o_cv [(1, 257)] 2 3 false none), (9, o_aload 0 1), (10, o_get 0), (13, o_iload 1 1), (14, o_push 1 (.int 0)), (15, o_cv [(1, 257)] 2 3 false none), (18, o_iop (fun x y => x + y)), (19, o_ret 1)] := lkp_c (P := OkP 218) ⟨(PuOK.ok (ok_aload_n dX1_visits_0 rfl)), m_aload⟩ (
  lkp_c (P := OkP 218) ⟨ok_get ⟨"TollRoad", q664, Or.inl rfl⟩ dX1_visits_1, m_get⟩ (
  lkp_c (P := OkP 218) ⟨(PuOK.ok (ok_iload_n dX1_visits_4 rfl)), m_iload⟩ (
  lkp_c (P := OkP 218) ⟨(PuOK.ok (ok_iconst dX1_visits_5 rfl)), m_push⟩ (
  lkp_c (P := OkP 218) ⟨ok_cv (List.forall_mem_cons.mpr ⟨tg_V (ci := 1) (r := CLr 1) (y := 257) rfl ⟨rfl, by decide⟩ rfl q809 q810 q811 q116 q812 ⟨cn_36.1, cn_36.2, pd_72⟩ dX1_visits_6, (List.forall_mem_nil _)⟩) hd_no, m_cv⟩ (
  lkp_c (P := OkP 218) ⟨(PuOK.ok (ok_aload_n dX1_visits_9 rfl)), m_aload⟩ (
  lkp_c (P := OkP 218) ⟨ok_get ⟨"TollRoad", q664, Or.inl rfl⟩ dX1_visits_10, m_get⟩ (
  lkp_c (P := OkP 218) ⟨(PuOK.ok (ok_iload_n dX1_visits_13 rfl)), m_iload⟩ (
  lkp_c (P := OkP 218) ⟨(PuOK.ok (ok_iconst dX1_visits_14 rfl)), m_push⟩ (
  lkp_c (P := OkP 218) ⟨ok_cv (List.forall_mem_cons.mpr ⟨tg_V (ci := 1) (r := CLr 1) (y := 257) rfl ⟨rfl, by decide⟩ rfl q809 q810 q811 q116 q812 ⟨cn_36.1, cn_36.2, pd_72⟩ dX1_visits_15, (List.forall_mem_nil _)⟩) hd_no, m_cv⟩ (
  lkp_c (P := OkP 218) ⟨(PuOK.ok (ok_iadd dX1_visits_18)), m_iop⟩ (
  lkp_c (P := OkP 218) ⟨ok_iret rfl rfl (by decide) dX1_visits_19, m_ret⟩ (
  trivial))))))))))))
theorem mt_218 : MtOK TB NT IT 218 := ⟨by decide +kernel, rfl, (fun h => by cases h), Or.inl ⟨rfl, rfl⟩, rfl, by decide, lk2_all (P := OkP 218) ⟨c_218_0, trivial⟩⟩
def dkwX1_missRate_1 : List UInt8 := [180, 0, 19, 27, 4, 182, 1, 145, 134, 28, 134, 110, 174]
abbrev dktX1_missRate_1 : List UInt8 := dkwX1_missRate_1 ++ []
def dkwX1_missRate_0 : List UInt8 := [42, 27, 182, 0, 89, 42, 27, 182, 1, 155, 61, 28, 154, 0, 9, 19, 1, 158, 167, 0, 16, 42]
abbrev dktX1_missRate_0 : List UInt8 := dkwX1_missRate_0 ++ dktX1_missRate_1
theorem dksX1_missRate_0 : cX1_missRate.data.toList.drop 0 = dktX1_missRate_0 := by decide +kernel
theorem dksX1_missRate_1 : cX1_missRate.data.toList.drop 22 = dktX1_missRate_1 := dk_seg dksX1_missRate_0 22 rfl rfl
theorem dX1_missRate_0 : decode cX1_missRate 0 = .ok (.aload_n 0, 1) := dk_42 (dk_at dksX1_missRate_0 0 rfl rfl)
theorem dX1_missRate_1 : decode cX1_missRate 1 = .ok (.iload_n 1, 1) := dk_27 (dk_at dksX1_missRate_0 1 rfl rfl)
theorem dX1_missRate_2 : decode cX1_missRate 2 = .ok (.invokevirtual 89, 3) := dk_182 0 89 (dk_at dksX1_missRate_0 2 rfl rfl)
theorem dX1_missRate_5 : decode cX1_missRate 5 = .ok (.aload_n 0, 1) := dk_42 (dk_at dksX1_missRate_0 5 rfl rfl)
theorem dX1_missRate_6 : decode cX1_missRate 6 = .ok (.iload_n 1, 1) := dk_27 (dk_at dksX1_missRate_0 6 rfl rfl)
theorem dX1_missRate_7 : decode cX1_missRate 7 = .ok (.invokevirtual 411, 3) := dk_182 1 155 (dk_at dksX1_missRate_0 7 rfl rfl)
theorem dX1_missRate_10 : decode cX1_missRate 10 = .ok (.istore_n 2, 1) := dk_61 (dk_at dksX1_missRate_0 10 rfl rfl)
theorem dX1_missRate_11 : decode cX1_missRate 11 = .ok (.iload_n 2, 1) := dk_28 (dk_at dksX1_missRate_0 11 rfl rfl)
theorem dX1_missRate_12 : decode cX1_missRate 12 = .ok (.ifCond .ne 9, 3) := dk_154 0 9 (dk_at dksX1_missRate_0 12 rfl rfl)
theorem dX1_missRate_15 : decode cX1_missRate 15 = .ok (.ldc_w 414, 3) := dk_19 1 158 (dk_at dksX1_missRate_0 15 rfl rfl)
theorem dX1_missRate_18 : decode cX1_missRate 18 = .ok (.goto 16, 3) := dk_167 0 16 (dk_at dksX1_missRate_0 18 rfl rfl)
theorem dX1_missRate_21 : decode cX1_missRate 21 = .ok (.aload_n 0, 1) := dk_42 (dk_at dksX1_missRate_0 21 rfl rfl)
theorem dX1_missRate_22 : decode cX1_missRate 22 = .ok (.getfield 19, 3) := dk_180 0 19 (dk_at dksX1_missRate_1 0 rfl rfl)
theorem dX1_missRate_25 : decode cX1_missRate 25 = .ok (.iload_n 1, 1) := dk_27 (dk_at dksX1_missRate_1 3 rfl rfl)
theorem dX1_missRate_26 : decode cX1_missRate 26 = .ok (.iconst 1, 1) := dk_4 (dk_at dksX1_missRate_1 4 rfl rfl)
theorem dX1_missRate_27 : decode cX1_missRate 27 = .ok (.invokevirtual 401, 3) := dk_182 1 145 (dk_at dksX1_missRate_1 5 rfl rfl)
theorem dX1_missRate_30 : decode cX1_missRate 30 = .ok (.i2f, 1) := dk_134 (dk_at dksX1_missRate_1 8 rfl rfl)
theorem dX1_missRate_31 : decode cX1_missRate 31 = .ok (.iload_n 2, 1) := dk_28 (dk_at dksX1_missRate_1 9 rfl rfl)
theorem dX1_missRate_32 : decode cX1_missRate 32 = .ok (.i2f, 1) := dk_134 (dk_at dksX1_missRate_1 10 rfl rfl)
theorem dX1_missRate_33 : decode cX1_missRate 33 = .ok (.fdiv, 1) := dk_110 (dk_at dksX1_missRate_1 11 rfl rfl)
theorem dX1_missRate_34 : decode cX1_missRate 34 = .ok (.freturn, 1) := dk_174 (dk_at dksX1_missRate_1 12 rfl rfl)
theorem c_219_0 : LkP (OkP 219) [(0, o_aload 0 1), (1, o_iload 1 1), (2, o_cv [(0, 175)] 1 3 true none), (5, o_aload 0 1), (6, o_iload 1 1), (7, o_cv [(0, 218)] 1 3 false none), (10, o_istore 2 1), (11, o_iload 2 1), (12, o_if (fun x => decide (¬ x = 0)) 21), (15, o_push 3 (.float 3212836864)), (18, o_goto 34), (21, o_aload 0 1), (22, o_get 0), (25, o_iload 1 1), (26, o_push 1 (.int 1)), (27, o_cv [(1, 257)] 2 3 false none), (30, o_i2f), (31, o_iload 2 1), (32, o_i2f), (33, o_fdiv), (34, o_ret 3)] := lkp_c (P := OkP 219) ⟨(PuOK.ok (ok_aload_n dX1_missRate_0 rfl)), m_aload⟩ (
  lkp_c (P := OkP 219) ⟨(PuOK.ok (ok_iload_n dX1_missRate_1 rfl)), m_iload⟩ (
  lkp_c (P := OkP 219) ⟨ok_cv (List.forall_mem_cons.mpr ⟨tg_V (ci := 0) (r := CLr 0) (y := 175) rfl ⟨rfl, by decide⟩ rfl q1687 q1689 qs13 q115 q1690 ⟨cn_33.1, cn_33.2, pd_9⟩ dX1_missRate_2, (List.forall_mem_nil _)⟩) hd_no, m_cv⟩ (
  lkp_c (P := OkP 219) ⟨(PuOK.ok (ok_aload_n dX1_missRate_5 rfl)), m_aload⟩ (
  lkp_c (P := OkP 219) ⟨(PuOK.ok (ok_iload_n dX1_missRate_6 rfl)), m_iload⟩ (
  lkp_c (P := OkP 219) ⟨ok_cv (List.forall_mem_cons.mpr ⟨tg_V (ci := 0) (r := CLr 0) (y := 218) rfl ⟨rfl, by decide⟩ rfl q2941 q2943 qs40 q115 q2944 ⟨cn_33.1, cn_33.2, pd_48⟩ dX1_missRate_7, (List.forall_mem_nil _)⟩) hd_no, m_cv⟩ (
  lkp_c (P := OkP 219) ⟨(PuOK.ok (ok_istore_n dX1_missRate_10 rfl)), m_istore⟩ (
  lkp_c (P := OkP 219) ⟨(PuOK.ok (ok_iload_n dX1_missRate_11 rfl)), m_iload⟩ (
  lkp_c (P := OkP 219) ⟨(PuOK.ok (ok_if_ne dX1_missRate_12 rfl)), m_if⟩ (
  lkp_c (P := OkP 219) ⟨ok_ldcfw q2952 dX1_missRate_15, m_push⟩ (
  lkp_c (P := OkP 219) ⟨(PuOK.ok (ok_goto dX1_missRate_18 rfl)), m_goto⟩ (
  lkp_c (P := OkP 219) ⟨(PuOK.ok (ok_aload_n dX1_missRate_21 rfl)), m_aload⟩ (
  lkp_c (P := OkP 219) ⟨ok_get ⟨"TollRoad", q664, Or.inl rfl⟩ dX1_missRate_22, m_get⟩ (
  lkp_c (P := OkP 219) ⟨(PuOK.ok (ok_iload_n dX1_missRate_25 rfl)), m_iload⟩ (
  lkp_c (P := OkP 219) ⟨(PuOK.ok (ok_iconst dX1_missRate_26 rfl)), m_push⟩ (
  lkp_c (P := OkP 219) ⟨ok_cv (List.forall_mem_cons.mpr ⟨tg_V (ci := 1) (r := CLr 1) (y := 257) rfl ⟨rfl, by decide⟩ rfl q809 q810 q811 q116 q812 ⟨cn_36.1, cn_36.2, pd_72⟩ dX1_missRate_27, (List.forall_mem_nil _)⟩) hd_no, m_cv⟩ (
  lkp_c (P := OkP 219) ⟨(PuOK.ok (ok_i2f dX1_missRate_30)), m_i2f⟩ (
  lkp_c (P := OkP 219) ⟨(PuOK.ok (ok_iload_n dX1_missRate_31 rfl)), m_iload⟩ (
  lkp_c (P := OkP 219) ⟨(PuOK.ok (ok_i2f dX1_missRate_32)), m_i2f⟩ (
  lkp_c (P := OkP 219) ⟨(PuOK.ok (ok_fdiv dX1_missRate_33)), m_fdiv⟩ (
  lkp_c (P := OkP 219) ⟨ok_fret rfl dX1_missRate_34, m_ret⟩ (
  trivial)))))))))))))))))))))
theorem mt_219 : MtOK TB NT IT 219 := ⟨by decide +kernel, rfl, (fun h => by cases h), Or.inl ⟨rfl, rfl⟩, rfl, by decide, lk2_all (P := OkP 219) ⟨c_219_0, trivial⟩⟩
def dkwX1_save_0 : List UInt8 := [27, 133, 9, 10, 184, 0, 46, 184, 0, 79, 42, 180, 0, 25, 27, 42, 180, 0, 19, 182, 1, 214, 83, 177]
abbrev dktX1_save_0 : List UInt8 := dkwX1_save_0 ++ []
theorem dksX1_save_0 : cX1_save.data.toList.drop 0 = dktX1_save_0 := by decide +kernel
theorem dX1_save_0 : decode cX1_save 0 = .ok (.iload_n 1, 1) := dk_27 (dk_at dksX1_save_0 0 rfl rfl)
theorem dX1_save_1 : decode cX1_save 1 = .ok (.i2l, 1) := dk_133 (dk_at dksX1_save_0 1 rfl rfl)
theorem dX1_save_2 : decode cX1_save 2 = .ok (.lconst 0, 1) := dk_9 (dk_at dksX1_save_0 2 rfl rfl)
theorem dX1_save_3 : decode cX1_save 3 = .ok (.lconst 1, 1) := dk_10 (dk_at dksX1_save_0 3 rfl rfl)
theorem dX1_save_4 : decode cX1_save 4 = .ok (.invokestatic 46, 3) := dk_184 0 46 (dk_at dksX1_save_0 4 rfl rfl)
theorem dX1_save_7 : decode cX1_save 7 = .ok (.invokestatic 79, 3) := dk_184 0 79 (dk_at dksX1_save_0 7 rfl rfl)
theorem dX1_save_10 : decode cX1_save 10 = .ok (.aload_n 0, 1) := dk_42 (dk_at dksX1_save_0 10 rfl rfl)
theorem dX1_save_11 : decode cX1_save 11 = .ok (.getfield 25, 3) := dk_180 0 25 (dk_at dksX1_save_0 11 rfl rfl)
theorem dX1_save_14 : decode cX1_save 14 = .ok (.iload_n 1, 1) := dk_27 (dk_at dksX1_save_0 14 rfl rfl)
theorem dX1_save_15 : decode cX1_save 15 = .ok (.aload_n 0, 1) := dk_42 (dk_at dksX1_save_0 15 rfl rfl)
theorem dX1_save_16 : decode cX1_save 16 = .ok (.getfield 19, 3) := dk_180 0 19 (dk_at dksX1_save_0 16 rfl rfl)
theorem dX1_save_19 : decode cX1_save 19 = .ok (.invokevirtual 470, 3) := dk_182 1 214 (dk_at dksX1_save_0 19 rfl rfl)
theorem dX1_save_22 : decode cX1_save 22 = .ok (.aastore, 1) := dk_83 (dk_at dksX1_save_0 22 rfl rfl)
theorem dX1_save_23 : decode cX1_save 23 = .ok (.return_, 1) := dk_177 (dk_at dksX1_save_0 23 rfl rfl)
theorem c_220_0 : LkP (OkP 220) [(0, o_iload 1 1), (1, o_i2l), (2, o_push 1 (.long 0)), (3, o_push 1 (.long 1)), (4, o_cs 165 3 false none), (7, o_cs 172 1 true none), (10, o_aload 0 1), (11, o_get 1), (14, o_iload 1 1), (15, o_aload 0 1), (16, o_get 0), (19, o_cv [(1, 278)] 0 3 false none), (22, o_wrQ 8 [1]), (23, o_vret)] := lkp_c (P := OkP 220) ⟨(PuOK.ok (ok_iload_n dX1_save_0 rfl)), m_iload⟩ (
  lkp_c (P := OkP 220) ⟨(PuOK.ok (ok_i2l dX1_save_1)), m_i2l⟩ (
  lkp_c (P := OkP 220) ⟨(PuOK.ok (ok_lconst dX1_save_2 rfl)), m_push⟩ (
  lkp_c (P := OkP 220) ⟨(PuOK.ok (ok_lconst dX1_save_3 rfl)), m_push⟩ (
  lkp_c (P := OkP 220) ⟨ok_cs (tg_S ⟨rfl, by decide⟩ q1643 q1284 q115 q1285 ⟨cn_33.1, cn_33.2, pd_74⟩ dX1_save_4) hd_no, m_cs⟩ (
  lkp_c (P := OkP 220) ⟨ok_cs (tg_S ⟨rfl, by decide⟩ q1644 q1645 q115 q1646 ⟨cn_33.1, cn_33.2, pd_18⟩ dX1_save_7) hd_no, m_cs⟩ (
  lkp_c (P := OkP 220) ⟨(PuOK.ok (ok_aload_n dX1_save_10 rfl)), m_aload⟩ (
  lkp_c (P := OkP 220) ⟨ok_get ⟨"TollRoad", q665, Or.inl rfl⟩ dX1_save_11, m_get⟩ (
  lkp_c (P := OkP 220) ⟨(PuOK.ok (ok_iload_n dX1_save_14 rfl)), m_iload⟩ (
  lkp_c (P := OkP 220) ⟨(PuOK.ok (ok_aload_n dX1_save_15 rfl)), m_aload⟩ (
  lkp_c (P := OkP 220) ⟨ok_get ⟨"TollRoad", q664, Or.inl rfl⟩ dX1_save_16, m_get⟩ (
  lkp_c (P := OkP 220) ⟨ok_cv (List.forall_mem_cons.mpr ⟨tg_V (ci := 1) (r := CLr 1) (y := 278) rfl ⟨rfl, by decide⟩ rfl q2960 q2961 q2962 q116 q2963 ⟨cn_36.1, cn_36.2, pd_95⟩ dX1_save_19, (List.forall_mem_nil _)⟩) hd_no, m_cv⟩ (
  lkp_c (P := OkP 220) ⟨ok_aast rfl cst_9 dX1_save_22, m_wrQ⟩ (
  lkp_c (P := OkP 220) ⟨ok_vret rfl dX1_save_23, m_vret⟩ (
  trivial))))))))))))))
theorem mt_220 : MtOK TB NT IT 220 := ⟨by decide +kernel, rfl, (fun h => by cases h), Or.inl ⟨rfl, rfl⟩, rfl, by decide, lk2_all (P := OkP 220) ⟨c_220_0, trivial⟩⟩
def dkwX1_restore_1 : List UInt8 := [184, 0, 82, 42, 42, 180, 0, 25, 27, 50, 182, 1, 214, 181, 0, 19, 177]
abbrev dktX1_restore_1 : List UInt8 := dkwX1_restore_1 ++ []
def dkwX1_restore_0 : List UInt8 := [27, 133, 9, 10, 184, 0, 46, 184, 0, 79, 42, 180, 0, 25, 27, 50, 198, 0, 7, 4, 167, 0, 4, 3]
abbrev dktX1_restore_0 : List UInt8 := dkwX1_restore_0 ++ dktX1_restore_1
theorem dksX1_restore_0 : cX1_restore.data.toList.drop 0 = dktX1_restore_0 := by decide +kernel
theorem dksX1_restore_1 : cX1_restore.data.toList.drop 24 = dktX1_restore_1 := dk_seg dksX1_restore_0 24 rfl rfl
theorem dX1_restore_0 : decode cX1_restore 0 = .ok (.iload_n 1, 1) := dk_27 (dk_at dksX1_restore_0 0 rfl rfl)
theorem dX1_restore_1 : decode cX1_restore 1 = .ok (.i2l, 1) := dk_133 (dk_at dksX1_restore_0 1 rfl rfl)
theorem dX1_restore_2 : decode cX1_restore 2 = .ok (.lconst 0, 1) := dk_9 (dk_at dksX1_restore_0 2 rfl rfl)
theorem dX1_restore_3 : decode cX1_restore 3 = .ok (.lconst 1, 1) := dk_10 (dk_at dksX1_restore_0 3 rfl rfl)
theorem dX1_restore_4 : decode cX1_restore 4 = .ok (.invokestatic 46, 3) := dk_184 0 46 (dk_at dksX1_restore_0 4 rfl rfl)
theorem dX1_restore_7 : decode cX1_restore 7 = .ok (.invokestatic 79, 3) := dk_184 0 79 (dk_at dksX1_restore_0 7 rfl rfl)
theorem dX1_restore_10 : decode cX1_restore 10 = .ok (.aload_n 0, 1) := dk_42 (dk_at dksX1_restore_0 10 rfl rfl)
theorem dX1_restore_11 : decode cX1_restore 11 = .ok (.getfield 25, 3) := dk_180 0 25 (dk_at dksX1_restore_0 11 rfl rfl)
theorem dX1_restore_14 : decode cX1_restore 14 = .ok (.iload_n 1, 1) := dk_27 (dk_at dksX1_restore_0 14 rfl rfl)
theorem dX1_restore_15 : decode cX1_restore 15 = .ok (.aaload, 1) := dk_50 (dk_at dksX1_restore_0 15 rfl rfl)
theorem dX1_restore_16 : decode cX1_restore 16 = .ok (.ifnull 7, 3) := dk_198 0 7 (dk_at dksX1_restore_0 16 rfl rfl)
theorem dX1_restore_19 : decode cX1_restore 19 = .ok (.iconst 1, 1) := dk_4 (dk_at dksX1_restore_0 19 rfl rfl)
theorem dX1_restore_20 : decode cX1_restore 20 = .ok (.goto 4, 3) := dk_167 0 4 (dk_at dksX1_restore_0 20 rfl rfl)
theorem dX1_restore_23 : decode cX1_restore 23 = .ok (.iconst 0, 1) := dk_3 (dk_at dksX1_restore_0 23 rfl rfl)
theorem dX1_restore_24 : decode cX1_restore 24 = .ok (.invokestatic 82, 3) := dk_184 0 82 (dk_at dksX1_restore_1 0 rfl rfl)
theorem dX1_restore_27 : decode cX1_restore 27 = .ok (.aload_n 0, 1) := dk_42 (dk_at dksX1_restore_1 3 rfl rfl)
theorem dX1_restore_28 : decode cX1_restore 28 = .ok (.aload_n 0, 1) := dk_42 (dk_at dksX1_restore_1 4 rfl rfl)
theorem dX1_restore_29 : decode cX1_restore 29 = .ok (.getfield 25, 3) := dk_180 0 25 (dk_at dksX1_restore_1 5 rfl rfl)
theorem dX1_restore_32 : decode cX1_restore 32 = .ok (.iload_n 1, 1) := dk_27 (dk_at dksX1_restore_1 8 rfl rfl)
theorem dX1_restore_33 : decode cX1_restore 33 = .ok (.aaload, 1) := dk_50 (dk_at dksX1_restore_1 9 rfl rfl)
theorem dX1_restore_34 : decode cX1_restore 34 = .ok (.invokevirtual 470, 3) := dk_182 1 214 (dk_at dksX1_restore_1 10 rfl rfl)
theorem dX1_restore_37 : decode cX1_restore 37 = .ok (.putfield 19, 3) := dk_181 0 19 (dk_at dksX1_restore_1 13 rfl rfl)
theorem dX1_restore_40 : decode cX1_restore 40 = .ok (.return_, 1) := dk_177 (dk_at dksX1_restore_1 16 rfl rfl)
theorem c_221_0 : LkP (OkP 221) [(0, o_iload 1 1), (1, o_i2l), (2, o_push 1 (.long 0)), (3, o_push 1 (.long 1)), (4, o_cs 165 3 false none), (7, o_cs 172 1 true none), (10, o_aload 0 1), (11, o_get 1), (14, o_iload 1 1), (15, o_rdQ), (16, o_ifnull 23), (19, o_push 1 (.int 1)), (20, o_goto 24), (23, o_push 1 (.int 0)), (24, o_cs 170 1 true none), (27, o_aload 0 1), (28, o_aload 0 1), (29, o_get 1), (32, o_iload 1 1), (33, o_rdQ), (34, o_cv [(1, 278)] 0 3 false none), (37, o_put 0 0), (40, o_vret)] := lkp_c (P := OkP 221) ⟨(PuOK.ok (ok_iload_n dX1_restore_0 rfl)), m_iload⟩ (
  lkp_c (P := OkP 221) ⟨(PuOK.ok (ok_i2l dX1_restore_1)), m_i2l⟩ (
  lkp_c (P := OkP 221) ⟨(PuOK.ok (ok_lconst dX1_restore_2 rfl)), m_push⟩ (
  lkp_c (P := OkP 221) ⟨(PuOK.ok (ok_lconst dX1_restore_3 rfl)), m_push⟩ (
  lkp_c (P := OkP 221) ⟨ok_cs (tg_S ⟨rfl, by decide⟩ q1643 q1284 q115 q1285 ⟨cn_33.1, cn_33.2, pd_74⟩ dX1_restore_4) hd_no, m_cs⟩ (
  lkp_c (P := OkP 221) ⟨ok_cs (tg_S ⟨rfl, by decide⟩ q1644 q1645 q115 q1646 ⟨cn_33.1, cn_33.2, pd_18⟩ dX1_restore_7) hd_no, m_cs⟩ (
  lkp_c (P := OkP 221) ⟨(PuOK.ok (ok_aload_n dX1_restore_10 rfl)), m_aload⟩ (
  lkp_c (P := OkP 221) ⟨ok_get ⟨"TollRoad", q665, Or.inl rfl⟩ dX1_restore_11, m_get⟩ (
  lkp_c (P := OkP 221) ⟨(PuOK.ok (ok_iload_n dX1_restore_14 rfl)), m_iload⟩ (
  lkp_c (P := OkP 221) ⟨ok_aald dX1_restore_15, m_rdQ⟩ (
  lkp_c (P := OkP 221) ⟨(PuOK.ok (ok_ifnull dX1_restore_16 rfl)), m_ifnull⟩ (
  lkp_c (P := OkP 221) ⟨(PuOK.ok (ok_iconst dX1_restore_19 rfl)), m_push⟩ (
  lkp_c (P := OkP 221) ⟨(PuOK.ok (ok_goto dX1_restore_20 rfl)), m_goto⟩ (
  lkp_c (P := OkP 221) ⟨(PuOK.ok (ok_iconst dX1_restore_23 rfl)), m_push⟩ (
  lkp_c (P := OkP 221) ⟨ok_cs (tg_S ⟨rfl, by decide⟩ q1611 q1612 q115 q1613 ⟨cn_33.1, cn_33.2, pd_18⟩ dX1_restore_24) hd_no, m_cs⟩ (
  lkp_c (P := OkP 221) ⟨(PuOK.ok (ok_aload_n dX1_restore_27 rfl)), m_aload⟩ (
  lkp_c (P := OkP 221) ⟨(PuOK.ok (ok_aload_n dX1_restore_28 rfl)), m_aload⟩ (
  lkp_c (P := OkP 221) ⟨ok_get ⟨"TollRoad", q665, Or.inl rfl⟩ dX1_restore_29, m_get⟩ (
  lkp_c (P := OkP 221) ⟨(PuOK.ok (ok_iload_n dX1_restore_32 rfl)), m_iload⟩ (
  lkp_c (P := OkP 221) ⟨ok_aald dX1_restore_33, m_rdQ⟩ (
  lkp_c (P := OkP 221) ⟨ok_cv (List.forall_mem_cons.mpr ⟨tg_V (ci := 1) (r := CLr 1) (y := 278) rfl ⟨rfl, by decide⟩ rfl q2960 q2961 q2962 q116 q2963 ⟨cn_36.1, cn_36.2, pd_95⟩ dX1_restore_34, (List.forall_mem_nil _)⟩) hd_no, m_cv⟩ (
  lkp_c (P := OkP 221) ⟨ok_put ⟨"TollRoad", q664, Or.inl rfl⟩ rfl fd_0 rfl dX1_restore_37, m_put⟩ (
  lkp_c (P := OkP 221) ⟨ok_vret rfl dX1_restore_40, m_vret⟩ (
  trivial)))))))))))))))))))))))
theorem mt_221 : MtOK TB NT IT 221 := ⟨by decide +kernel, rfl, (fun h => by cases h), Or.inl ⟨rfl, rfl⟩, rfl, by decide, lk2_all (P := OkP 221) ⟨c_221_0, trivial⟩⟩
def dkwX10_of_4 : List UInt8 := [44, 26, 46, 54, 4, 187, 0, 16, 89, 29, 21, 4, 183, 0, 18, 176]
abbrev dktX10_of_4 : List UInt8 := dkwX10_of_4 ++ []
def dkwX10_of_3 : List UInt8 := [89, 8, 16, 100, 79, 89, 16, 6, 17, 3, 231, 79, 89, 16, 7, 17, 3, 231, 79, 77, 43, 26, 46, 62]
abbrev dktX10_of_3 : List UInt8 := dkwX10_of_3 ++ dktX10_of_4
def dkwX10_of_2 : List UInt8 := [17, 2, 88, 79, 89, 4, 16, 60, 79, 89, 5, 16, 20, 79, 89, 6, 16, 100, 79, 89, 7, 16, 100, 79]
abbrev dktX10_of_2 : List UInt8 := dkwX10_of_2 ++ dktX10_of_3
def dkwX10_of_1 : List UInt8 := [79, 89, 8, 3, 79, 89, 16, 6, 3, 79, 89, 16, 7, 3, 79, 76, 16, 8, 188, 10, 89, 3]
abbrev dktX10_of_1 : List UInt8 := dkwX10_of_1 ++ dktX10_of_2
def dkwX10_of_0 : List UInt8 := [16, 8, 188, 10, 89, 3, 4, 79, 89, 4, 3, 79, 89, 5, 3, 79, 89, 6, 16, 50, 79, 89, 7, 3]
abbrev dktX10_of_0 : List UInt8 := dkwX10_of_0 ++ dktX10_of_1
theorem dksX10_of_0 : cX10_of.data.toList.drop 0 = dktX10_of_0 := by decide +kernel
theorem dksX10_of_1 : cX10_of.data.toList.drop 24 = dktX10_of_1 := dk_seg dksX10_of_0 24 rfl rfl
theorem dksX10_of_2 : cX10_of.data.toList.drop 46 = dktX10_of_2 := dk_seg dksX10_of_1 22 rfl rfl
theorem dksX10_of_3 : cX10_of.data.toList.drop 70 = dktX10_of_3 := dk_seg dksX10_of_2 24 rfl rfl
theorem dksX10_of_4 : cX10_of.data.toList.drop 94 = dktX10_of_4 := dk_seg dksX10_of_3 24 rfl rfl
theorem dX10_of_0 : decode cX10_of 0 = .ok (.bipush 8, 2) := dk_16 8 (dk_at dksX10_of_0 0 rfl rfl)
theorem dX10_of_2 : decode cX10_of 2 = .ok (.newarray .int, 2) := dk_188_10 (dk_at dksX10_of_0 2 rfl rfl)
theorem dX10_of_4 : decode cX10_of 4 = .ok (.dup, 1) := dk_89 (dk_at dksX10_of_0 4 rfl rfl)
theorem dX10_of_5 : decode cX10_of 5 = .ok (.iconst 0, 1) := dk_3 (dk_at dksX10_of_0 5 rfl rfl)
theorem dX10_of_6 : decode cX10_of 6 = .ok (.iconst 1, 1) := dk_4 (dk_at dksX10_of_0 6 rfl rfl)
theorem dX10_of_7 : decode cX10_of 7 = .ok (.iastore, 1) := dk_79 (dk_at dksX10_of_0 7 rfl rfl)
theorem dX10_of_8 : decode cX10_of 8 = .ok (.dup, 1) := dk_89 (dk_at dksX10_of_0 8 rfl rfl)
theorem dX10_of_9 : decode cX10_of 9 = .ok (.iconst 1, 1) := dk_4 (dk_at dksX10_of_0 9 rfl rfl)
theorem dX10_of_10 : decode cX10_of 10 = .ok (.iconst 0, 1) := dk_3 (dk_at dksX10_of_0 10 rfl rfl)
theorem dX10_of_11 : decode cX10_of 11 = .ok (.iastore, 1) := dk_79 (dk_at dksX10_of_0 11 rfl rfl)
theorem dX10_of_12 : decode cX10_of 12 = .ok (.dup, 1) := dk_89 (dk_at dksX10_of_0 12 rfl rfl)
theorem dX10_of_13 : decode cX10_of 13 = .ok (.iconst 2, 1) := dk_5 (dk_at dksX10_of_0 13 rfl rfl)
theorem dX10_of_14 : decode cX10_of 14 = .ok (.iconst 0, 1) := dk_3 (dk_at dksX10_of_0 14 rfl rfl)
theorem dX10_of_15 : decode cX10_of 15 = .ok (.iastore, 1) := dk_79 (dk_at dksX10_of_0 15 rfl rfl)
theorem dX10_of_16 : decode cX10_of 16 = .ok (.dup, 1) := dk_89 (dk_at dksX10_of_0 16 rfl rfl)
theorem dX10_of_17 : decode cX10_of 17 = .ok (.iconst 3, 1) := dk_6 (dk_at dksX10_of_0 17 rfl rfl)
theorem dX10_of_18 : decode cX10_of 18 = .ok (.bipush 50, 2) := dk_16 50 (dk_at dksX10_of_0 18 rfl rfl)
theorem dX10_of_20 : decode cX10_of 20 = .ok (.iastore, 1) := dk_79 (dk_at dksX10_of_0 20 rfl rfl)
theorem dX10_of_21 : decode cX10_of 21 = .ok (.dup, 1) := dk_89 (dk_at dksX10_of_0 21 rfl rfl)
theorem dX10_of_22 : decode cX10_of 22 = .ok (.iconst 4, 1) := dk_7 (dk_at dksX10_of_0 22 rfl rfl)
theorem dX10_of_23 : decode cX10_of 23 = .ok (.iconst 0, 1) := dk_3 (dk_at dksX10_of_0 23 rfl rfl)
theorem dX10_of_24 : decode cX10_of 24 = .ok (.iastore, 1) := dk_79 (dk_at dksX10_of_1 0 rfl rfl)
theorem dX10_of_25 : decode cX10_of 25 = .ok (.dup, 1) := dk_89 (dk_at dksX10_of_1 1 rfl rfl)
theorem dX10_of_26 : decode cX10_of 26 = .ok (.iconst 5, 1) := dk_8 (dk_at dksX10_of_1 2 rfl rfl)
theorem dX10_of_27 : decode cX10_of 27 = .ok (.iconst 0, 1) := dk_3 (dk_at dksX10_of_1 3 rfl rfl)
theorem dX10_of_28 : decode cX10_of 28 = .ok (.iastore, 1) := dk_79 (dk_at dksX10_of_1 4 rfl rfl)
theorem dX10_of_29 : decode cX10_of 29 = .ok (.dup, 1) := dk_89 (dk_at dksX10_of_1 5 rfl rfl)
theorem dX10_of_30 : decode cX10_of 30 = .ok (.bipush 6, 2) := dk_16 6 (dk_at dksX10_of_1 6 rfl rfl)
theorem dX10_of_32 : decode cX10_of 32 = .ok (.iconst 0, 1) := dk_3 (dk_at dksX10_of_1 8 rfl rfl)
theorem dX10_of_33 : decode cX10_of 33 = .ok (.iastore, 1) := dk_79 (dk_at dksX10_of_1 9 rfl rfl)
theorem dX10_of_34 : decode cX10_of 34 = .ok (.dup, 1) := dk_89 (dk_at dksX10_of_1 10 rfl rfl)
theorem dX10_of_35 : decode cX10_of 35 = .ok (.bipush 7, 2) := dk_16 7 (dk_at dksX10_of_1 11 rfl rfl)
theorem dX10_of_37 : decode cX10_of 37 = .ok (.iconst 0, 1) := dk_3 (dk_at dksX10_of_1 13 rfl rfl)
theorem dX10_of_38 : decode cX10_of 38 = .ok (.iastore, 1) := dk_79 (dk_at dksX10_of_1 14 rfl rfl)
theorem dX10_of_39 : decode cX10_of 39 = .ok (.astore_n 1, 1) := dk_76 (dk_at dksX10_of_1 15 rfl rfl)
theorem dX10_of_40 : decode cX10_of 40 = .ok (.bipush 8, 2) := dk_16 8 (dk_at dksX10_of_1 16 rfl rfl)
theorem dX10_of_42 : decode cX10_of 42 = .ok (.newarray .int, 2) := dk_188_10 (dk_at dksX10_of_1 18 rfl rfl)
theorem dX10_of_44 : decode cX10_of 44 = .ok (.dup, 1) := dk_89 (dk_at dksX10_of_1 20 rfl rfl)
theorem dX10_of_45 : decode cX10_of 45 = .ok (.iconst 0, 1) := dk_3 (dk_at dksX10_of_1 21 rfl rfl)
theorem dX10_of_46 : decode cX10_of 46 = .ok (.sipush 600, 3) := dk_17 2 88 (dk_at dksX10_of_2 0 rfl rfl)
theorem dX10_of_49 : decode cX10_of 49 = .ok (.iastore, 1) := dk_79 (dk_at dksX10_of_2 3 rfl rfl)
theorem dX10_of_50 : decode cX10_of 50 = .ok (.dup, 1) := dk_89 (dk_at dksX10_of_2 4 rfl rfl)
theorem dX10_of_51 : decode cX10_of 51 = .ok (.iconst 1, 1) := dk_4 (dk_at dksX10_of_2 5 rfl rfl)
theorem dX10_of_52 : decode cX10_of 52 = .ok (.bipush 60, 2) := dk_16 60 (dk_at dksX10_of_2 6 rfl rfl)
theorem dX10_of_54 : decode cX10_of 54 = .ok (.iastore, 1) := dk_79 (dk_at dksX10_of_2 8 rfl rfl)
theorem dX10_of_55 : decode cX10_of 55 = .ok (.dup, 1) := dk_89 (dk_at dksX10_of_2 9 rfl rfl)
theorem dX10_of_56 : decode cX10_of 56 = .ok (.iconst 2, 1) := dk_5 (dk_at dksX10_of_2 10 rfl rfl)
theorem dX10_of_57 : decode cX10_of 57 = .ok (.bipush 20, 2) := dk_16 20 (dk_at dksX10_of_2 11 rfl rfl)
theorem dX10_of_59 : decode cX10_of 59 = .ok (.iastore, 1) := dk_79 (dk_at dksX10_of_2 13 rfl rfl)
theorem dX10_of_60 : decode cX10_of 60 = .ok (.dup, 1) := dk_89 (dk_at dksX10_of_2 14 rfl rfl)
theorem dX10_of_61 : decode cX10_of 61 = .ok (.iconst 3, 1) := dk_6 (dk_at dksX10_of_2 15 rfl rfl)
theorem dX10_of_62 : decode cX10_of 62 = .ok (.bipush 100, 2) := dk_16 100 (dk_at dksX10_of_2 16 rfl rfl)
theorem dX10_of_64 : decode cX10_of 64 = .ok (.iastore, 1) := dk_79 (dk_at dksX10_of_2 18 rfl rfl)
theorem dX10_of_65 : decode cX10_of 65 = .ok (.dup, 1) := dk_89 (dk_at dksX10_of_2 19 rfl rfl)
theorem dX10_of_66 : decode cX10_of 66 = .ok (.iconst 4, 1) := dk_7 (dk_at dksX10_of_2 20 rfl rfl)
theorem dX10_of_67 : decode cX10_of 67 = .ok (.bipush 100, 2) := dk_16 100 (dk_at dksX10_of_2 21 rfl rfl)
theorem dX10_of_69 : decode cX10_of 69 = .ok (.iastore, 1) := dk_79 (dk_at dksX10_of_2 23 rfl rfl)
theorem dX10_of_70 : decode cX10_of 70 = .ok (.dup, 1) := dk_89 (dk_at dksX10_of_3 0 rfl rfl)
theorem dX10_of_71 : decode cX10_of 71 = .ok (.iconst 5, 1) := dk_8 (dk_at dksX10_of_3 1 rfl rfl)
theorem dX10_of_72 : decode cX10_of 72 = .ok (.bipush 100, 2) := dk_16 100 (dk_at dksX10_of_3 2 rfl rfl)
theorem dX10_of_74 : decode cX10_of 74 = .ok (.iastore, 1) := dk_79 (dk_at dksX10_of_3 4 rfl rfl)
theorem dX10_of_75 : decode cX10_of 75 = .ok (.dup, 1) := dk_89 (dk_at dksX10_of_3 5 rfl rfl)
theorem dX10_of_76 : decode cX10_of 76 = .ok (.bipush 6, 2) := dk_16 6 (dk_at dksX10_of_3 6 rfl rfl)
theorem dX10_of_78 : decode cX10_of 78 = .ok (.sipush 999, 3) := dk_17 3 231 (dk_at dksX10_of_3 8 rfl rfl)
theorem dX10_of_81 : decode cX10_of 81 = .ok (.iastore, 1) := dk_79 (dk_at dksX10_of_3 11 rfl rfl)
theorem dX10_of_82 : decode cX10_of 82 = .ok (.dup, 1) := dk_89 (dk_at dksX10_of_3 12 rfl rfl)
theorem dX10_of_83 : decode cX10_of 83 = .ok (.bipush 7, 2) := dk_16 7 (dk_at dksX10_of_3 13 rfl rfl)
theorem dX10_of_85 : decode cX10_of 85 = .ok (.sipush 999, 3) := dk_17 3 231 (dk_at dksX10_of_3 15 rfl rfl)
theorem dX10_of_88 : decode cX10_of 88 = .ok (.iastore, 1) := dk_79 (dk_at dksX10_of_3 18 rfl rfl)
theorem dX10_of_89 : decode cX10_of 89 = .ok (.astore_n 2, 1) := dk_77 (dk_at dksX10_of_3 19 rfl rfl)
theorem dX10_of_90 : decode cX10_of 90 = .ok (.aload_n 1, 1) := dk_43 (dk_at dksX10_of_3 20 rfl rfl)
theorem dX10_of_91 : decode cX10_of 91 = .ok (.iload_n 0, 1) := dk_26 (dk_at dksX10_of_3 21 rfl rfl)
theorem dX10_of_92 : decode cX10_of 92 = .ok (.iaload, 1) := dk_46 (dk_at dksX10_of_3 22 rfl rfl)
theorem dX10_of_93 : decode cX10_of 93 = .ok (.istore_n 3, 1) := dk_62 (dk_at dksX10_of_3 23 rfl rfl)
theorem dX10_of_94 : decode cX10_of 94 = .ok (.aload_n 2, 1) := dk_44 (dk_at dksX10_of_4 0 rfl rfl)
theorem dX10_of_95 : decode cX10_of 95 = .ok (.iload_n 0, 1) := dk_26 (dk_at dksX10_of_4 1 rfl rfl)
theorem dX10_of_96 : decode cX10_of 96 = .ok (.iaload, 1) := dk_46 (dk_at dksX10_of_4 2 rfl rfl)
theorem dX10_of_97 : decode cX10_of 97 = .ok (.istore 4, 2) := dk_54 4 (dk_at dksX10_of_4 3 rfl rfl)
theorem dX10_of_99 : decode cX10_of 99 = .ok (.new 16, 3) := dk_187 0 16 (dk_at dksX10_of_4 5 rfl rfl)
theorem dX10_of_102 : decode cX10_of 102 = .ok (.dup, 1) := dk_89 (dk_at dksX10_of_4 8 rfl rfl)
theorem dX10_of_103 : decode cX10_of 103 = .ok (.iload_n 3, 1) := dk_29 (dk_at dksX10_of_4 9 rfl rfl)
theorem dX10_of_104 : decode cX10_of 104 = .ok (.iload 4, 2) := dk_21 4 (dk_at dksX10_of_4 10 rfl rfl)
theorem dX10_of_106 : decode cX10_of 106 = .ok (.invokespecial 18, 3) := dk_183 0 18 (dk_at dksX10_of_4 12 rfl rfl)
theorem dX10_of_109 : decode cX10_of 109 = .ok (.areturn, 1) := dk_176 (dk_at dksX10_of_4 15 rfl rfl)
theorem c_222_0 : LkP (OkP 222) [(0, o_push 2 (.int 8)), (2, o_newa 0 2), (4, o_dup), (5, o_push 1 (.int 0)), (6, o_push 1 (.int 1)), (7, o_wrI 0), (8, o_dup), (9, o_push 1 (.int 1)), (10, o_push 1 (.int 0)), (11, o_wrI 0), (12, o_dup), (13, o_push 1 (.int 2)), (14, o_push 1 (.int 0)), (15, o_wrI 0), (16, o_dup), (17, o_push 1 (.int 3)), (18, o_push 2 (.int 50)), (20, o_wrI 0), (21, o_dup), (22, o_push 1 (.int 4)), (23, o_push 1 (.int 0)), (24, o_wrI 0), (25, o_dup), (26, o_push 1 (.int 5)), (27, o_push 1 (.int 0)), (28, o_wrI 0), (29, o_dup), (30, o_push 2 (.int 6)), (32, o_push 1 (.int 0)), (33, o_wrI 0), (34, o_dup), (35, o_push 2 (.int 7)), (37, o_push 1 (.int 0)), (38, o_wrI 0), (39, o_astore 1 1), (40, o_push 2 (.int 8)), (42, o_newa 0 2), (44, o_dup), (45, o_push 1 (.int 0)), (46, o_push 3 (.int 600)), (49, o_wrI 0), (50, o_dup), (51, o_push 1 (.int 1)), (52, o_push 2 (.int 60)), (54, o_wrI 0), (55, o_dup), (56, o_push 1 (.int 2)), (57, o_push 2 (.int 20)), (59, o_wrI 0), (60, o_dup), (61, o_push 1 (.int 3)), (62, o_push 2 (.int 100))] := lkp_c (P := OkP 222) ⟨(PuOK.ok (ok_bipush dX10_of_0 rfl)), m_push⟩ (
  lkp_c (P := OkP 222) ⟨ok_newa (by decide) rfl q224 dX10_of_2, m_newa⟩ (
  lkp_c (P := OkP 222) ⟨(PuOK.ok (ok_dup dX10_of_4)), m_dup⟩ (
  lkp_c (P := OkP 222) ⟨(PuOK.ok (ok_iconst dX10_of_5 rfl)), m_push⟩ (
  lkp_c (P := OkP 222) ⟨(PuOK.ok (ok_iconst dX10_of_6 rfl)), m_push⟩ (
  lkp_c (P := OkP 222) ⟨ok_iast dX10_of_7, m_wrI⟩ (
  lkp_c (P := OkP 222) ⟨(PuOK.ok (ok_dup dX10_of_8)), m_dup⟩ (
  lkp_c (P := OkP 222) ⟨(PuOK.ok (ok_iconst dX10_of_9 rfl)), m_push⟩ (
  lkp_c (P := OkP 222) ⟨(PuOK.ok (ok_iconst dX10_of_10 rfl)), m_push⟩ (
  lkp_c (P := OkP 222) ⟨ok_iast dX10_of_11, m_wrI⟩ (
  lkp_c (P := OkP 222) ⟨(PuOK.ok (ok_dup dX10_of_12)), m_dup⟩ (
  lkp_c (P := OkP 222) ⟨(PuOK.ok (ok_iconst dX10_of_13 rfl)), m_push⟩ (
  lkp_c (P := OkP 222) ⟨(PuOK.ok (ok_iconst dX10_of_14 rfl)), m_push⟩ (
  lkp_c (P := OkP 222) ⟨ok_iast dX10_of_15, m_wrI⟩ (
  lkp_c (P := OkP 222) ⟨(PuOK.ok (ok_dup dX10_of_16)), m_dup⟩ (
  lkp_c (P := OkP 222) ⟨(PuOK.ok (ok_iconst dX10_of_17 rfl)), m_push⟩ (
  lkp_c (P := OkP 222) ⟨(PuOK.ok (ok_bipush dX10_of_18 rfl)), m_push⟩ (
  lkp_c (P := OkP 222) ⟨ok_iast dX10_of_20, m_wrI⟩ (
  lkp_c (P := OkP 222) ⟨(PuOK.ok (ok_dup dX10_of_21)), m_dup⟩ (
  lkp_c (P := OkP 222) ⟨(PuOK.ok (ok_iconst dX10_of_22 rfl)), m_push⟩ (
  lkp_c (P := OkP 222) ⟨(PuOK.ok (ok_iconst dX10_of_23 rfl)), m_push⟩ (
  lkp_c (P := OkP 222) ⟨ok_iast dX10_of_24, m_wrI⟩ (
  lkp_c (P := OkP 222) ⟨(PuOK.ok (ok_dup dX10_of_25)), m_dup⟩ (
  lkp_c (P := OkP 222) ⟨(PuOK.ok (ok_iconst dX10_of_26 rfl)), m_push⟩ (
  lkp_c (P := OkP 222) ⟨(PuOK.ok (ok_iconst dX10_of_27 rfl)), m_push⟩ (
  lkp_c (P := OkP 222) ⟨ok_iast dX10_of_28, m_wrI⟩ (
  lkp_c (P := OkP 222) ⟨(PuOK.ok (ok_dup dX10_of_29)), m_dup⟩ (
  lkp_c (P := OkP 222) ⟨(PuOK.ok (ok_bipush dX10_of_30 rfl)), m_push⟩ (
  lkp_c (P := OkP 222) ⟨(PuOK.ok (ok_iconst dX10_of_32 rfl)), m_push⟩ (
  lkp_c (P := OkP 222) ⟨ok_iast dX10_of_33, m_wrI⟩ (
  lkp_c (P := OkP 222) ⟨(PuOK.ok (ok_dup dX10_of_34)), m_dup⟩ (
  lkp_c (P := OkP 222) ⟨(PuOK.ok (ok_bipush dX10_of_35 rfl)), m_push⟩ (
  lkp_c (P := OkP 222) ⟨(PuOK.ok (ok_iconst dX10_of_37 rfl)), m_push⟩ (
  lkp_c (P := OkP 222) ⟨ok_iast dX10_of_38, m_wrI⟩ (
  lkp_c (P := OkP 222) ⟨(PuOK.ok (ok_astore_n dX10_of_39 rfl)), m_astore⟩ (
  lkp_c (P := OkP 222) ⟨(PuOK.ok (ok_bipush dX10_of_40 rfl)), m_push⟩ (
  lkp_c (P := OkP 222) ⟨ok_newa (by decide) rfl q224 dX10_of_42, m_newa⟩ (
  lkp_c (P := OkP 222) ⟨(PuOK.ok (ok_dup dX10_of_44)), m_dup⟩ (
  lkp_c (P := OkP 222) ⟨(PuOK.ok (ok_iconst dX10_of_45 rfl)), m_push⟩ (
  lkp_c (P := OkP 222) ⟨(PuOK.ok (ok_sipush dX10_of_46 rfl)), m_push⟩ (
  lkp_c (P := OkP 222) ⟨ok_iast dX10_of_49, m_wrI⟩ (
  lkp_c (P := OkP 222) ⟨(PuOK.ok (ok_dup dX10_of_50)), m_dup⟩ (
  lkp_c (P := OkP 222) ⟨(PuOK.ok (ok_iconst dX10_of_51 rfl)), m_push⟩ (
  lkp_c (P := OkP 222) ⟨(PuOK.ok (ok_bipush dX10_of_52 rfl)), m_push⟩ (
  lkp_c (P := OkP 222) ⟨ok_iast dX10_of_54, m_wrI⟩ (
  lkp_c (P := OkP 222) ⟨(PuOK.ok (ok_dup dX10_of_55)), m_dup⟩ (
  lkp_c (P := OkP 222) ⟨(PuOK.ok (ok_iconst dX10_of_56 rfl)), m_push⟩ (
  lkp_c (P := OkP 222) ⟨(PuOK.ok (ok_bipush dX10_of_57 rfl)), m_push⟩ (
  lkp_c (P := OkP 222) ⟨ok_iast dX10_of_59, m_wrI⟩ (
  lkp_c (P := OkP 222) ⟨(PuOK.ok (ok_dup dX10_of_60)), m_dup⟩ (
  lkp_c (P := OkP 222) ⟨(PuOK.ok (ok_iconst dX10_of_61 rfl)), m_push⟩ (
  lkp_c (P := OkP 222) ⟨(PuOK.ok (ok_bipush dX10_of_62 rfl)), m_push⟩ (
  trivial))))))))))))))))))))))))))))))))))))))))))))))))))))
theorem c_222_1 : LkP (OkP 222) [(64, o_wrI 0), (65, o_dup), (66, o_push 1 (.int 4)), (67, o_push 2 (.int 100)), (69, o_wrI 0), (70, o_dup), (71, o_push 1 (.int 5)), (72, o_push 2 (.int 100)), (74, o_wrI 0), (75, o_dup), (76, o_push 2 (.int 6)), (78, o_push 3 (.int 999)), (81, o_wrI 0), (82, o_dup), (83, o_push 2 (.int 7)), (85, o_push 3 (.int 999)), (88, o_wrI 0), (89, o_astore 2 1), (90, o_aload 1 1), (91, o_iload 0 1), (92, o_rdI 0), (93, o_istore 3 1), (94, o_aload 2 1), (95, o_iload 0 1), (96, o_rdI 0), (97, o_istore 4 2), (99, o_new 14 2 dv14), (102, o_dup), (103, o_iload 3 1), (104, o_iload 4 2), (106, o_ci 224 2), (109, o_ret 0)] := lkp_c (P := OkP 222) ⟨ok_iast dX10_of_64, m_wrI⟩ (
  lkp_c (P := OkP 222) ⟨(PuOK.ok (ok_dup dX10_of_65)), m_dup⟩ (
  lkp_c (P := OkP 222) ⟨(PuOK.ok (ok_iconst dX10_of_66 rfl)), m_push⟩ (
  lkp_c (P := OkP 222) ⟨(PuOK.ok (ok_bipush dX10_of_67 rfl)), m_push⟩ (
  lkp_c (P := OkP 222) ⟨ok_iast dX10_of_69, m_wrI⟩ (
  lkp_c (P := OkP 222) ⟨(PuOK.ok (ok_dup dX10_of_70)), m_dup⟩ (
  lkp_c (P := OkP 222) ⟨(PuOK.ok (ok_iconst dX10_of_71 rfl)), m_push⟩ (
  lkp_c (P := OkP 222) ⟨(PuOK.ok (ok_bipush dX10_of_72 rfl)), m_push⟩ (
  lkp_c (P := OkP 222) ⟨ok_iast dX10_of_74, m_wrI⟩ (
  lkp_c (P := OkP 222) ⟨(PuOK.ok (ok_dup dX10_of_75)), m_dup⟩ (
  lkp_c (P := OkP 222) ⟨(PuOK.ok (ok_bipush dX10_of_76 rfl)), m_push⟩ (
  lkp_c (P := OkP 222) ⟨(PuOK.ok (ok_sipush dX10_of_78 rfl)), m_push⟩ (
  lkp_c (P := OkP 222) ⟨ok_iast dX10_of_81, m_wrI⟩ (
  lkp_c (P := OkP 222) ⟨(PuOK.ok (ok_dup dX10_of_82)), m_dup⟩ (
  lkp_c (P := OkP 222) ⟨(PuOK.ok (ok_bipush dX10_of_83 rfl)), m_push⟩ (
  lkp_c (P := OkP 222) ⟨(PuOK.ok (ok_sipush dX10_of_85 rfl)), m_push⟩ (
  lkp_c (P := OkP 222) ⟨ok_iast dX10_of_88, m_wrI⟩ (
  lkp_c (P := OkP 222) ⟨(PuOK.ok (ok_astore_n dX10_of_89 rfl)), m_astore⟩ (
  lkp_c (P := OkP 222) ⟨(PuOK.ok (ok_aload_n dX10_of_90 rfl)), m_aload⟩ (
  lkp_c (P := OkP 222) ⟨(PuOK.ok (ok_iload_n dX10_of_91 rfl)), m_iload⟩ (
  lkp_c (P := OkP 222) ⟨ok_iald dX10_of_92, m_rdI⟩ (
  lkp_c (P := OkP 222) ⟨(PuOK.ok (ok_istore_n dX10_of_93 rfl)), m_istore⟩ (
  lkp_c (P := OkP 222) ⟨(PuOK.ok (ok_aload_n dX10_of_94 rfl)), m_aload⟩ (
  lkp_c (P := OkP 222) ⟨(PuOK.ok (ok_iload_n dX10_of_95 rfl)), m_iload⟩ (
  lkp_c (P := OkP 222) ⟨ok_iald dX10_of_96, m_rdI⟩ (
  lkp_c (P := OkP 222) ⟨(PuOK.ok (ok_istore dX10_of_97)), m_istore⟩ (
  lkp_c (P := OkP 222) ⟨ok_new (ci := 14) (r := CLr 14) rfl dvok_14 q1563 q1564 q147 dX10_of_99, m_new⟩ (
  lkp_c (P := OkP 222) ⟨(PuOK.ok (ok_dup dX10_of_102)), m_dup⟩ (
  lkp_c (P := OkP 222) ⟨(PuOK.ok (ok_iload_n dX10_of_103 rfl)), m_iload⟩ (
  lkp_c (P := OkP 222) ⟨(PuOK.ok (ok_iload dX10_of_104)), m_iload⟩ (
  lkp_c (P := OkP 222) ⟨ok_ci (tg_I (rt := none) ⟨rfl, by decide⟩ rfl q1565 q1566 q147 q1567 ⟨cn_48.1, cn_48.2, pd_5⟩ dX10_of_106) hd_no, m_ci⟩ (
  lkp_c (P := OkP 222) ⟨ok_aret rfl (Or.inl ⟨_, rfl⟩) dX10_of_109, m_ret⟩ (
  trivial))))))))))))))))))))))))))))))))
theorem mt_222 : MtOK TB NT IT 222 := ⟨by decide +kernel, rfl, (fun h => by cases h), Or.inl ⟨rfl, rfl⟩, rfl, by decide, lk2_all (P := OkP 222) ⟨c_222_0, c_222_1, trivial⟩⟩
def dkwX10_has_0 : List UInt8 := [27, 133, 42, 185, 0, 1, 1, 0, 133, 42, 185, 0, 7, 1, 0, 133, 184, 0, 10, 172]
abbrev dktX10_has_0 : List UInt8 := dkwX10_has_0 ++ []
theorem dksX10_has_0 : cX10_has.data.toList.drop 0 = dktX10_has_0 := by decide +kernel
theorem dX10_has_0 : decode cX10_has 0 = .ok (.iload_n 1, 1) := dk_27 (dk_at dksX10_has_0 0 rfl rfl)
theorem dX10_has_1 : decode cX10_has 1 = .ok (.i2l, 1) := dk_133 (dk_at dksX10_has_0 1 rfl rfl)
theorem dX10_has_2 : decode cX10_has 2 = .ok (.aload_n 0, 1) := dk_42 (dk_at dksX10_has_0 2 rfl rfl)
theorem dX10_has_3 : decode cX10_has 3 = .ok (.invokeinterface 1 1, 5) := by decide +kernel
theorem dX10_has_8 : decode cX10_has 8 = .ok (.i2l, 1) := dk_133 (dk_at dksX10_has_0 8 rfl rfl)
theorem dX10_has_9 : decode cX10_has 9 = .ok (.aload_n 0, 1) := dk_42 (dk_at dksX10_has_0 9 rfl rfl)
theorem dX10_has_10 : decode cX10_has 10 = .ok (.invokeinterface 7 1, 5) := by decide +kernel
theorem dX10_has_15 : decode cX10_has 15 = .ok (.i2l, 1) := dk_133 (dk_at dksX10_has_0 15 rfl rfl)
theorem dX10_has_16 : decode cX10_has 16 = .ok (.invokestatic 10, 3) := dk_184 0 10 (dk_at dksX10_has_0 16 rfl rfl)
theorem dX10_has_19 : decode cX10_has 19 = .ok (.ireturn, 1) := dk_172 (dk_at dksX10_has_0 19 rfl rfl)
theorem c_223_0 : LkP (OkP 223) [(0, o_iload 1 1), (1, o_i2l), (2, o_aload 0 1), (3, o_cv [(14, 225)] 0 5 false none), (8, o_i2l), (9, o_aload 0 1), (10, o_cv [(14, 226)] 0 5 false none), (15, o_i2l), (16, o_cs 165 3 false none), (19, o_ret 5)] := lkp_c (P := OkP 223) ⟨(PuOK.ok (ok_iload_n dX10_has_0 rfl)), m_iload⟩ (
  lkp_c (P := OkP 223) ⟨(PuOK.ok (ok_i2l dX10_has_1)), m_i2l⟩ (
  lkp_c (P := OkP 223) ⟨(PuOK.ok (ok_aload_n dX10_has_2 rfl)), m_aload⟩ (
  lkp_c (P := OkP 223) ⟨ok_cv (List.forall_mem_cons.mpr ⟨tg_F (ci := 14) (r := CLr 14) (y := 225) rfl ⟨rfl, by decide⟩ q1755 q1581 q1583 q147 q1585 q1579 q1578 q1584 q1582 q1580 ⟨cn_41.1, cn_41.2, pd_13⟩ dX10_has_3, (List.forall_mem_nil _)⟩) hd_no, m_cv⟩ (
  lkp_c (P := OkP 223) ⟨(PuOK.ok (ok_i2l dX10_has_8)), m_i2l⟩ (
  lkp_c (P := OkP 223) ⟨(PuOK.ok (ok_aload_n dX10_has_9 rfl)), m_aload⟩ (
  lkp_c (P := OkP 223) ⟨ok_cv (List.forall_mem_cons.mpr ⟨tg_F (ci := 14) (r := CLr 14) (y := 226) rfl ⟨rfl, by decide⟩ q1757 q1590 q1592 q147 q1594 q1589 q1588 q1593 q1591 q1580 ⟨cn_41.1, cn_41.2, pd_13⟩ dX10_has_10, (List.forall_mem_nil _)⟩) hd_no, m_cv⟩ (
  lkp_c (P := OkP 223) ⟨(PuOK.ok (ok_i2l dX10_has_15)), m_i2l⟩ (
  lkp_c (P := OkP 223) ⟨ok_cs (tg_SN ⟨rfl, by decide⟩ q1758 q1284 q115 q1285 ⟨cn_33.1, cn_33.2, pd_74⟩ dX10_has_16) hd_no, m_cs⟩ (
  lkp_c (P := OkP 223) ⟨ok_iret rfl rfl (by decide) dX10_has_19, m_ret⟩ (
  trivial))))))))))
theorem mt_223 : MtOK TB NT IT 223 := ⟨by decide +kernel, rfl, (fun h => by cases h), Or.inl ⟨rfl, rfl⟩, rfl, by decide, lk2_all (P := OkP 223) ⟨c_223_0, trivial⟩⟩
def dkwX11_init_0 : List UInt8 := [42, 27, 181, 0, 1, 42, 28, 181, 0, 7, 42, 183, 0, 10, 177]
abbrev dktX11_init_0 : List UInt8 := dkwX11_init_0 ++ []
theorem dksX11_init_0 : cX11_init.data.toList.drop 0 = dktX11_init_0 := by decide +kernel
theorem dX11_init_0 : decode cX11_init 0 = .ok (.aload_n 0, 1) := dk_42 (dk_at dksX11_init_0 0 rfl rfl)
theorem dX11_init_1 : decode cX11_init 1 = .ok (.iload_n 1, 1) := dk_27 (dk_at dksX11_init_0 1 rfl rfl)
theorem dX11_init_2 : decode cX11_init 2 = .ok (.putfield 1, 3) := dk_181 0 1 (dk_at dksX11_init_0 2 rfl rfl)
theorem dX11_init_5 : decode cX11_init 5 = .ok (.aload_n 0, 1) := dk_42 (dk_at dksX11_init_0 5 rfl rfl)
theorem dX11_init_6 : decode cX11_init 6 = .ok (.iload_n 2, 1) := dk_28 (dk_at dksX11_init_0 6 rfl rfl)
theorem dX11_init_7 : decode cX11_init 7 = .ok (.putfield 7, 3) := dk_181 0 7 (dk_at dksX11_init_0 7 rfl rfl)
theorem dX11_init_10 : decode cX11_init 10 = .ok (.aload_n 0, 1) := dk_42 (dk_at dksX11_init_0 10 rfl rfl)
theorem dX11_init_11 : decode cX11_init 11 = .ok (.invokespecial 10, 3) := dk_183 0 10 (dk_at dksX11_init_0 11 rfl rfl)
theorem dX11_init_14 : decode cX11_init 14 = .ok (.return_, 1) := dk_177 (dk_at dksX11_init_0 14 rfl rfl)
theorem c_224_0 : LkP (OkP 224) [(0, o_aload 0 1), (1, o_iload 1 1), (2, o_put 75 1), (5, o_aload 0 1), (6, o_iload 2 1), (7, o_put 76 1), (10, o_aload 0 1), (11, o_oi), (14, o_vret)] := lkp_c (P := OkP 224) ⟨(PuOK.ok (ok_aload_n dX11_init_0 rfl)), m_aload⟩ (
  lkp_c (P := OkP 224) ⟨(PuOK.ok (ok_iload_n dX11_init_1 rfl)), m_iload⟩ (
  lkp_c (P := OkP 224) ⟨ok_putF q1569 rfl rfl rfl fd_75 rfl dX11_init_2, m_put⟩ (
  lkp_c (P := OkP 224) ⟨(PuOK.ok (ok_aload_n dX11_init_5 rfl)), m_aload⟩ (
  lkp_c (P := OkP 224) ⟨(PuOK.ok (ok_iload_n dX11_init_6 rfl)), m_iload⟩ (
  lkp_c (P := OkP 224) ⟨ok_putF q1570 rfl rfl rfl fd_76 rfl dX11_init_7, m_put⟩ (
  lkp_c (P := OkP 224) ⟨(PuOK.ok (ok_aload_n dX11_init_10 rfl)), m_aload⟩ (
  lkp_c (P := OkP 224) ⟨ok_oi q1568 q188 q_oi dX11_init_11, m_oi⟩ (
  lkp_c (P := OkP 224) ⟨ok_vret rfl dX11_init_14, m_vret⟩ (
  trivial)))))))))
theorem mt_224 : MtOK TB NT IT 224 := ⟨by decide +kernel, rfl, fun _ => rfl, Or.inl ⟨rfl, rfl⟩, rfl, by decide, lk2_all (P := OkP 224) ⟨c_224_0, trivial⟩⟩
theorem dX11_low_0 : decode cX11_low 0 = .ok (.aload_n 0, 1) := by decide +kernel
theorem dX11_low_1 : decode cX11_low 1 = .ok (.getfield 1, 3) := by decide +kernel
theorem dX11_low_4 : decode cX11_low 4 = .ok (.ireturn, 1) := by decide +kernel
theorem c_225_0 : LkP (OkP 225) [(0, o_aload 0 1), (1, o_get 75), (4, o_ret 1)] := lkp_c (P := OkP 225) ⟨(PuOK.ok (ok_aload_n dX11_low_0 rfl)), m_aload⟩ (
  lkp_c (P := OkP 225) ⟨ok_get ⟨"TollRoad$Bounds$1", q1569, Or.inl rfl⟩ dX11_low_1, m_get⟩ (
  lkp_c (P := OkP 225) ⟨ok_iret rfl rfl (by decide) dX11_low_4, m_ret⟩ (
  trivial)))
theorem mt_225 : MtOK TB NT IT 225 := ⟨by decide +kernel, rfl, (fun h => by cases h), Or.inl ⟨rfl, rfl⟩, rfl, by decide, lk2_all (P := OkP 225) ⟨c_225_0, trivial⟩⟩
theorem dX11_high_0 : decode cX11_high 0 = .ok (.aload_n 0, 1) := by decide +kernel
theorem dX11_high_1 : decode cX11_high 1 = .ok (.getfield 7, 3) := by decide +kernel
theorem dX11_high_4 : decode cX11_high 4 = .ok (.ireturn, 1) := by decide +kernel
theorem c_226_0 : LkP (OkP 226) [(0, o_aload 0 1), (1, o_get 76), (4, o_ret 1)] := lkp_c (P := OkP 226) ⟨(PuOK.ok (ok_aload_n dX11_high_0 rfl)), m_aload⟩ (
  lkp_c (P := OkP 226) ⟨ok_get ⟨"TollRoad$Bounds$1", q1570, Or.inl rfl⟩ dX11_high_1, m_get⟩ (
  lkp_c (P := OkP 226) ⟨ok_iret rfl rfl (by decide) dX11_high_4, m_ret⟩ (
  trivial)))
theorem mt_226 : MtOK TB NT IT 226 := ⟨by decide +kernel, rfl, (fun h => by cases h), Or.inl ⟨rfl, rfl⟩, rfl, by decide, lk2_all (P := OkP 226) ⟨c_226_0, trivial⟩⟩
def dkwX12_init_1 : List UInt8 := [181, 0, 18, 42, 43, 181, 0, 22, 42, 29, 181, 0, 26, 42, 180, 0, 9, 3, 28, 79, 177]
abbrev dktX12_init_1 : List UInt8 := dkwX12_init_1 ++ []
def dkwX12_init_0 : List UInt8 := [42, 183, 0, 3, 42, 16, 7, 188, 10, 181, 0, 9, 42, 16, 7, 188, 10, 181, 0, 15, 42, 2]
abbrev dktX12_init_0 : List UInt8 := dkwX12_init_0 ++ dktX12_init_1
theorem dksX12_init_0 : cX12_init.data.toList.drop 0 = dktX12_init_0 := by decide +kernel
theorem dksX12_init_1 : cX12_init.data.toList.drop 22 = dktX12_init_1 := dk_seg dksX12_init_0 22 rfl rfl
theorem dX12_init_0 : decode cX12_init 0 = .ok (.aload_n 0, 1) := dk_42 (dk_at dksX12_init_0 0 rfl rfl)
theorem dX12_init_1 : decode cX12_init 1 = .ok (.invokespecial 3, 3) := dk_183 0 3 (dk_at dksX12_init_0 1 rfl rfl)
theorem dX12_init_4 : decode cX12_init 4 = .ok (.aload_n 0, 1) := dk_42 (dk_at dksX12_init_0 4 rfl rfl)
theorem dX12_init_5 : decode cX12_init 5 = .ok (.bipush 7, 2) := dk_16 7 (dk_at dksX12_init_0 5 rfl rfl)
theorem dX12_init_7 : decode cX12_init 7 = .ok (.newarray .int, 2) := dk_188_10 (dk_at dksX12_init_0 7 rfl rfl)
theorem dX12_init_9 : decode cX12_init 9 = .ok (.putfield 9, 3) := dk_181 0 9 (dk_at dksX12_init_0 9 rfl rfl)
theorem dX12_init_12 : decode cX12_init 12 = .ok (.aload_n 0, 1) := dk_42 (dk_at dksX12_init_0 12 rfl rfl)
theorem dX12_init_13 : decode cX12_init 13 = .ok (.bipush 7, 2) := dk_16 7 (dk_at dksX12_init_0 13 rfl rfl)
theorem dX12_init_15 : decode cX12_init 15 = .ok (.newarray .int, 2) := dk_188_10 (dk_at dksX12_init_0 15 rfl rfl)
theorem dX12_init_17 : decode cX12_init 17 = .ok (.putfield 15, 3) := dk_181 0 15 (dk_at dksX12_init_0 17 rfl rfl)
theorem dX12_init_20 : decode cX12_init 20 = .ok (.aload_n 0, 1) := dk_42 (dk_at dksX12_init_0 20 rfl rfl)
theorem dX12_init_21 : decode cX12_init 21 = .ok (.iconst (-1), 1) := dk_2 (dk_at dksX12_init_0 21 rfl rfl)
theorem dX12_init_22 : decode cX12_init 22 = .ok (.putfield 18, 3) := dk_181 0 18 (dk_at dksX12_init_1 0 rfl rfl)
theorem dX12_init_25 : decode cX12_init 25 = .ok (.aload_n 0, 1) := dk_42 (dk_at dksX12_init_1 3 rfl rfl)
theorem dX12_init_26 : decode cX12_init 26 = .ok (.aload_n 1, 1) := dk_43 (dk_at dksX12_init_1 4 rfl rfl)
theorem dX12_init_27 : decode cX12_init 27 = .ok (.putfield 22, 3) := dk_181 0 22 (dk_at dksX12_init_1 5 rfl rfl)
theorem dX12_init_30 : decode cX12_init 30 = .ok (.aload_n 0, 1) := dk_42 (dk_at dksX12_init_1 8 rfl rfl)
theorem dX12_init_31 : decode cX12_init 31 = .ok (.iload_n 3, 1) := dk_29 (dk_at dksX12_init_1 9 rfl rfl)
theorem dX12_init_32 : decode cX12_init 32 = .ok (.putfield 26, 3) := dk_181 0 26 (dk_at dksX12_init_1 10 rfl rfl)
theorem dX12_init_35 : decode cX12_init 35 = .ok (.aload_n 0, 1) := dk_42 (dk_at dksX12_init_1 13 rfl rfl)
theorem dX12_init_36 : decode cX12_init 36 = .ok (.getfield 9, 3) := dk_180 0 9 (dk_at dksX12_init_1 14 rfl rfl)
theorem dX12_init_39 : decode cX12_init 39 = .ok (.iconst 0, 1) := dk_3 (dk_at dksX12_init_1 17 rfl rfl)
theorem dX12_init_40 : decode cX12_init 40 = .ok (.iload_n 2, 1) := dk_28 (dk_at dksX12_init_1 18 rfl rfl)
theorem dX12_init_41 : decode cX12_init 41 = .ok (.iastore, 1) := dk_79 (dk_at dksX12_init_1 19 rfl rfl)
theorem dX12_init_42 : decode cX12_init 42 = .ok (.return_, 1) := dk_177 (dk_at dksX12_init_1 20 rfl rfl)
theorem c_227_0 : LkP (OkP 227) [(0, o_aload 0 1), (1, o_oi), (4, o_aload 0 1), (5, o_push 2 (.int 7)), (7, o_newa 0 2), (9, o_put 79 0), (12, o_aload 0 1), (13, o_push 2 (.int 7)), (15, o_newa 0 2), (17, o_put 80 0), (20, o_aload 0 1), (21, o_push 1 (.int (-1))), (22, o_put 81 1), (25, o_aload 0 1), (26, o_aload 1 1), (27, o_put 77 0), (30, o_aload 0 1), (31, o_iload 3 1), (32, o_put 78 1), (35, o_aload 0 1), (36, o_get 79), (39, o_push 1 (.int 0)), (40, o_iload 2 1), (41, o_wrI 0), (42, o_vret)] := lkp_c (P := OkP 227) ⟨(PuOK.ok (ok_aload_n dX12_init_0 rfl)), m_aload⟩ (
  lkp_c (P := OkP 227) ⟨ok_oi q1862 q188 q_oi dX12_init_1, m_oi⟩ (
  lkp_c (P := OkP 227) ⟨(PuOK.ok (ok_aload_n dX12_init_4 rfl)), m_aload⟩ (
  lkp_c (P := OkP 227) ⟨(PuOK.ok (ok_bipush dX12_init_5 rfl)), m_push⟩ (
  lkp_c (P := OkP 227) ⟨ok_newa (by decide) rfl q224 dX12_init_7, m_newa⟩ (
  lkp_c (P := OkP 227) ⟨ok_putF q1876 rfl rfl rfl fd_79 rfl dX12_init_9, m_put⟩ (
  lkp_c (P := OkP 227) ⟨(PuOK.ok (ok_aload_n dX12_init_12 rfl)), m_aload⟩ (
  lkp_c (P := OkP 227) ⟨(PuOK.ok (ok_bipush dX12_init_13 rfl)), m_push⟩ (
  lkp_c (P := OkP 227) ⟨ok_newa (by decide) rfl q224 dX12_init_15, m_newa⟩ (
  lkp_c (P := OkP 227) ⟨ok_putF q1877 rfl rfl rfl fd_80 rfl dX12_init_17, m_put⟩ (
  lkp_c (P := OkP 227) ⟨(PuOK.ok (ok_aload_n dX12_init_20 rfl)), m_aload⟩ (
  lkp_c (P := OkP 227) ⟨(PuOK.ok (ok_iconst dX12_init_21 rfl)), m_push⟩ (
  lkp_c (P := OkP 227) ⟨ok_put ⟨"TollRoad$Search", q1880, Or.inl rfl⟩ rfl fd_81 rfl dX12_init_22, m_put⟩ (
  lkp_c (P := OkP 227) ⟨(PuOK.ok (ok_aload_n dX12_init_25 rfl)), m_aload⟩ (
  lkp_c (P := OkP 227) ⟨(PuOK.ok (ok_aload_n dX12_init_26 rfl)), m_aload⟩ (
  lkp_c (P := OkP 227) ⟨ok_putF q1874 rfl rfl rfl fd_77 rfl dX12_init_27, m_put⟩ (
  lkp_c (P := OkP 227) ⟨(PuOK.ok (ok_aload_n dX12_init_30 rfl)), m_aload⟩ (
  lkp_c (P := OkP 227) ⟨(PuOK.ok (ok_iload_n dX12_init_31 rfl)), m_iload⟩ (
  lkp_c (P := OkP 227) ⟨ok_putF q1875 rfl rfl rfl fd_78 rfl dX12_init_32, m_put⟩ (
  lkp_c (P := OkP 227) ⟨(PuOK.ok (ok_aload_n dX12_init_35 rfl)), m_aload⟩ (
  lkp_c (P := OkP 227) ⟨ok_get ⟨"TollRoad$Search", q1876, Or.inl rfl⟩ dX12_init_36, m_get⟩ (
  lkp_c (P := OkP 227) ⟨(PuOK.ok (ok_iconst dX12_init_39 rfl)), m_push⟩ (
  lkp_c (P := OkP 227) ⟨(PuOK.ok (ok_iload_n dX12_init_40 rfl)), m_iload⟩ (
  lkp_c (P := OkP 227) ⟨ok_iast dX12_init_41, m_wrI⟩ (
  lkp_c (P := OkP 227) ⟨ok_vret rfl dX12_init_42, m_vret⟩ (
  trivial)))))))))))))))))))))))))
theorem mt_227 : MtOK TB NT IT 227 := ⟨by decide +kernel, rfl, fun _ => rfl, Or.inl ⟨rfl, rfl⟩, rfl, by decide, lk2_all (P := OkP 227) ⟨c_227_0, trivial⟩⟩
def dkwX12_search_0 : List UInt8 := [42, 3, 4, 42, 180, 0, 9, 3, 46, 120, 3, 3, 3, 182, 0, 59, 42, 176]
abbrev dktX12_search_0 : List UInt8 := dkwX12_search_0 ++ []
theorem dksX12_search_0 : cX12_search.data.toList.drop 0 = dktX12_search_0 := by decide +kernel
theorem dX12_search_0 : decode cX12_search 0 = .ok (.aload_n 0, 1) := dk_42 (dk_at dksX12_search_0 0 rfl rfl)
theorem dX12_search_1 : decode cX12_search 1 = .ok (.iconst 0, 1) := dk_3 (dk_at dksX12_search_0 1 rfl rfl)
theorem dX12_search_2 : decode cX12_search 2 = .ok (.iconst 1, 1) := dk_4 (dk_at dksX12_search_0 2 rfl rfl)
theorem dX12_search_3 : decode cX12_search 3 = .ok (.aload_n 0, 1) := dk_42 (dk_at dksX12_search_0 3 rfl rfl)
theorem dX12_search_4 : decode cX12_search 4 = .ok (.getfield 9, 3) := dk_180 0 9 (dk_at dksX12_search_0 4 rfl rfl)
theorem dX12_search_7 : decode cX12_search 7 = .ok (.iconst 0, 1) := dk_3 (dk_at dksX12_search_0 7 rfl rfl)
theorem dX12_search_8 : decode cX12_search 8 = .ok (.iaload, 1) := dk_46 (dk_at dksX12_search_0 8 rfl rfl)
theorem dX12_search_9 : decode cX12_search 9 = .ok (.ishl, 1) := dk_120 (dk_at dksX12_search_0 9 rfl rfl)
theorem dX12_search_10 : decode cX12_search 10 = .ok (.iconst 0, 1) := dk_3 (dk_at dksX12_search_0 10 rfl rfl)
theorem dX12_search_11 : decode cX12_search 11 = .ok (.iconst 0, 1) := dk_3 (dk_at dksX12_search_0 11 rfl rfl)
theorem dX12_search_12 : decode cX12_search 12 = .ok (.iconst 0, 1) := dk_3 (dk_at dksX12_search_0 12 rfl rfl)
theorem dX12_search_13 : decode cX12_search 13 = .ok (.invokevirtual 59, 3) := dk_182 0 59 (dk_at dksX12_search_0 13 rfl rfl)
theorem dX12_search_16 : decode cX12_search 16 = .ok (.aload_n 0, 1) := dk_42 (dk_at dksX12_search_0 16 rfl rfl)
theorem dX12_search_17 : decode cX12_search 17 = .ok (.areturn, 1) := dk_176 (dk_at dksX12_search_0 17 rfl rfl)
theorem c_228_0 : LkP (OkP 228) [(0, o_aload 0 1), (1, o_push 1 (.int 0)), (2, o_push 1 (.int 1)), (3, o_aload 0 1), (4, o_get 79), (7, o_push 1 (.int 0)), (8, o_rdI 0), (9, o_iop (fun x y => x <<< (y &&& 31))), (10, o_push 1 (.int 0)), (11, o_push 1 (.int 0)), (12, o_push 1 (.int 0)), (13, o_cv [(16, 229), (15, 229)] 5 3 true none), (16, o_aload 0 1), (17, o_ret 0)] := lkp_c (P := OkP 228) ⟨(PuOK.ok (ok_aload_n dX12_search_0 rfl)), m_aload⟩ (
  lkp_c (P := OkP 228) ⟨(PuOK.ok (ok_iconst dX12_search_1 rfl)), m_push⟩ (
  lkp_c (P := OkP 228) ⟨(PuOK.ok (ok_iconst dX12_search_2 rfl)), m_push⟩ (
  lkp_c (P := OkP 228) ⟨(PuOK.ok (ok_aload_n dX12_search_3 rfl)), m_aload⟩ (
  lkp_c (P := OkP 228) ⟨ok_get ⟨"TollRoad$Search", q1876, Or.inl rfl⟩ dX12_search_4, m_get⟩ (
  lkp_c (P := OkP 228) ⟨(PuOK.ok (ok_iconst dX12_search_7 rfl)), m_push⟩ (
  lkp_c (P := OkP 228) ⟨ok_iald dX12_search_8, m_rdI⟩ (
  lkp_c (P := OkP 228) ⟨(PuOK.ok (ok_ishl dX12_search_9)), m_iop⟩ (
  lkp_c (P := OkP 228) ⟨(PuOK.ok (ok_iconst dX12_search_10 rfl)), m_push⟩ (
  lkp_c (P := OkP 228) ⟨(PuOK.ok (ok_iconst dX12_search_11 rfl)), m_push⟩ (
  lkp_c (P := OkP 228) ⟨(PuOK.ok (ok_iconst dX12_search_12 rfl)), m_push⟩ (
  lkp_c (P := OkP 228) ⟨ok_cv (List.forall_mem_cons.mpr ⟨tg_U (ci := 16) (r := CLr 16) (y := 229) rfl (owner := "TollRoad$Search") ⟨rfl, by decide⟩ q1913 q1915 q1916 q1914 q154 q1918 ⟨cn_43.1, cn_43.2, pd_96⟩ rfl dX12_search_13, (List.forall_mem_cons.mpr ⟨tg_U (ci := 15) (r := CLr 15) (y := 229) rfl (owner := "TollRoad$Search") ⟨rfl, by decide⟩ q1913 q1915 q1917 q1914 q154 q1918 ⟨cn_43.1, cn_43.2, pd_96⟩ rfl dX12_search_13, (List.forall_mem_nil _)⟩)⟩) hd_no, m_cv⟩ (
  lkp_c (P := OkP 228) ⟨(PuOK.ok (ok_aload_n dX12_search_16 rfl)), m_aload⟩ (
  lkp_c (P := OkP 228) ⟨ok_aret rfl (Or.inl ⟨_, rfl⟩) dX12_search_17, m_ret⟩ (
  trivial))))))))))))))
theorem mt_228 : MtOK TB NT IT 228 := ⟨by decide +kernel, rfl, (fun h => by cases h), Or.inl ⟨rfl, rfl⟩, rfl, by decide, lk2_all (P := OkP 228) ⟨c_228_0, trivial⟩⟩
def dkwX12_go_7 : List UInt8 := [132, 8, 1, 167, 255, 165, 177]
abbrev dktX12_go_7 : List UInt8 := dkwX12_go_7 ++ []
def dkwX12_go_6 : List UInt8 := [25, 9, 180, 0, 51, 96, 21, 4, 25, 9, 180, 0, 56, 96, 21, 5, 21, 7, 96, 182, 0, 59]
abbrev dktX12_go_6 : List UInt8 := dkwX12_go_6 ++ dktX12_go_7
def dkwX12_go_5 : List UInt8 := [154, 0, 46, 42, 180, 0, 9, 27, 4, 96, 21, 8, 79, 42, 27, 4, 96, 28, 4, 21, 8, 120, 128, 29]
abbrev dktX12_go_5 : List UInt8 := dkwX12_go_5 ++ dktX12_go_6
def dkwX12_go_4 : List UInt8 := [180, 0, 22, 21, 6, 21, 8, 182, 0, 47, 58, 9, 25, 9, 198, 0, 55, 28, 21, 8, 122, 4, 126]
abbrev dktX12_go_4 : List UInt8 := dkwX12_go_4 ++ dktX12_go_5
def dkwX12_go_3 : List UInt8 := [3, 54, 8, 21, 8, 42, 180, 0, 22, 180, 0, 44, 162, 0, 85, 27, 16, 6, 162, 0, 79, 42]
abbrev dktX12_go_3 : List UInt8 := dkwX12_go_3 ++ dktX12_go_4
def dkwX12_go_2 : List UInt8 := [184, 0, 33, 177, 27, 154, 0, 7, 3, 167, 0, 13, 42, 180, 0, 22, 180, 0, 39, 21, 6, 46, 54, 7]
abbrev dktX12_go_2 : List UInt8 := dkwX12_go_2 ++ dktX12_go_3
def dkwX12_go_1 : List UInt8 := [182, 0, 29, 153, 0, 24, 42, 27, 181, 0, 18, 42, 180, 0, 9, 3, 42, 180, 0, 15, 3, 27, 4, 96]
abbrev dktX12_go_1 : List UInt8 := dkwX12_go_1 ++ dktX12_go_2
def dkwX12_go_0 : List UInt8 := [42, 180, 0, 9, 27, 46, 54, 6, 21, 6, 42, 180, 0, 26, 160, 0, 38, 42, 27, 29, 21, 4, 21, 5]
abbrev dktX12_go_0 : List UInt8 := dkwX12_go_0 ++ dktX12_go_1
theorem dksX12_go_0 : cX12_go.data.toList.drop 0 = dktX12_go_0 := by decide +kernel
theorem dksX12_go_1 : cX12_go.data.toList.drop 24 = dktX12_go_1 := dk_seg dksX12_go_0 24 rfl rfl
theorem dksX12_go_2 : cX12_go.data.toList.drop 48 = dktX12_go_2 := dk_seg dksX12_go_1 24 rfl rfl
theorem dksX12_go_3 : cX12_go.data.toList.drop 72 = dktX12_go_3 := dk_seg dksX12_go_2 24 rfl rfl
theorem dksX12_go_4 : cX12_go.data.toList.drop 94 = dktX12_go_4 := dk_seg dksX12_go_3 22 rfl rfl
theorem dksX12_go_5 : cX12_go.data.toList.drop 117 = dktX12_go_5 := dk_seg dksX12_go_4 23 rfl rfl
theorem dksX12_go_6 : cX12_go.data.toList.drop 141 = dktX12_go_6 := dk_seg dksX12_go_5 24 rfl rfl
theorem dksX12_go_7 : cX12_go.data.toList.drop 163 = dktX12_go_7 := dk_seg dksX12_go_6 22 rfl rfl
theorem dX12_go_0 : decode cX12_go 0 = .ok (.aload_n 0, 1) := dk_42 (dk_at dksX12_go_0 0 rfl rfl)
theorem dX12_go_1 : decode cX12_go 1 = .ok (.getfield 9, 3) := dk_180 0 9 (dk_at dksX12_go_0 1 rfl rfl)
theorem dX12_go_4 : decode cX12_go 4 = .ok (.iload_n 1, 1) := dk_27 (dk_at dksX12_go_0 4 rfl rfl)
theorem dX12_go_5 : decode cX12_go 5 = .ok (.iaload, 1) := dk_46 (dk_at dksX12_go_0 5 rfl rfl)
theorem dX12_go_6 : decode cX12_go 6 = .ok (.istore 6, 2) := dk_54 6 (dk_at dksX12_go_0 6 rfl rfl)
theorem dX12_go_8 : decode cX12_go 8 = .ok (.iload 6, 2) := dk_21 6 (dk_at dksX12_go_0 8 rfl rfl)
theorem dX12_go_10 : decode cX12_go 10 = .ok (.aload_n 0, 1) := dk_42 (dk_at dksX12_go_0 10 rfl rfl)
theorem dX12_go_11 : decode cX12_go 11 = .ok (.getfield 26, 3) := dk_180 0 26 (dk_at dksX12_go_0 11 rfl rfl)
theorem dX12_go_14 : decode cX12_go 14 = .ok (.if_icmp .ne 38, 3) := dk_160 0 38 (dk_at dksX12_go_0 14 rfl rfl)
theorem dX12_go_17 : decode cX12_go 17 = .ok (.aload_n 0, 1) := dk_42 (dk_at dksX12_go_0 17 rfl rfl)
theorem dX12_go_18 : decode cX12_go 18 = .ok (.iload_n 1, 1) := dk_27 (dk_at dksX12_go_0 18 rfl rfl)
theorem dX12_go_19 : decode cX12_go 19 = .ok (.iload_n 3, 1) := dk_29 (dk_at dksX12_go_0 19 rfl rfl)
theorem dX12_go_20 : decode cX12_go 20 = .ok (.iload 4, 2) := dk_21 4 (dk_at dksX12_go_0 20 rfl rfl)
theorem dX12_go_22 : decode cX12_go 22 = .ok (.iload 5, 2) := dk_21 5 (dk_at dksX12_go_0 22 rfl rfl)
theorem dX12_go_24 : decode cX12_go 24 = .ok (.invokevirtual 29, 3) := dk_182 0 29 (dk_at dksX12_go_1 0 rfl rfl)
theorem dX12_go_27 : decode cX12_go 27 = .ok (.ifCond .eq 24, 3) := dk_153 0 24 (dk_at dksX12_go_1 3 rfl rfl)
theorem dX12_go_30 : decode cX12_go 30 = .ok (.aload_n 0, 1) := dk_42 (dk_at dksX12_go_1 6 rfl rfl)
theorem dX12_go_31 : decode cX12_go 31 = .ok (.iload_n 1, 1) := dk_27 (dk_at dksX12_go_1 7 rfl rfl)
theorem dX12_go_32 : decode cX12_go 32 = .ok (.putfield 18, 3) := dk_181 0 18 (dk_at dksX12_go_1 8 rfl rfl)
theorem dX12_go_35 : decode cX12_go 35 = .ok (.aload_n 0, 1) := dk_42 (dk_at dksX12_go_1 11 rfl rfl)
theorem dX12_go_36 : decode cX12_go 36 = .ok (.getfield 9, 3) := dk_180 0 9 (dk_at dksX12_go_1 12 rfl rfl)
theorem dX12_go_39 : decode cX12_go 39 = .ok (.iconst 0, 1) := dk_3 (dk_at dksX12_go_1 15 rfl rfl)
theorem dX12_go_40 : decode cX12_go 40 = .ok (.aload_n 0, 1) := dk_42 (dk_at dksX12_go_1 16 rfl rfl)
theorem dX12_go_41 : decode cX12_go 41 = .ok (.getfield 15, 3) := dk_180 0 15 (dk_at dksX12_go_1 17 rfl rfl)
theorem dX12_go_44 : decode cX12_go 44 = .ok (.iconst 0, 1) := dk_3 (dk_at dksX12_go_1 20 rfl rfl)
theorem dX12_go_45 : decode cX12_go 45 = .ok (.iload_n 1, 1) := dk_27 (dk_at dksX12_go_1 21 rfl rfl)
theorem dX12_go_46 : decode cX12_go 46 = .ok (.iconst 1, 1) := dk_4 (dk_at dksX12_go_1 22 rfl rfl)
theorem dX12_go_47 : decode cX12_go 47 = .ok (.iadd, 1) := dk_96 (dk_at dksX12_go_1 23 rfl rfl)
theorem dX12_go_48 : decode cX12_go 48 = .ok (.invokestatic 33, 3) := dk_184 0 33 (dk_at dksX12_go_2 0 rfl rfl)
theorem dX12_go_51 : decode cX12_go 51 = .ok (.return_, 1) := dk_177 (dk_at dksX12_go_2 3 rfl rfl)
theorem dX12_go_52 : decode cX12_go 52 = .ok (.iload_n 1, 1) := dk_27 (dk_at dksX12_go_2 4 rfl rfl)
theorem dX12_go_53 : decode cX12_go 53 = .ok (.ifCond .ne 7, 3) := dk_154 0 7 (dk_at dksX12_go_2 5 rfl rfl)
theorem dX12_go_56 : decode cX12_go 56 = .ok (.iconst 0, 1) := dk_3 (dk_at dksX12_go_2 8 rfl rfl)
theorem dX12_go_57 : decode cX12_go 57 = .ok (.goto 13, 3) := dk_167 0 13 (dk_at dksX12_go_2 9 rfl rfl)
theorem dX12_go_60 : decode cX12_go 60 = .ok (.aload_n 0, 1) := dk_42 (dk_at dksX12_go_2 12 rfl rfl)
theorem dX12_go_61 : decode cX12_go 61 = .ok (.getfield 22, 3) := dk_180 0 22 (dk_at dksX12_go_2 13 rfl rfl)
theorem dX12_go_64 : decode cX12_go 64 = .ok (.getfield 39, 3) := dk_180 0 39 (dk_at dksX12_go_2 16 rfl rfl)
theorem dX12_go_67 : decode cX12_go 67 = .ok (.iload 6, 2) := dk_21 6 (dk_at dksX12_go_2 19 rfl rfl)
theorem dX12_go_69 : decode cX12_go 69 = .ok (.iaload, 1) := dk_46 (dk_at dksX12_go_2 21 rfl rfl)
theorem dX12_go_70 : decode cX12_go 70 = .ok (.istore 7, 2) := dk_54 7 (dk_at dksX12_go_2 22 rfl rfl)
theorem dX12_go_72 : decode cX12_go 72 = .ok (.iconst 0, 1) := dk_3 (dk_at dksX12_go_3 0 rfl rfl)
theorem dX12_go_73 : decode cX12_go 73 = .ok (.istore 8, 2) := dk_54 8 (dk_at dksX12_go_3 1 rfl rfl)
theorem dX12_go_75 : decode cX12_go 75 = .ok (.iload 8, 2) := dk_21 8 (dk_at dksX12_go_3 3 rfl rfl)
theorem dX12_go_77 : decode cX12_go 77 = .ok (.aload_n 0, 1) := dk_42 (dk_at dksX12_go_3 5 rfl rfl)
theorem dX12_go_78 : decode cX12_go 78 = .ok (.getfield 22, 3) := dk_180 0 22 (dk_at dksX12_go_3 6 rfl rfl)
theorem dX12_go_81 : decode cX12_go 81 = .ok (.getfield 44, 3) := dk_180 0 44 (dk_at dksX12_go_3 9 rfl rfl)
theorem dX12_go_84 : decode cX12_go 84 = .ok (.if_icmp .ge 85, 3) := dk_162 0 85 (dk_at dksX12_go_3 12 rfl rfl)
theorem dX12_go_87 : decode cX12_go 87 = .ok (.iload_n 1, 1) := dk_27 (dk_at dksX12_go_3 15 rfl rfl)
theorem dX12_go_88 : decode cX12_go 88 = .ok (.bipush 6, 2) := dk_16 6 (dk_at dksX12_go_3 16 rfl rfl)
theorem dX12_go_90 : decode cX12_go 90 = .ok (.if_icmp .ge 79, 3) := dk_162 0 79 (dk_at dksX12_go_3 18 rfl rfl)
theorem dX12_go_93 : decode cX12_go 93 = .ok (.aload_n 0, 1) := dk_42 (dk_at dksX12_go_3 21 rfl rfl)
theorem dX12_go_94 : decode cX12_go 94 = .ok (.getfield 22, 3) := dk_180 0 22 (dk_at dksX12_go_4 0 rfl rfl)
theorem dX12_go_97 : decode cX12_go 97 = .ok (.iload 6, 2) := dk_21 6 (dk_at dksX12_go_4 3 rfl rfl)
theorem dX12_go_99 : decode cX12_go 99 = .ok (.iload 8, 2) := dk_21 8 (dk_at dksX12_go_4 5 rfl rfl)
theorem dX12_go_101 : decode cX12_go 101 = .ok (.invokevirtual 47, 3) := dk_182 0 47 (dk_at dksX12_go_4 7 rfl rfl)
theorem dX12_go_104 : decode cX12_go 104 = .ok (.astore 9, 2) := dk_58 9 (dk_at dksX12_go_4 10 rfl rfl)
theorem dX12_go_106 : decode cX12_go 106 = .ok (.aload 9, 2) := dk_25 9 (dk_at dksX12_go_4 12 rfl rfl)
theorem dX12_go_108 : decode cX12_go 108 = .ok (.ifnull 55, 3) := dk_198 0 55 (dk_at dksX12_go_4 14 rfl rfl)
theorem dX12_go_111 : decode cX12_go 111 = .ok (.iload_n 2, 1) := dk_28 (dk_at dksX12_go_4 17 rfl rfl)
theorem dX12_go_112 : decode cX12_go 112 = .ok (.iload 8, 2) := dk_21 8 (dk_at dksX12_go_4 18 rfl rfl)
theorem dX12_go_114 : decode cX12_go 114 = .ok (.ishr, 1) := dk_122 (dk_at dksX12_go_4 20 rfl rfl)
theorem dX12_go_115 : decode cX12_go 115 = .ok (.iconst 1, 1) := dk_4 (dk_at dksX12_go_4 21 rfl rfl)
theorem dX12_go_116 : decode cX12_go 116 = .ok (.iand, 1) := dk_126 (dk_at dksX12_go_4 22 rfl rfl)
theorem dX12_go_117 : decode cX12_go 117 = .ok (.ifCond .ne 46, 3) := dk_154 0 46 (dk_at dksX12_go_5 0 rfl rfl)
theorem dX12_go_120 : decode cX12_go 120 = .ok (.aload_n 0, 1) := dk_42 (dk_at dksX12_go_5 3 rfl rfl)
theorem dX12_go_121 : decode cX12_go 121 = .ok (.getfield 9, 3) := dk_180 0 9 (dk_at dksX12_go_5 4 rfl rfl)
theorem dX12_go_124 : decode cX12_go 124 = .ok (.iload_n 1, 1) := dk_27 (dk_at dksX12_go_5 7 rfl rfl)
theorem dX12_go_125 : decode cX12_go 125 = .ok (.iconst 1, 1) := dk_4 (dk_at dksX12_go_5 8 rfl rfl)
theorem dX12_go_126 : decode cX12_go 126 = .ok (.iadd, 1) := dk_96 (dk_at dksX12_go_5 9 rfl rfl)
theorem dX12_go_127 : decode cX12_go 127 = .ok (.iload 8, 2) := dk_21 8 (dk_at dksX12_go_5 10 rfl rfl)
theorem dX12_go_129 : decode cX12_go 129 = .ok (.iastore, 1) := dk_79 (dk_at dksX12_go_5 12 rfl rfl)
theorem dX12_go_130 : decode cX12_go 130 = .ok (.aload_n 0, 1) := dk_42 (dk_at dksX12_go_5 13 rfl rfl)
theorem dX12_go_131 : decode cX12_go 131 = .ok (.iload_n 1, 1) := dk_27 (dk_at dksX12_go_5 14 rfl rfl)
theorem dX12_go_132 : decode cX12_go 132 = .ok (.iconst 1, 1) := dk_4 (dk_at dksX12_go_5 15 rfl rfl)
theorem dX12_go_133 : decode cX12_go 133 = .ok (.iadd, 1) := dk_96 (dk_at dksX12_go_5 16 rfl rfl)
theorem dX12_go_134 : decode cX12_go 134 = .ok (.iload_n 2, 1) := dk_28 (dk_at dksX12_go_5 17 rfl rfl)
theorem dX12_go_135 : decode cX12_go 135 = .ok (.iconst 1, 1) := dk_4 (dk_at dksX12_go_5 18 rfl rfl)
theorem dX12_go_136 : decode cX12_go 136 = .ok (.iload 8, 2) := dk_21 8 (dk_at dksX12_go_5 19 rfl rfl)
theorem dX12_go_138 : decode cX12_go 138 = .ok (.ishl, 1) := dk_120 (dk_at dksX12_go_5 21 rfl rfl)
theorem dX12_go_139 : decode cX12_go 139 = .ok (.ior, 1) := dk_128 (dk_at dksX12_go_5 22 rfl rfl)
theorem dX12_go_140 : decode cX12_go 140 = .ok (.iload_n 3, 1) := dk_29 (dk_at dksX12_go_5 23 rfl rfl)
theorem dX12_go_141 : decode cX12_go 141 = .ok (.aload 9, 2) := dk_25 9 (dk_at dksX12_go_6 0 rfl rfl)
theorem dX12_go_143 : decode cX12_go 143 = .ok (.getfield 51, 3) := dk_180 0 51 (dk_at dksX12_go_6 2 rfl rfl)
theorem dX12_go_146 : decode cX12_go 146 = .ok (.iadd, 1) := dk_96 (dk_at dksX12_go_6 5 rfl rfl)
theorem dX12_go_147 : decode cX12_go 147 = .ok (.iload 4, 2) := dk_21 4 (dk_at dksX12_go_6 6 rfl rfl)
theorem dX12_go_149 : decode cX12_go 149 = .ok (.aload 9, 2) := dk_25 9 (dk_at dksX12_go_6 8 rfl rfl)
theorem dX12_go_151 : decode cX12_go 151 = .ok (.getfield 56, 3) := dk_180 0 56 (dk_at dksX12_go_6 10 rfl rfl)
theorem dX12_go_154 : decode cX12_go 154 = .ok (.iadd, 1) := dk_96 (dk_at dksX12_go_6 13 rfl rfl)
theorem dX12_go_155 : decode cX12_go 155 = .ok (.iload 5, 2) := dk_21 5 (dk_at dksX12_go_6 14 rfl rfl)
theorem dX12_go_157 : decode cX12_go 157 = .ok (.iload 7, 2) := dk_21 7 (dk_at dksX12_go_6 16 rfl rfl)
theorem dX12_go_159 : decode cX12_go 159 = .ok (.iadd, 1) := dk_96 (dk_at dksX12_go_6 18 rfl rfl)
theorem dX12_go_160 : decode cX12_go 160 = .ok (.invokevirtual 59, 3) := dk_182 0 59 (dk_at dksX12_go_6 19 rfl rfl)
theorem dX12_go_163 : decode cX12_go 163 = .ok (.iinc 8 1, 3) := dk_132 8 1 (dk_at dksX12_go_7 0 rfl rfl)
theorem dX12_go_166 : decode cX12_go 166 = .ok (.goto (-91), 3) := dk_167 255 165 (dk_at dksX12_go_7 3 rfl rfl)
theorem dX12_go_169 : decode cX12_go 169 = .ok (.return_, 1) := dk_177 (dk_at dksX12_go_7 6 rfl rfl)
theorem c_229_0 : LkP (OkP 229) [(0, o_aload 0 1), (1, o_get 79), (4, o_iload 1 1), (5, o_rdI 0), (6, o_istore 6 2), (8, o_iload 6 2), (10, o_aload 0 1), (11, o_get 78), (14, o_icmp (fun x y => decide (¬ x = y)) 52), (17, o_aload 0 1), (18, o_iload 1 1), (19, o_iload 3 1), (20, o_iload 4 2), (22, o_iload 5 2), (24, o_cv [(16, 233), (15, 232)] 4 3 false none), (27, o_if (fun x => decide (x = 0)) 51), (30, o_aload 0 1), (31, o_iload 1 1), (32, o_put 81 1), (35, o_aload 0 1), (36, o_get 79), (39, o_push 1 (.int 0)), (40, o_aload 0 1), (41, o_get 80), (44, o_push 1 (.int 0)), (45, o_iload 1 1), (46, o_push 1 (.int 1)), (47, o_iop (fun x y => x + y)), (48, o_cpI 0), (51, o_vret), (52, o_iload 1 1), (53, o_if (fun x => decide (¬ x = 0)) 60), (56, o_push 1 (.int 0)), (57, o_goto 70), (60, o_aload 0 1), (61, o_get 77)] := lkp_c (P := OkP 229) ⟨(PuOK.ok (ok_aload_n dX12_go_0 rfl)), m_aload⟩ (
  lkp_c (P := OkP 229) ⟨ok_get ⟨"TollRoad$Search", q1876, Or.inl rfl⟩ dX12_go_1, m_get⟩ (
  lkp_c (P := OkP 229) ⟨(PuOK.ok (ok_iload_n dX12_go_4 rfl)), m_iload⟩ (
  lkp_c (P := OkP 229) ⟨ok_iald dX12_go_5, m_rdI⟩ (
  lkp_c (P := OkP 229) ⟨(PuOK.ok (ok_istore dX12_go_6)), m_istore⟩ (
  lkp_c (P := OkP 229) ⟨(PuOK.ok (ok_iload dX12_go_8)), m_iload⟩ (
  lkp_c (P := OkP 229) ⟨(PuOK.ok (ok_aload_n dX12_go_10 rfl)), m_aload⟩ (
  lkp_c (P := OkP 229) ⟨ok_get ⟨"TollRoad$Search", q1875, Or.inl rfl⟩ dX12_go_11, m_get⟩ (
  lkp_c (P := OkP 229) ⟨(PuOK.ok (ok_icmp_ne dX12_go_14 rfl)), m_icmp⟩ (
  lkp_c (P := OkP 229) ⟨(PuOK.ok (ok_aload_n dX12_go_17 rfl)), m_aload⟩ (
  lkp_c (P := OkP 229) ⟨(PuOK.ok (ok_iload_n dX12_go_18 rfl)), m_iload⟩ (
  lkp_c (P := OkP 229) ⟨(PuOK.ok (ok_iload_n dX12_go_19 rfl)), m_iload⟩ (
  lkp_c (P := OkP 229) ⟨(PuOK.ok (ok_iload dX12_go_20)), m_iload⟩ (
  lkp_c (P := OkP 229) ⟨(PuOK.ok (ok_iload dX12_go_22)), m_iload⟩ (
  lkp_c (P := OkP 229) ⟨ok_cv (List.forall_mem_cons.mpr ⟨tg_A (ci := 16) (r := CLr 16) (y := 233) rfl (owner := "TollRoad$Search") ⟨rfl, by decide⟩ q1919 q1921 q1922 q1923 q156 q1924 ⟨cn_43.1, cn_43.2, pd_97⟩ q1920 dX12_go_24, (List.forall_mem_cons.mpr ⟨tg_A (ci := 15) (r := CLr 15) (y := 232) rfl (owner := "TollRoad$Search") ⟨rfl, by decide⟩ q1919 q1921 q1931 q1932 q155 q1933 ⟨cn_43.1, cn_43.2, pd_97⟩ q1920 dX12_go_24, (List.forall_mem_nil _)⟩)⟩) hd_no, m_cv⟩ (
  lkp_c (P := OkP 229) ⟨(PuOK.ok (ok_if_eq dX12_go_27 rfl)), m_if⟩ (
  lkp_c (P := OkP 229) ⟨(PuOK.ok (ok_aload_n dX12_go_30 rfl)), m_aload⟩ (
  lkp_c (P := OkP 229) ⟨(PuOK.ok (ok_iload_n dX12_go_31 rfl)), m_iload⟩ (
  lkp_c (P := OkP 229) ⟨ok_put ⟨"TollRoad$Search", q1880, Or.inl rfl⟩ rfl fd_81 rfl dX12_go_32, m_put⟩ (
  lkp_c (P := OkP 229) ⟨(PuOK.ok (ok_aload_n dX12_go_35 rfl)), m_aload⟩ (
  lkp_c (P := OkP 229) ⟨ok_get ⟨"TollRoad$Search", q1876, Or.inl rfl⟩ dX12_go_36, m_get⟩ (
  lkp_c (P := OkP 229) ⟨(PuOK.ok (ok_iconst dX12_go_39 rfl)), m_push⟩ (
  lkp_c (P := OkP 229) ⟨(PuOK.ok (ok_aload_n dX12_go_40 rfl)), m_aload⟩ (
  lkp_c (P := OkP 229) ⟨ok_get ⟨"TollRoad$Search", q1877, Or.inl rfl⟩ dX12_go_41, m_get⟩ (
  lkp_c (P := OkP 229) ⟨(PuOK.ok (ok_iconst dX12_go_44 rfl)), m_push⟩ (
  lkp_c (P := OkP 229) ⟨(PuOK.ok (ok_iload_n dX12_go_45 rfl)), m_iload⟩ (
  lkp_c (P := OkP 229) ⟨(PuOK.ok (ok_iconst dX12_go_46 rfl)), m_push⟩ (
  lkp_c (P := OkP 229) ⟨(PuOK.ok (ok_iadd dX12_go_47)), m_iop⟩ (
  lkp_c (P := OkP 229) ⟨ok_cpI (by decide) q1940 q378 q377 q132 dX12_go_48, m_cpI⟩ (
  lkp_c (P := OkP 229) ⟨ok_vret rfl dX12_go_51, m_vret⟩ (
  lkp_c (P := OkP 229) ⟨(PuOK.ok (ok_iload_n dX12_go_52 rfl)), m_iload⟩ (
  lkp_c (P := OkP 229) ⟨(PuOK.ok (ok_if_ne dX12_go_53 rfl)), m_if⟩ (
  lkp_c (P := OkP 229) ⟨(PuOK.ok (ok_iconst dX12_go_56 rfl)), m_push⟩ (
  lkp_c (P := OkP 229) ⟨(PuOK.ok (ok_goto dX12_go_57 rfl)), m_goto⟩ (
  lkp_c (P := OkP 229) ⟨(PuOK.ok (ok_aload_n dX12_go_60 rfl)), m_aload⟩ (
  lkp_c (P := OkP 229) ⟨ok_get ⟨"TollRoad$Search", q1874, Or.inl rfl⟩ dX12_go_61, m_get⟩ (
  trivial))))))))))))))))))))))))))))))))))))
theorem c_229_1 : LkP (OkP 229) [(64, o_get 14), (67, o_iload 6 2), (69, o_rdI 0), (70, o_istore 7 2), (72, o_push 1 (.int 0)), (73, o_istore 8 2), (75, o_iload 8 2), (77, o_aload 0 1), (78, o_get 77), (81, o_get 15), (84, o_icmp (fun x y => decide (y ≤ x)) 169), (87, o_iload 1 1), (88, o_push 2 (.int 6)), (90, o_icmp (fun x y => decide (y ≤ x)) 169), (93, o_aload 0 1), (94, o_get 77), (97, o_iload 6 2), (99, o_iload 8 2), (101, o_cv [(2, 284)] 2 3 false none), (104, o_astore 9 2), (106, o_aload 9 2), (108, o_ifnull 163), (111, o_iload 2 1), (112, o_iload 8 2), (114, o_iop (fun x y => x >>> (y &&& 31))), (115, o_push 1 (.int 1)), (116, o_iop (fun x y => x &&& y)), (117, o_if (fun x => decide (¬ x = 0)) 163), (120, o_aload 0 1), (121, o_get 79), (124, o_iload 1 1), (125, o_push 1 (.int 1)), (126, o_iop (fun x y => x + y)), (127, o_iload 8 2)] := lkp_c (P := OkP 229) ⟨ok_getN ⟨"TollRoad$Network", "TollRoad", q205, Or.inl rfl⟩ dX12_go_64, m_get⟩ (
  lkp_c (P := OkP 229) ⟨(PuOK.ok (ok_iload dX12_go_67)), m_iload⟩ (
  lkp_c (P := OkP 229) ⟨ok_iald dX12_go_69, m_rdI⟩ (
  lkp_c (P := OkP 229) ⟨(PuOK.ok (ok_istore dX12_go_70)), m_istore⟩ (
  lkp_c (P := OkP 229) ⟨(PuOK.ok (ok_iconst dX12_go_72 rfl)), m_push⟩ (
  lkp_c (P := OkP 229) ⟨(PuOK.ok (ok_istore dX12_go_73)), m_istore⟩ (
  lkp_c (P := OkP 229) ⟨(PuOK.ok (ok_iload dX12_go_75)), m_iload⟩ (
  lkp_c (P := OkP 229) ⟨(PuOK.ok (ok_aload_n dX12_go_77 rfl)), m_aload⟩ (
  lkp_c (P := OkP 229) ⟨ok_get ⟨"TollRoad$Search", q1874, Or.inl rfl⟩ dX12_go_78, m_get⟩ (
  lkp_c (P := OkP 229) ⟨ok_getN ⟨"TollRoad$Network", "TollRoad", q208, Or.inl rfl⟩ dX12_go_81, m_get⟩ (
  lkp_c (P := OkP 229) ⟨(PuOK.ok (ok_icmp_ge dX12_go_84 rfl)), m_icmp⟩ (
  lkp_c (P := OkP 229) ⟨(PuOK.ok (ok_iload_n dX12_go_87 rfl)), m_iload⟩ (
  lkp_c (P := OkP 229) ⟨(PuOK.ok (ok_bipush dX12_go_88 rfl)), m_push⟩ (
  lkp_c (P := OkP 229) ⟨(PuOK.ok (ok_icmp_ge dX12_go_90 rfl)), m_icmp⟩ (
  lkp_c (P := OkP 229) ⟨(PuOK.ok (ok_aload_n dX12_go_93 rfl)), m_aload⟩ (
  lkp_c (P := OkP 229) ⟨ok_get ⟨"TollRoad$Search", q1874, Or.inl rfl⟩ dX12_go_94, m_get⟩ (
  lkp_c (P := OkP 229) ⟨(PuOK.ok (ok_iload dX12_go_97)), m_iload⟩ (
  lkp_c (P := OkP 229) ⟨(PuOK.ok (ok_iload dX12_go_99)), m_iload⟩ (
  lkp_c (P := OkP 229) ⟨ok_cv (List.forall_mem_cons.mpr ⟨tg_V (ci := 2) (r := CLr 2) (y := 284) rfl ⟨rfl, by decide⟩ rfl q1941 q1424 q1425 q117 q1426 ⟨cn_40.1, cn_40.2, pd_75⟩ dX12_go_101, (List.forall_mem_nil _)⟩) hd_no, m_cv⟩ (
  lkp_c (P := OkP 229) ⟨(PuOK.ok (ok_astore dX12_go_104)), m_astore⟩ (
  lkp_c (P := OkP 229) ⟨(PuOK.ok (ok_aload dX12_go_106)), m_aload⟩ (
  lkp_c (P := OkP 229) ⟨(PuOK.ok (ok_ifnull dX12_go_108 rfl)), m_ifnull⟩ (
  lkp_c (P := OkP 229) ⟨(PuOK.ok (ok_iload_n dX12_go_111 rfl)), m_iload⟩ (
  lkp_c (P := OkP 229) ⟨(PuOK.ok (ok_iload dX12_go_112)), m_iload⟩ (
  lkp_c (P := OkP 229) ⟨(PuOK.ok (ok_ishr dX12_go_114)), m_iop⟩ (
  lkp_c (P := OkP 229) ⟨(PuOK.ok (ok_iconst dX12_go_115 rfl)), m_push⟩ (
  lkp_c (P := OkP 229) ⟨(PuOK.ok (ok_iand dX12_go_116)), m_iop⟩ (
  lkp_c (P := OkP 229) ⟨(PuOK.ok (ok_if_ne dX12_go_117 rfl)), m_if⟩ (
  lkp_c (P := OkP 229) ⟨(PuOK.ok (ok_aload_n dX12_go_120 rfl)), m_aload⟩ (
  lkp_c (P := OkP 229) ⟨ok_get ⟨"TollRoad$Search", q1876, Or.inl rfl⟩ dX12_go_121, m_get⟩ (
  lkp_c (P := OkP 229) ⟨(PuOK.ok (ok_iload_n dX12_go_124 rfl)), m_iload⟩ (
  lkp_c (P := OkP 229) ⟨(PuOK.ok (ok_iconst dX12_go_125 rfl)), m_push⟩ (
  lkp_c (P := OkP 229) ⟨(PuOK.ok (ok_iadd dX12_go_126)), m_iop⟩ (
  lkp_c (P := OkP 229) ⟨(PuOK.ok (ok_iload dX12_go_127)), m_iload⟩ (
  trivial))))))))))))))))))))))))))))))))))
theorem c_229_2 : LkP (OkP 229) [(129, o_wrI 0), (130, o_aload 0 1), (131, o_iload 1 1), (132, o_push 1 (.int 1)), (133, o_iop (fun x y => x + y)), (134, o_iload 2 1), (135, o_push 1 (.int 1)), (136, o_iload 8 2), (138, o_iop (fun x y => x <<< (y &&& 31))), (139, o_iop (fun x y => x ||| y)), (140, o_iload 3 1), (141, o_aload 9 2), (143, o_get 61), (146, o_iop (fun x y => x + y)), (147, o_iload 4 2), (149, o_aload 9 2), (151, o_get 62), (154, o_iop (fun x y => x + y)), (155, o_iload 5 2), (157, o_iload 7 2), (159, o_iop (fun x y => x + y)), (160, o_cv [(16, 229), (15, 229)] 5 3 true none), (163, o_iinc 8 1), (166, o_goto 75), (169, o_vret)] := lkp_c (P := OkP 229) ⟨ok_iast dX12_go_129, m_wrI⟩ (
  lkp_c (P := OkP 229) ⟨(PuOK.ok (ok_aload_n dX12_go_130 rfl)), m_aload⟩ (
  lkp_c (P := OkP 229) ⟨(PuOK.ok (ok_iload_n dX12_go_131 rfl)), m_iload⟩ (
  lkp_c (P := OkP 229) ⟨(PuOK.ok (ok_iconst dX12_go_132 rfl)), m_push⟩ (
  lkp_c (P := OkP 229) ⟨(PuOK.ok (ok_iadd dX12_go_133)), m_iop⟩ (
  lkp_c (P := OkP 229) ⟨(PuOK.ok (ok_iload_n dX12_go_134 rfl)), m_iload⟩ (
  lkp_c (P := OkP 229) ⟨(PuOK.ok (ok_iconst dX12_go_135 rfl)), m_push⟩ (
  lkp_c (P := OkP 229) ⟨(PuOK.ok (ok_iload dX12_go_136)), m_iload⟩ (
  lkp_c (P := OkP 229) ⟨(PuOK.ok (ok_ishl dX12_go_138)), m_iop⟩ (
  lkp_c (P := OkP 229) ⟨(PuOK.ok (ok_ior dX12_go_139)), m_iop⟩ (
  lkp_c (P := OkP 229) ⟨(PuOK.ok (ok_iload_n dX12_go_140 rfl)), m_iload⟩ (
  lkp_c (P := OkP 229) ⟨(PuOK.ok (ok_aload dX12_go_141)), m_aload⟩ (
  lkp_c (P := OkP 229) ⟨ok_getN ⟨"TollRoad$Road", "TollRoad", q1438, Or.inl rfl⟩ dX12_go_143, m_get⟩ (
  lkp_c (P := OkP 229) ⟨(PuOK.ok (ok_iadd dX12_go_146)), m_iop⟩ (
  lkp_c (P := OkP 229) ⟨(PuOK.ok (ok_iload dX12_go_147)), m_iload⟩ (
  lkp_c (P := OkP 229) ⟨(PuOK.ok (ok_aload dX12_go_149)), m_aload⟩ (
  lkp_c (P := OkP 229) ⟨ok_getN ⟨"TollRoad$Road", "TollRoad", q1440, Or.inl rfl⟩ dX12_go_151, m_get⟩ (
  lkp_c (P := OkP 229) ⟨(PuOK.ok (ok_iadd dX12_go_154)), m_iop⟩ (
  lkp_c (P := OkP 229) ⟨(PuOK.ok (ok_iload dX12_go_155)), m_iload⟩ (
  lkp_c (P := OkP 229) ⟨(PuOK.ok (ok_iload dX12_go_157)), m_iload⟩ (
  lkp_c (P := OkP 229) ⟨(PuOK.ok (ok_iadd dX12_go_159)), m_iop⟩ (
  lkp_c (P := OkP 229) ⟨ok_cv (List.forall_mem_cons.mpr ⟨tg_U (ci := 16) (r := CLr 16) (y := 229) rfl (owner := "TollRoad$Search") ⟨rfl, by decide⟩ q1913 q1915 q1916 q1914 q154 q1918 ⟨cn_43.1, cn_43.2, pd_96⟩ rfl dX12_go_160, (List.forall_mem_cons.mpr ⟨tg_U (ci := 15) (r := CLr 15) (y := 229) rfl (owner := "TollRoad$Search") ⟨rfl, by decide⟩ q1913 q1915 q1917 q1914 q154 q1918 ⟨cn_43.1, cn_43.2, pd_96⟩ rfl dX12_go_160, (List.forall_mem_nil _)⟩)⟩) hd_no, m_cv⟩ (
  lkp_c (P := OkP 229) ⟨(PuOK.ok (ok_iinc dX12_go_163 rfl)), m_iinc⟩ (
  lkp_c (P := OkP 229) ⟨(PuOK.ok (ok_goto dX12_go_166 rfl)), m_goto⟩ (
  lkp_c (P := OkP 229) ⟨ok_vret rfl dX12_go_169, m_vret⟩ (
  trivial)))))))))))))))))))))))))
theorem mt_229 : MtOK TB NT IT 229 := ⟨by decide +kernel, rfl, (fun h => by cases h), Or.inl ⟨rfl, rfl⟩, rfl, by decide, lk2_all (P := OkP 229) ⟨c_229_0, c_229_1, c_229_2, trivial⟩⟩
def dkwX12_isFound_0 : List UInt8 := [42, 180, 0, 18, 2, 159, 0, 7, 4, 167, 0, 4, 3, 172]
abbrev dktX12_isFound_0 : List UInt8 := dkwX12_isFound_0 ++ []
theorem dksX12_isFound_0 : cX12_isFound.data.toList.drop 0 = dktX12_isFound_0 := by decide +kernel
theorem dX12_isFound_0 : decode cX12_isFound 0 = .ok (.aload_n 0, 1) := dk_42 (dk_at dksX12_isFound_0 0 rfl rfl)
theorem dX12_isFound_1 : decode cX12_isFound 1 = .ok (.getfield 18, 3) := dk_180 0 18 (dk_at dksX12_isFound_0 1 rfl rfl)
theorem dX12_isFound_4 : decode cX12_isFound 4 = .ok (.iconst (-1), 1) := dk_2 (dk_at dksX12_isFound_0 4 rfl rfl)
theorem dX12_isFound_5 : decode cX12_isFound 5 = .ok (.if_icmp .eq 7, 3) := dk_159 0 7 (dk_at dksX12_isFound_0 5 rfl rfl)
theorem dX12_isFound_8 : decode cX12_isFound 8 = .ok (.iconst 1, 1) := dk_4 (dk_at dksX12_isFound_0 8 rfl rfl)
theorem dX12_isFound_9 : decode cX12_isFound 9 = .ok (.goto 4, 3) := dk_167 0 4 (dk_at dksX12_isFound_0 9 rfl rfl)
theorem dX12_isFound_12 : decode cX12_isFound 12 = .ok (.iconst 0, 1) := dk_3 (dk_at dksX12_isFound_0 12 rfl rfl)
theorem dX12_isFound_13 : decode cX12_isFound 13 = .ok (.ireturn, 1) := dk_172 (dk_at dksX12_isFound_0 13 rfl rfl)
theorem c_230_0 : LkP (OkP 230) [(0, o_aload 0 1), (1, o_get 81), (4, o_push 1 (.int (-1))), (5, o_icmp (fun x y => decide (x = y)) 12), (8, o_push 1 (.int 1)), (9, o_goto 13), (12, o_push 1 (.int 0)), (13, o_ret 5)] := lkp_c (P := OkP 230) ⟨(PuOK.ok (ok_aload_n dX12_isFound_0 rfl)), m_aload⟩ (
  lkp_c (P := OkP 230) ⟨ok_get ⟨"TollRoad$Search", q1880, Or.inl rfl⟩ dX12_isFound_1, m_get⟩ (
  lkp_c (P := OkP 230) ⟨(PuOK.ok (ok_iconst dX12_isFound_4 rfl)), m_push⟩ (
  lkp_c (P := OkP 230) ⟨(PuOK.ok (ok_icmp_eq dX12_isFound_5 rfl)), m_icmp⟩ (
  lkp_c (P := OkP 230) ⟨(PuOK.ok (ok_iconst dX12_isFound_8 rfl)), m_push⟩ (
  lkp_c (P := OkP 230) ⟨(PuOK.ok (ok_goto dX12_isFound_9 rfl)), m_goto⟩ (
  lkp_c (P := OkP 230) ⟨(PuOK.ok (ok_iconst dX12_isFound_12 rfl)), m_push⟩ (
  lkp_c (P := OkP 230) ⟨ok_iret rfl rfl (by decide) dX12_isFound_13, m_ret⟩ (
  trivial))))))))
theorem mt_230 : MtOK TB NT IT 230 := ⟨by decide +kernel, rfl, (fun h => by cases h), Or.inl ⟨rfl, rfl⟩, rfl, by decide, lk2_all (P := OkP 230) ⟨c_230_0, trivial⟩⟩
def dkwX13_init_1 : List UInt8 := [46, 181, 0, 18, 177]
abbrev dktX13_init_1 : List UInt8 := dkwX13_init_1 ++ []
def dkwX13_init_0 : List UInt8 := [42, 43, 29, 21, 4, 183, 0, 3, 42, 21, 5, 181, 0, 9, 42, 44, 5, 46, 181, 0, 15, 42, 44, 6]
abbrev dktX13_init_0 : List UInt8 := dkwX13_init_0 ++ dktX13_init_1
theorem dksX13_init_0 : cX13_init.data.toList.drop 0 = dktX13_init_0 := by decide +kernel
theorem dksX13_init_1 : cX13_init.data.toList.drop 24 = dktX13_init_1 := dk_seg dksX13_init_0 24 rfl rfl
theorem dX13_init_0 : decode cX13_init 0 = .ok (.aload_n 0, 1) := dk_42 (dk_at dksX13_init_0 0 rfl rfl)
theorem dX13_init_1 : decode cX13_init 1 = .ok (.aload_n 1, 1) := dk_43 (dk_at dksX13_init_0 1 rfl rfl)
theorem dX13_init_2 : decode cX13_init 2 = .ok (.iload_n 3, 1) := dk_29 (dk_at dksX13_init_0 2 rfl rfl)
theorem dX13_init_3 : decode cX13_init 3 = .ok (.iload 4, 2) := dk_21 4 (dk_at dksX13_init_0 3 rfl rfl)
theorem dX13_init_5 : decode cX13_init 5 = .ok (.invokespecial 3, 3) := dk_183 0 3 (dk_at dksX13_init_0 5 rfl rfl)
theorem dX13_init_8 : decode cX13_init 8 = .ok (.aload_n 0, 1) := dk_42 (dk_at dksX13_init_0 8 rfl rfl)
theorem dX13_init_9 : decode cX13_init 9 = .ok (.iload 5, 2) := dk_21 5 (dk_at dksX13_init_0 9 rfl rfl)
theorem dX13_init_11 : decode cX13_init 11 = .ok (.putfield 9, 3) := dk_181 0 9 (dk_at dksX13_init_0 11 rfl rfl)
theorem dX13_init_14 : decode cX13_init 14 = .ok (.aload_n 0, 1) := dk_42 (dk_at dksX13_init_0 14 rfl rfl)
theorem dX13_init_15 : decode cX13_init 15 = .ok (.aload_n 2, 1) := dk_44 (dk_at dksX13_init_0 15 rfl rfl)
theorem dX13_init_16 : decode cX13_init 16 = .ok (.iconst 2, 1) := dk_5 (dk_at dksX13_init_0 16 rfl rfl)
theorem dX13_init_17 : decode cX13_init 17 = .ok (.iaload, 1) := dk_46 (dk_at dksX13_init_0 17 rfl rfl)
theorem dX13_init_18 : decode cX13_init 18 = .ok (.putfield 15, 3) := dk_181 0 15 (dk_at dksX13_init_0 18 rfl rfl)
theorem dX13_init_21 : decode cX13_init 21 = .ok (.aload_n 0, 1) := dk_42 (dk_at dksX13_init_0 21 rfl rfl)
theorem dX13_init_22 : decode cX13_init 22 = .ok (.aload_n 2, 1) := dk_44 (dk_at dksX13_init_0 22 rfl rfl)
theorem dX13_init_23 : decode cX13_init 23 = .ok (.iconst 3, 1) := dk_6 (dk_at dksX13_init_0 23 rfl rfl)
theorem dX13_init_24 : decode cX13_init 24 = .ok (.iaload, 1) := dk_46 (dk_at dksX13_init_1 0 rfl rfl)
theorem dX13_init_25 : decode cX13_init 25 = .ok (.putfield 18, 3) := dk_181 0 18 (dk_at dksX13_init_1 1 rfl rfl)
theorem dX13_init_28 : decode cX13_init 28 = .ok (.return_, 1) := dk_177 (dk_at dksX13_init_1 4 rfl rfl)
theorem c_231_0 : LkP (OkP 231) [(0, o_aload 0 1), (1, o_aload 1 1), (2, o_iload 3 1), (3, o_iload 4 2), (5, o_ci 227 3), (8, o_aload 0 1), (9, o_iload 5 2), (11, o_put 82 1), (14, o_aload 0 1), (15, o_aload 2 1), (16, o_push 1 (.int 2)), (17, o_rdI 0), (18, o_put 83 1), (21, o_aload 0 1), (22, o_aload 2 1), (23, o_push 1 (.int 3)), (24, o_rdI 0), (25, o_put 84 1), (28, o_vret)] := lkp_c (P := OkP 231) ⟨(PuOK.ok (ok_aload_n dX13_init_0 rfl)), m_aload⟩ (
  lkp_c (P := OkP 231) ⟨(PuOK.ok (ok_aload_n dX13_init_1 rfl)), m_aload⟩ (
  lkp_c (P := OkP 231) ⟨(PuOK.ok (ok_iload_n dX13_init_2 rfl)), m_iload⟩ (
  lkp_c (P := OkP 231) ⟨(PuOK.ok (ok_iload dX13_init_3)), m_iload⟩ (
  lkp_c (P := OkP 231) ⟨ok_ci (tg_I (rt := none) ⟨rfl, by decide⟩ rfl q1859 q1860 q154 q1861 ⟨cn_43.1, cn_43.2, pd_98⟩ dX13_init_5) hd_no, m_ci⟩ (
  lkp_c (P := OkP 231) ⟨(PuOK.ok (ok_aload_n dX13_init_8 rfl)), m_aload⟩ (
  lkp_c (P := OkP 231) ⟨(PuOK.ok (ok_iload dX13_init_9)), m_iload⟩ (
  lkp_c (P := OkP 231) ⟨ok_putF q1863 rfl rfl rfl fd_82 rfl dX13_init_11, m_put⟩ (
  lkp_c (P := OkP 231) ⟨(PuOK.ok (ok_aload_n dX13_init_14 rfl)), m_aload⟩ (
  lkp_c (P := OkP 231) ⟨(PuOK.ok (ok_aload_n dX13_init_15 rfl)), m_aload⟩ (
  lkp_c (P := OkP 231) ⟨(PuOK.ok (ok_iconst dX13_init_16 rfl)), m_push⟩ (
  lkp_c (P := OkP 231) ⟨ok_iald dX13_init_17, m_rdI⟩ (
  lkp_c (P := OkP 231) ⟨ok_putF q1864 rfl rfl rfl fd_83 rfl dX13_init_18, m_put⟩ (
  lkp_c (P := OkP 231) ⟨(PuOK.ok (ok_aload_n dX13_init_21 rfl)), m_aload⟩ (
  lkp_c (P := OkP 231) ⟨(PuOK.ok (ok_aload_n dX13_init_22 rfl)), m_aload⟩ (
  lkp_c (P := OkP 231) ⟨(PuOK.ok (ok_iconst dX13_init_23 rfl)), m_push⟩ (
  lkp_c (P := OkP 231) ⟨ok_iald dX13_init_24, m_rdI⟩ (
  lkp_c (P := OkP 231) ⟨ok_putF q1865 rfl rfl rfl fd_84 rfl dX13_init_25, m_put⟩ (
  lkp_c (P := OkP 231) ⟨ok_vret rfl dX13_init_28, m_vret⟩ (
  trivial)))))))))))))))))))
theorem mt_231 : MtOK TB NT IT 231 := ⟨by decide +kernel, rfl, fun _ => rfl, Or.inl ⟨rfl, rfl⟩, rfl, by decide, lk2_all (P := OkP 231) ⟨c_231_0, trivial⟩⟩
def dkwX13_takes_4 : List UInt8 := [181, 0, 40, 4, 172]
abbrev dktX13_takes_4 : List UInt8 := dkwX13_takes_4 ++ []
def dkwX13_takes_3 : List UInt8 := [27, 42, 180, 0, 34, 161, 0, 5, 3, 172, 42, 21, 5, 181, 0, 31, 42, 28, 181, 0, 37, 42, 29]
abbrev dktX13_takes_3 : List UInt8 := dkwX13_takes_3 ++ dktX13_takes_4
def dkwX13_takes_2 : List UInt8 := [182, 0, 27, 153, 0, 31, 21, 5, 42, 180, 0, 31, 163, 0, 20, 21, 5, 42, 180, 0, 31, 160, 0, 13]
abbrev dktX13_takes_2 : List UInt8 := dkwX13_takes_2 ++ dktX13_takes_3
def dkwX13_takes_1 : List UInt8 := [104, 42, 180, 0, 9, 16, 100, 104, 163, 0, 7, 4, 167, 0, 4, 3, 54, 6, 21, 6, 153, 0, 36, 42]
abbrev dktX13_takes_1 : List UInt8 := dkwX13_takes_1 ++ dktX13_takes_2
def dkwX13_takes_0 : List UInt8 := [21, 4, 42, 180, 0, 15, 42, 180, 0, 9, 28, 100, 184, 0, 21, 104, 96, 54, 5, 28, 42, 180, 0, 18]
abbrev dktX13_takes_0 : List UInt8 := dkwX13_takes_0 ++ dktX13_takes_1
theorem dksX13_takes_0 : cX13_takes.data.toList.drop 0 = dktX13_takes_0 := by decide +kernel
theorem dksX13_takes_1 : cX13_takes.data.toList.drop 24 = dktX13_takes_1 := dk_seg dksX13_takes_0 24 rfl rfl
theorem dksX13_takes_2 : cX13_takes.data.toList.drop 48 = dktX13_takes_2 := dk_seg dksX13_takes_1 24 rfl rfl
theorem dksX13_takes_3 : cX13_takes.data.toList.drop 72 = dktX13_takes_3 := dk_seg dksX13_takes_2 24 rfl rfl
theorem dksX13_takes_4 : cX13_takes.data.toList.drop 95 = dktX13_takes_4 := dk_seg dksX13_takes_3 23 rfl rfl
theorem dX13_takes_0 : decode cX13_takes 0 = .ok (.iload 4, 2) := dk_21 4 (dk_at dksX13_takes_0 0 rfl rfl)
theorem dX13_takes_2 : decode cX13_takes 2 = .ok (.aload_n 0, 1) := dk_42 (dk_at dksX13_takes_0 2 rfl rfl)
theorem dX13_takes_3 : decode cX13_takes 3 = .ok (.getfield 15, 3) := dk_180 0 15 (dk_at dksX13_takes_0 3 rfl rfl)
theorem dX13_takes_6 : decode cX13_takes 6 = .ok (.aload_n 0, 1) := dk_42 (dk_at dksX13_takes_0 6 rfl rfl)
theorem dX13_takes_7 : decode cX13_takes 7 = .ok (.getfield 9, 3) := dk_180 0 9 (dk_at dksX13_takes_0 7 rfl rfl)
theorem dX13_takes_10 : decode cX13_takes 10 = .ok (.iload_n 2, 1) := dk_28 (dk_at dksX13_takes_0 10 rfl rfl)
theorem dX13_takes_11 : decode cX13_takes 11 = .ok (.isub, 1) := dk_100 (dk_at dksX13_takes_0 11 rfl rfl)
theorem dX13_takes_12 : decode cX13_takes 12 = .ok (.invokestatic 21, 3) := dk_184 0 21 (dk_at dksX13_takes_0 12 rfl rfl)
theorem dX13_takes_15 : decode cX13_takes 15 = .ok (.imul, 1) := dk_104 (dk_at dksX13_takes_0 15 rfl rfl)
theorem dX13_takes_16 : decode cX13_takes 16 = .ok (.iadd, 1) := dk_96 (dk_at dksX13_takes_0 16 rfl rfl)
theorem dX13_takes_17 : decode cX13_takes 17 = .ok (.istore 5, 2) := dk_54 5 (dk_at dksX13_takes_0 17 rfl rfl)
theorem dX13_takes_19 : decode cX13_takes 19 = .ok (.iload_n 2, 1) := dk_28 (dk_at dksX13_takes_0 19 rfl rfl)
theorem dX13_takes_20 : decode cX13_takes 20 = .ok (.aload_n 0, 1) := dk_42 (dk_at dksX13_takes_0 20 rfl rfl)
theorem dX13_takes_21 : decode cX13_takes 21 = .ok (.getfield 18, 3) := dk_180 0 18 (dk_at dksX13_takes_0 21 rfl rfl)
theorem dX13_takes_24 : decode cX13_takes 24 = .ok (.imul, 1) := dk_104 (dk_at dksX13_takes_1 0 rfl rfl)
theorem dX13_takes_25 : decode cX13_takes 25 = .ok (.aload_n 0, 1) := dk_42 (dk_at dksX13_takes_1 1 rfl rfl)
theorem dX13_takes_26 : decode cX13_takes 26 = .ok (.getfield 9, 3) := dk_180 0 9 (dk_at dksX13_takes_1 2 rfl rfl)
theorem dX13_takes_29 : decode cX13_takes 29 = .ok (.bipush 100, 2) := dk_16 100 (dk_at dksX13_takes_1 5 rfl rfl)
theorem dX13_takes_31 : decode cX13_takes 31 = .ok (.imul, 1) := dk_104 (dk_at dksX13_takes_1 7 rfl rfl)
theorem dX13_takes_32 : decode cX13_takes 32 = .ok (.if_icmp .gt 7, 3) := dk_163 0 7 (dk_at dksX13_takes_1 8 rfl rfl)
theorem dX13_takes_35 : decode cX13_takes 35 = .ok (.iconst 1, 1) := dk_4 (dk_at dksX13_takes_1 11 rfl rfl)
theorem dX13_takes_36 : decode cX13_takes 36 = .ok (.goto 4, 3) := dk_167 0 4 (dk_at dksX13_takes_1 12 rfl rfl)
theorem dX13_takes_39 : decode cX13_takes 39 = .ok (.iconst 0, 1) := dk_3 (dk_at dksX13_takes_1 15 rfl rfl)
theorem dX13_takes_40 : decode cX13_takes 40 = .ok (.istore 6, 2) := dk_54 6 (dk_at dksX13_takes_1 16 rfl rfl)
theorem dX13_takes_42 : decode cX13_takes 42 = .ok (.iload 6, 2) := dk_21 6 (dk_at dksX13_takes_1 18 rfl rfl)
theorem dX13_takes_44 : decode cX13_takes 44 = .ok (.ifCond .eq 36, 3) := dk_153 0 36 (dk_at dksX13_takes_1 20 rfl rfl)
theorem dX13_takes_47 : decode cX13_takes 47 = .ok (.aload_n 0, 1) := dk_42 (dk_at dksX13_takes_1 23 rfl rfl)
theorem dX13_takes_48 : decode cX13_takes 48 = .ok (.invokevirtual 27, 3) := dk_182 0 27 (dk_at dksX13_takes_2 0 rfl rfl)
theorem dX13_takes_51 : decode cX13_takes 51 = .ok (.ifCond .eq 31, 3) := dk_153 0 31 (dk_at dksX13_takes_2 3 rfl rfl)
theorem dX13_takes_54 : decode cX13_takes 54 = .ok (.iload 5, 2) := dk_21 5 (dk_at dksX13_takes_2 6 rfl rfl)
theorem dX13_takes_56 : decode cX13_takes 56 = .ok (.aload_n 0, 1) := dk_42 (dk_at dksX13_takes_2 8 rfl rfl)
theorem dX13_takes_57 : decode cX13_takes 57 = .ok (.getfield 31, 3) := dk_180 0 31 (dk_at dksX13_takes_2 9 rfl rfl)
theorem dX13_takes_60 : decode cX13_takes 60 = .ok (.if_icmp .gt 20, 3) := dk_163 0 20 (dk_at dksX13_takes_2 12 rfl rfl)
theorem dX13_takes_63 : decode cX13_takes 63 = .ok (.iload 5, 2) := dk_21 5 (dk_at dksX13_takes_2 15 rfl rfl)
theorem dX13_takes_65 : decode cX13_takes 65 = .ok (.aload_n 0, 1) := dk_42 (dk_at dksX13_takes_2 17 rfl rfl)
theorem dX13_takes_66 : decode cX13_takes 66 = .ok (.getfield 31, 3) := dk_180 0 31 (dk_at dksX13_takes_2 18 rfl rfl)
theorem dX13_takes_69 : decode cX13_takes 69 = .ok (.if_icmp .ne 13, 3) := dk_160 0 13 (dk_at dksX13_takes_2 21 rfl rfl)
theorem dX13_takes_72 : decode cX13_takes 72 = .ok (.iload_n 1, 1) := dk_27 (dk_at dksX13_takes_3 0 rfl rfl)
theorem dX13_takes_73 : decode cX13_takes 73 = .ok (.aload_n 0, 1) := dk_42 (dk_at dksX13_takes_3 1 rfl rfl)
theorem dX13_takes_74 : decode cX13_takes 74 = .ok (.getfield 34, 3) := dk_180 0 34 (dk_at dksX13_takes_3 2 rfl rfl)
theorem dX13_takes_77 : decode cX13_takes 77 = .ok (.if_icmp .lt 5, 3) := dk_161 0 5 (dk_at dksX13_takes_3 5 rfl rfl)
theorem dX13_takes_80 : decode cX13_takes 80 = .ok (.iconst 0, 1) := dk_3 (dk_at dksX13_takes_3 8 rfl rfl)
theorem dX13_takes_81 : decode cX13_takes 81 = .ok (.ireturn, 1) := dk_172 (dk_at dksX13_takes_3 9 rfl rfl)
theorem dX13_takes_82 : decode cX13_takes 82 = .ok (.aload_n 0, 1) := dk_42 (dk_at dksX13_takes_3 10 rfl rfl)
theorem dX13_takes_83 : decode cX13_takes 83 = .ok (.iload 5, 2) := dk_21 5 (dk_at dksX13_takes_3 11 rfl rfl)
theorem dX13_takes_85 : decode cX13_takes 85 = .ok (.putfield 31, 3) := dk_181 0 31 (dk_at dksX13_takes_3 13 rfl rfl)
theorem dX13_takes_88 : decode cX13_takes 88 = .ok (.aload_n 0, 1) := dk_42 (dk_at dksX13_takes_3 16 rfl rfl)
theorem dX13_takes_89 : decode cX13_takes 89 = .ok (.iload_n 2, 1) := dk_28 (dk_at dksX13_takes_3 17 rfl rfl)
theorem dX13_takes_90 : decode cX13_takes 90 = .ok (.putfield 37, 3) := dk_181 0 37 (dk_at dksX13_takes_3 18 rfl rfl)
theorem dX13_takes_93 : decode cX13_takes 93 = .ok (.aload_n 0, 1) := dk_42 (dk_at dksX13_takes_3 21 rfl rfl)
theorem dX13_takes_94 : decode cX13_takes 94 = .ok (.iload_n 3, 1) := dk_29 (dk_at dksX13_takes_3 22 rfl rfl)
theorem dX13_takes_95 : decode cX13_takes 95 = .ok (.putfield 40, 3) := dk_181 0 40 (dk_at dksX13_takes_4 0 rfl rfl)
theorem dX13_takes_98 : decode cX13_takes 98 = .ok (.iconst 1, 1) := dk_4 (dk_at dksX13_takes_4 3 rfl rfl)
theorem dX13_takes_99 : decode cX13_takes 99 = .ok (.ireturn, 1) := dk_172 (dk_at dksX13_takes_4 4 rfl rfl)
theorem c_232_0 : LkP (OkP 232) [(0, o_iload 4 2), (2, o_aload 0 1), (3, o_get 83), (6, o_aload 0 1), (7, o_get 82), (10, o_iload 2 1), (11, o_iop (fun x y => x - y)), (12, o_cs 8 1 false none), (15, o_iop (fun x y => x * y)), (16, o_iop (fun x y => x + y)), (17, o_istore 5 2), (19, o_iload 2 1), (20, o_aload 0 1), (21, o_get 84), (24, o_iop (fun x y => x * y)), (25, o_aload 0 1), (26, o_get 82), (29, o_push 2 (.int 100)), (31, o_iop (fun x y => x * y)), (32, o_icmp (fun x y => decide (y < x)) 39), (35, o_push 1 (.int 1)), (36, o_goto 40), (39, o_push 1 (.int 0)), (40, o_istore 6 2), (42, o_iload 6 2), (44, o_if (fun x => decide (x = 0)) 80), (47, o_aload 0 1), (48, o_cv [(15, 230)] 0 3 false none), (51, o_if (fun x => decide (x = 0)) 82), (54, o_iload 5 2), (56, o_aload 0 1), (57, o_get 85), (60, o_icmp (fun x y => decide (y < x)) 80), (63, o_iload 5 2)] := lkp_c (P := OkP 232) ⟨(PuOK.ok (ok_iload dX13_takes_0)), m_iload⟩ (
  lkp_c (P := OkP 232) ⟨(PuOK.ok (ok_aload_n dX13_takes_2 rfl)), m_aload⟩ (
  lkp_c (P := OkP 232) ⟨ok_get ⟨"TollRoad$Route", q1864, Or.inl rfl⟩ dX13_takes_3, m_get⟩ (
  lkp_c (P := OkP 232) ⟨(PuOK.ok (ok_aload_n dX13_takes_6 rfl)), m_aload⟩ (
  lkp_c (P := OkP 232) ⟨ok_get ⟨"TollRoad$Route", q1863, Or.inl rfl⟩ dX13_takes_7, m_get⟩ (
  lkp_c (P := OkP 232) ⟨(PuOK.ok (ok_iload_n dX13_takes_10 rfl)), m_iload⟩ (
  lkp_c (P := OkP 232) ⟨(PuOK.ok (ok_isub dX13_takes_11)), m_iop⟩ (
  lkp_c (P := OkP 232) ⟨ok_cs (tg_S ⟨rfl, by decide⟩ q1934 q1935 q130 q1936 ⟨cn_1.1, cn_1.2, pd_48⟩ dX13_takes_12) hd_no, m_cs⟩ (
  lkp_c (P := OkP 232) ⟨(PuOK.ok (ok_imul dX13_takes_15)), m_iop⟩ (
  lkp_c (P := OkP 232) ⟨(PuOK.ok (ok_iadd dX13_takes_16)), m_iop⟩ (
  lkp_c (P := OkP 232) ⟨(PuOK.ok (ok_istore dX13_takes_17)), m_istore⟩ (
  lkp_c (P := OkP 232) ⟨(PuOK.ok (ok_iload_n dX13_takes_19 rfl)), m_iload⟩ (
  lkp_c (P := OkP 232) ⟨(PuOK.ok (ok_aload_n dX13_takes_20 rfl)), m_aload⟩ (
  lkp_c (P := OkP 232) ⟨ok_get ⟨"TollRoad$Route", q1865, Or.inl rfl⟩ dX13_takes_21, m_get⟩ (
  lkp_c (P := OkP 232) ⟨(PuOK.ok (ok_imul dX13_takes_24)), m_iop⟩ (
  lkp_c (P := OkP 232) ⟨(PuOK.ok (ok_aload_n dX13_takes_25 rfl)), m_aload⟩ (
  lkp_c (P := OkP 232) ⟨ok_get ⟨"TollRoad$Route", q1863, Or.inl rfl⟩ dX13_takes_26, m_get⟩ (
  lkp_c (P := OkP 232) ⟨(PuOK.ok (ok_bipush dX13_takes_29 rfl)), m_push⟩ (
  lkp_c (P := OkP 232) ⟨(PuOK.ok (ok_imul dX13_takes_31)), m_iop⟩ (
  lkp_c (P := OkP 232) ⟨(PuOK.ok (ok_icmp_gt dX13_takes_32 rfl)), m_icmp⟩ (
  lkp_c (P := OkP 232) ⟨(PuOK.ok (ok_iconst dX13_takes_35 rfl)), m_push⟩ (
  lkp_c (P := OkP 232) ⟨(PuOK.ok (ok_goto dX13_takes_36 rfl)), m_goto⟩ (
  lkp_c (P := OkP 232) ⟨(PuOK.ok (ok_iconst dX13_takes_39 rfl)), m_push⟩ (
  lkp_c (P := OkP 232) ⟨(PuOK.ok (ok_istore dX13_takes_40)), m_istore⟩ (
  lkp_c (P := OkP 232) ⟨(PuOK.ok (ok_iload dX13_takes_42)), m_iload⟩ (
  lkp_c (P := OkP 232) ⟨(PuOK.ok (ok_if_eq dX13_takes_44 rfl)), m_if⟩ (
  lkp_c (P := OkP 232) ⟨(PuOK.ok (ok_aload_n dX13_takes_47 rfl)), m_aload⟩ (
  lkp_c (P := OkP 232) ⟨ok_cv (List.forall_mem_cons.mpr ⟨tg_U (ci := 15) (r := CLr 15) (y := 230) rfl (owner := "TollRoad$Search") ⟨rfl, by decide⟩ q1937 q1938 q1939 q1929 q154 q1930 ⟨cn_43.1, cn_43.2, pd_50⟩ rfl dX13_takes_48, (List.forall_mem_nil _)⟩) hd_no, m_cv⟩ (
  lkp_c (P := OkP 232) ⟨(PuOK.ok (ok_if_eq dX13_takes_51 rfl)), m_if⟩ (
  lkp_c (P := OkP 232) ⟨(PuOK.ok (ok_iload dX13_takes_54)), m_iload⟩ (
  lkp_c (P := OkP 232) ⟨(PuOK.ok (ok_aload_n dX13_takes_56 rfl)), m_aload⟩ (
  lkp_c (P := OkP 232) ⟨ok_get ⟨"TollRoad$Route", q1866, Or.inl rfl⟩ dX13_takes_57, m_get⟩ (
  lkp_c (P := OkP 232) ⟨(PuOK.ok (ok_icmp_gt dX13_takes_60 rfl)), m_icmp⟩ (
  lkp_c (P := OkP 232) ⟨(PuOK.ok (ok_iload dX13_takes_63)), m_iload⟩ (
  trivial))))))))))))))))))))))))))))))))))
theorem c_232_1 : LkP (OkP 232) [(65, o_aload 0 1), (66, o_get 85), (69, o_icmp (fun x y => decide (¬ x = y)) 82), (72, o_iload 1 1), (73, o_aload 0 1), (74, o_get 81), (77, o_icmp (fun x y => decide (x < y)) 82), (80, o_push 1 (.int 0)), (81, o_ret 5), (82, o_aload 0 1), (83, o_iload 5 2), (85, o_put 85 1), (88, o_aload 0 1), (89, o_iload 2 1), (90, o_put 86 1), (93, o_aload 0 1), (94, o_iload 3 1), (95, o_put 87 1), (98, o_push 1 (.int 1)), (99, o_ret 5)] := lkp_c (P := OkP 232) ⟨(PuOK.ok (ok_aload_n dX13_takes_65 rfl)), m_aload⟩ (
  lkp_c (P := OkP 232) ⟨ok_get ⟨"TollRoad$Route", q1866, Or.inl rfl⟩ dX13_takes_66, m_get⟩ (
  lkp_c (P := OkP 232) ⟨(PuOK.ok (ok_icmp_ne dX13_takes_69 rfl)), m_icmp⟩ (
  lkp_c (P := OkP 232) ⟨(PuOK.ok (ok_iload_n dX13_takes_72 rfl)), m_iload⟩ (
  lkp_c (P := OkP 232) ⟨(PuOK.ok (ok_aload_n dX13_takes_73 rfl)), m_aload⟩ (
  lkp_c (P := OkP 232) ⟨ok_getN ⟨"TollRoad$Search", "TollRoad", q1881, Or.inl rfl⟩ dX13_takes_74, m_get⟩ (
  lkp_c (P := OkP 232) ⟨(PuOK.ok (ok_icmp_lt dX13_takes_77 rfl)), m_icmp⟩ (
  lkp_c (P := OkP 232) ⟨(PuOK.ok (ok_iconst dX13_takes_80 rfl)), m_push⟩ (
  lkp_c (P := OkP 232) ⟨ok_iret rfl rfl (by decide) dX13_takes_81, m_ret⟩ (
  lkp_c (P := OkP 232) ⟨(PuOK.ok (ok_aload_n dX13_takes_82 rfl)), m_aload⟩ (
  lkp_c (P := OkP 232) ⟨(PuOK.ok (ok_iload dX13_takes_83)), m_iload⟩ (
  lkp_c (P := OkP 232) ⟨ok_put ⟨"TollRoad$Route", q1866, Or.inl rfl⟩ rfl fd_85 rfl dX13_takes_85, m_put⟩ (
  lkp_c (P := OkP 232) ⟨(PuOK.ok (ok_aload_n dX13_takes_88 rfl)), m_aload⟩ (
  lkp_c (P := OkP 232) ⟨(PuOK.ok (ok_iload_n dX13_takes_89 rfl)), m_iload⟩ (
  lkp_c (P := OkP 232) ⟨ok_put ⟨"TollRoad$Route", q1869, Or.inl rfl⟩ rfl fd_86 rfl dX13_takes_90, m_put⟩ (
  lkp_c (P := OkP 232) ⟨(PuOK.ok (ok_aload_n dX13_takes_93 rfl)), m_aload⟩ (
  lkp_c (P := OkP 232) ⟨(PuOK.ok (ok_iload_n dX13_takes_94 rfl)), m_iload⟩ (
  lkp_c (P := OkP 232) ⟨ok_put ⟨"TollRoad$Route", q1871, Or.inl rfl⟩ rfl fd_87 rfl dX13_takes_95, m_put⟩ (
  lkp_c (P := OkP 232) ⟨(PuOK.ok (ok_iconst dX13_takes_98 rfl)), m_push⟩ (
  lkp_c (P := OkP 232) ⟨ok_iret rfl rfl (by decide) dX13_takes_99, m_ret⟩ (
  trivial))))))))))))))))))))
theorem mt_232 : MtOK TB NT IT 232 := ⟨by decide +kernel, rfl, (fun h => by cases h), Or.inl ⟨rfl, rfl⟩, rfl, by decide, lk2_all (P := OkP 232) ⟨c_232_0, c_232_1, trivial⟩⟩
def dkwX14_takes_0 : List UInt8 := [42, 182, 0, 15, 153, 0, 13, 29, 42, 180, 0, 9, 161, 0, 5, 3, 172, 42, 29, 181, 0, 9, 4, 172]
abbrev dktX14_takes_0 : List UInt8 := dkwX14_takes_0 ++ []
theorem dksX14_takes_0 : cX14_takes.data.toList.drop 0 = dktX14_takes_0 := by decide +kernel
theorem dX14_takes_0 : decode cX14_takes 0 = .ok (.aload_n 0, 1) := dk_42 (dk_at dksX14_takes_0 0 rfl rfl)
theorem dX14_takes_1 : decode cX14_takes 1 = .ok (.invokevirtual 15, 3) := dk_182 0 15 (dk_at dksX14_takes_0 1 rfl rfl)
theorem dX14_takes_4 : decode cX14_takes 4 = .ok (.ifCond .eq 13, 3) := dk_153 0 13 (dk_at dksX14_takes_0 4 rfl rfl)
theorem dX14_takes_7 : decode cX14_takes 7 = .ok (.iload_n 3, 1) := dk_29 (dk_at dksX14_takes_0 7 rfl rfl)
theorem dX14_takes_8 : decode cX14_takes 8 = .ok (.aload_n 0, 1) := dk_42 (dk_at dksX14_takes_0 8 rfl rfl)
theorem dX14_takes_9 : decode cX14_takes 9 = .ok (.getfield 9, 3) := dk_180 0 9 (dk_at dksX14_takes_0 9 rfl rfl)
theorem dX14_takes_12 : decode cX14_takes 12 = .ok (.if_icmp .lt 5, 3) := dk_161 0 5 (dk_at dksX14_takes_0 12 rfl rfl)
theorem dX14_takes_15 : decode cX14_takes 15 = .ok (.iconst 0, 1) := dk_3 (dk_at dksX14_takes_0 15 rfl rfl)
theorem dX14_takes_16 : decode cX14_takes 16 = .ok (.ireturn, 1) := dk_172 (dk_at dksX14_takes_0 16 rfl rfl)
theorem dX14_takes_17 : decode cX14_takes 17 = .ok (.aload_n 0, 1) := dk_42 (dk_at dksX14_takes_0 17 rfl rfl)
theorem dX14_takes_18 : decode cX14_takes 18 = .ok (.iload_n 3, 1) := dk_29 (dk_at dksX14_takes_0 18 rfl rfl)
theorem dX14_takes_19 : decode cX14_takes 19 = .ok (.putfield 9, 3) := dk_181 0 9 (dk_at dksX14_takes_0 19 rfl rfl)
theorem dX14_takes_22 : decode cX14_takes 22 = .ok (.iconst 1, 1) := dk_4 (dk_at dksX14_takes_0 22 rfl rfl)
theorem dX14_takes_23 : decode cX14_takes 23 = .ok (.ireturn, 1) := dk_172 (dk_at dksX14_takes_0 23 rfl rfl)
theorem c_233_0 : LkP (OkP 233) [(0, o_aload 0 1), (1, o_cv [(16, 230)] 0 3 false none), (4, o_if (fun x => decide (x = 0)) 17), (7, o_iload 3 1), (8, o_aload 0 1), (9, o_get 88), (12, o_icmp (fun x y => decide (x < y)) 17), (15, o_push 1 (.int 0)), (16, o_ret 5), (17, o_aload 0 1), (18, o_iload 3 1), (19, o_put 88 1), (22, o_push 1 (.int 1)), (23, o_ret 5)] := lkp_c (P := OkP 233) ⟨(PuOK.ok (ok_aload_n dX14_takes_0 rfl)), m_aload⟩ (
  lkp_c (P := OkP 233) ⟨ok_cv (List.forall_mem_cons.mpr ⟨tg_U (ci := 16) (r := CLr 16) (y := 230) rfl (owner := "TollRoad$Search") ⟨rfl, by decide⟩ q1925 q1926 q1928 q1929 q154 q1930 ⟨cn_43.1, cn_43.2, pd_50⟩ rfl dX14_takes_1, (List.forall_mem_nil _)⟩) hd_no, m_cv⟩ (
  lkp_c (P := OkP 233) ⟨(PuOK.ok (ok_if_eq dX14_takes_4 rfl)), m_if⟩ (
  lkp_c (P := OkP 233) ⟨(PuOK.ok (ok_iload_n dX14_takes_7 rfl)), m_iload⟩ (
  lkp_c (P := OkP 233) ⟨(PuOK.ok (ok_aload_n dX14_takes_8 rfl)), m_aload⟩ (
  lkp_c (P := OkP 233) ⟨ok_get ⟨"TollRoad$Cheapest", q1967, Or.inl rfl⟩ dX14_takes_9, m_get⟩ (
  lkp_c (P := OkP 233) ⟨(PuOK.ok (ok_icmp_lt dX14_takes_12 rfl)), m_icmp⟩ (
  lkp_c (P := OkP 233) ⟨(PuOK.ok (ok_iconst dX14_takes_15 rfl)), m_push⟩ (
  lkp_c (P := OkP 233) ⟨ok_iret rfl rfl (by decide) dX14_takes_16, m_ret⟩ (
  lkp_c (P := OkP 233) ⟨(PuOK.ok (ok_aload_n dX14_takes_17 rfl)), m_aload⟩ (
  lkp_c (P := OkP 233) ⟨(PuOK.ok (ok_iload_n dX14_takes_18 rfl)), m_iload⟩ (
  lkp_c (P := OkP 233) ⟨ok_put ⟨"TollRoad$Cheapest", q1967, Or.inl rfl⟩ rfl fd_88 rfl dX14_takes_19, m_put⟩ (
  lkp_c (P := OkP 233) ⟨(PuOK.ok (ok_iconst dX14_takes_22 rfl)), m_push⟩ (
  lkp_c (P := OkP 233) ⟨ok_iret rfl rfl (by decide) dX14_takes_23, m_ret⟩ (
  trivial))))))))))))))
theorem mt_233 : MtOK TB NT IT 233 := ⟨by decide +kernel, rfl, (fun h => by cases h), Or.inl ⟨rfl, rfl⟩, rfl, by decide, lk2_all (P := OkP 233) ⟨c_233_0, trivial⟩⟩
def dkwX14_init_0 : List UInt8 := [42, 43, 28, 29, 183, 0, 3, 42, 2, 181, 0, 9, 177]
abbrev dktX14_init_0 : List UInt8 := dkwX14_init_0 ++ []
theorem dksX14_init_0 : cX14_init.data.toList.drop 0 = dktX14_init_0 := by decide +kernel
theorem dX14_init_0 : decode cX14_init 0 = .ok (.aload_n 0, 1) := dk_42 (dk_at dksX14_init_0 0 rfl rfl)
theorem dX14_init_1 : decode cX14_init 1 = .ok (.aload_n 1, 1) := dk_43 (dk_at dksX14_init_0 1 rfl rfl)
theorem dX14_init_2 : decode cX14_init 2 = .ok (.iload_n 2, 1) := dk_28 (dk_at dksX14_init_0 2 rfl rfl)
theorem dX14_init_3 : decode cX14_init 3 = .ok (.iload_n 3, 1) := dk_29 (dk_at dksX14_init_0 3 rfl rfl)
theorem dX14_init_4 : decode cX14_init 4 = .ok (.invokespecial 3, 3) := dk_183 0 3 (dk_at dksX14_init_0 4 rfl rfl)
theorem dX14_init_7 : decode cX14_init 7 = .ok (.aload_n 0, 1) := dk_42 (dk_at dksX14_init_0 7 rfl rfl)
theorem dX14_init_8 : decode cX14_init 8 = .ok (.iconst (-1), 1) := dk_2 (dk_at dksX14_init_0 8 rfl rfl)
theorem dX14_init_9 : decode cX14_init 9 = .ok (.putfield 9, 3) := dk_181 0 9 (dk_at dksX14_init_0 9 rfl rfl)
theorem dX14_init_12 : decode cX14_init 12 = .ok (.return_, 1) := dk_177 (dk_at dksX14_init_0 12 rfl rfl)
theorem c_234_0 : LkP (OkP 234) [(0, o_aload 0 1), (1, o_aload 1 1), (2, o_iload 2 1), (3, o_iload 3 1), (4, o_ci 227 3), (7, o_aload 0 1), (8, o_push 1 (.int (-1))), (9, o_put 88 1), (12, o_vret)] := lkp_c (P := OkP 234) ⟨(PuOK.ok (ok_aload_n dX14_init_0 rfl)), m_aload⟩ (
  lkp_c (P := OkP 234) ⟨(PuOK.ok (ok_aload_n dX14_init_1 rfl)), m_aload⟩ (
  lkp_c (P := OkP 234) ⟨(PuOK.ok (ok_iload_n dX14_init_2 rfl)), m_iload⟩ (
  lkp_c (P := OkP 234) ⟨(PuOK.ok (ok_iload_n dX14_init_3 rfl)), m_iload⟩ (
  lkp_c (P := OkP 234) ⟨ok_ci (tg_I (rt := none) ⟨rfl, by decide⟩ rfl q1966 q1860 q154 q1861 ⟨cn_43.1, cn_43.2, pd_98⟩ dX14_init_4) hd_no, m_ci⟩ (
  lkp_c (P := OkP 234) ⟨(PuOK.ok (ok_aload_n dX14_init_7 rfl)), m_aload⟩ (
  lkp_c (P := OkP 234) ⟨(PuOK.ok (ok_iconst dX14_init_8 rfl)), m_push⟩ (
  lkp_c (P := OkP 234) ⟨ok_put ⟨"TollRoad$Cheapest", q1967, Or.inl rfl⟩ rfl fd_88 rfl dX14_init_9, m_put⟩ (
  lkp_c (P := OkP 234) ⟨ok_vret rfl dX14_init_12, m_vret⟩ (
  trivial)))))))))
theorem mt_234 : MtOK TB NT IT 234 := ⟨by decide +kernel, rfl, fun _ => rfl, Or.inl ⟨rfl, rfl⟩, rfl, by decide, lk2_all (P := OkP 234) ⟨c_234_0, trivial⟩⟩
def dkwX15_init_1 : List UInt8 := [42, 21, 4, 181, 0, 24, 177]
abbrev dktX15_init_1 : List UInt8 := dkwX15_init_1 ++ []
def dkwX15_init_0 : List UInt8 := [42, 183, 0, 3, 42, 2, 181, 0, 9, 42, 27, 181, 0, 15, 42, 28, 181, 0, 18, 42, 29, 181, 0, 21]
abbrev dktX15_init_0 : List UInt8 := dkwX15_init_0 ++ dktX15_init_1
theorem dksX15_init_0 : cX15_init.data.toList.drop 0 = dktX15_init_0 := by decide +kernel
theorem dksX15_init_1 : cX15_init.data.toList.drop 24 = dktX15_init_1 := dk_seg dksX15_init_0 24 rfl rfl
theorem dX15_init_0 : decode cX15_init 0 = .ok (.aload_n 0, 1) := dk_42 (dk_at dksX15_init_0 0 rfl rfl)
theorem dX15_init_1 : decode cX15_init 1 = .ok (.invokespecial 3, 3) := dk_183 0 3 (dk_at dksX15_init_0 1 rfl rfl)
theorem dX15_init_4 : decode cX15_init 4 = .ok (.aload_n 0, 1) := dk_42 (dk_at dksX15_init_0 4 rfl rfl)
theorem dX15_init_5 : decode cX15_init 5 = .ok (.iconst (-1), 1) := dk_2 (dk_at dksX15_init_0 5 rfl rfl)
theorem dX15_init_6 : decode cX15_init 6 = .ok (.putfield 9, 3) := dk_181 0 9 (dk_at dksX15_init_0 6 rfl rfl)
theorem dX15_init_9 : decode cX15_init 9 = .ok (.aload_n 0, 1) := dk_42 (dk_at dksX15_init_0 9 rfl rfl)
theorem dX15_init_10 : decode cX15_init 10 = .ok (.iload_n 1, 1) := dk_27 (dk_at dksX15_init_0 10 rfl rfl)
theorem dX15_init_11 : decode cX15_init 11 = .ok (.putfield 15, 3) := dk_181 0 15 (dk_at dksX15_init_0 11 rfl rfl)
theorem dX15_init_14 : decode cX15_init 14 = .ok (.aload_n 0, 1) := dk_42 (dk_at dksX15_init_0 14 rfl rfl)
theorem dX15_init_15 : decode cX15_init 15 = .ok (.iload_n 2, 1) := dk_28 (dk_at dksX15_init_0 15 rfl rfl)
theorem dX15_init_16 : decode cX15_init 16 = .ok (.putfield 18, 3) := dk_181 0 18 (dk_at dksX15_init_0 16 rfl rfl)
theorem dX15_init_19 : decode cX15_init 19 = .ok (.aload_n 0, 1) := dk_42 (dk_at dksX15_init_0 19 rfl rfl)
theorem dX15_init_20 : decode cX15_init 20 = .ok (.iload_n 3, 1) := dk_29 (dk_at dksX15_init_0 20 rfl rfl)
theorem dX15_init_21 : decode cX15_init 21 = .ok (.putfield 21, 3) := dk_181 0 21 (dk_at dksX15_init_0 21 rfl rfl)
theorem dX15_init_24 : decode cX15_init 24 = .ok (.aload_n 0, 1) := dk_42 (dk_at dksX15_init_1 0 rfl rfl)
theorem dX15_init_25 : decode cX15_init 25 = .ok (.iload 4, 2) := dk_21 4 (dk_at dksX15_init_1 1 rfl rfl)
theorem dX15_init_27 : decode cX15_init 27 = .ok (.putfield 24, 3) := dk_181 0 24 (dk_at dksX15_init_1 3 rfl rfl)
theorem dX15_init_30 : decode cX15_init 30 = .ok (.return_, 1) := dk_177 (dk_at dksX15_init_1 6 rfl rfl)
theorem c_235_0 : LkP (OkP 235) [(0, o_aload 0 1), (1, o_oi), (4, o_aload 0 1), (5, o_push 1 (.int (-1))), (6, o_put 96 1), (9, o_aload 0 1), (10, o_iload 1 1), (11, o_put 89 1), (14, o_aload 0 1), (15, o_iload 2 1), (16, o_put 90 1), (19, o_aload 0 1), (20, o_iload 3 1), (21, o_put 91 1), (24, o_aload 0 1), (25, o_iload 4 2), (27, o_put 92 5), (30, o_vret)] := lkp_c (P := OkP 235) ⟨(PuOK.ok (ok_aload_n dX15_init_0 rfl)), m_aload⟩ (
  lkp_c (P := OkP 235) ⟨ok_oi q1992 q188 q_oi dX15_init_1, m_oi⟩ (
  lkp_c (P := OkP 235) ⟨(PuOK.ok (ok_aload_n dX15_init_4 rfl)), m_aload⟩ (
  lkp_c (P := OkP 235) ⟨(PuOK.ok (ok_iconst dX15_init_5 rfl)), m_push⟩ (
  lkp_c (P := OkP 235) ⟨ok_put ⟨"TollRoad$Read", q2017, Or.inl rfl⟩ rfl fd_96 rfl dX15_init_6, m_put⟩ (
  lkp_c (P := OkP 235) ⟨(PuOK.ok (ok_aload_n dX15_init_9 rfl)), m_aload⟩ (
  lkp_c (P := OkP 235) ⟨(PuOK.ok (ok_iload_n dX15_init_10 rfl)), m_iload⟩ (
  lkp_c (P := OkP 235) ⟨ok_putF q1993 rfl rfl rfl fd_89 rfl dX15_init_11, m_put⟩ (
  lkp_c (P := OkP 235) ⟨(PuOK.ok (ok_aload_n dX15_init_14 rfl)), m_aload⟩ (
  lkp_c (P := OkP 235) ⟨(PuOK.ok (ok_iload_n dX15_init_15 rfl)), m_iload⟩ (
  lkp_c (P := OkP 235) ⟨ok_putF q1997 rfl rfl rfl fd_90 rfl dX15_init_16, m_put⟩ (
  lkp_c (P := OkP 235) ⟨(PuOK.ok (ok_aload_n dX15_init_19 rfl)), m_aload⟩ (
  lkp_c (P := OkP 235) ⟨(PuOK.ok (ok_iload_n dX15_init_20 rfl)), m_iload⟩ (
  lkp_c (P := OkP 235) ⟨ok_putF q2000 rfl rfl rfl fd_91 rfl dX15_init_21, m_put⟩ (
  lkp_c (P := OkP 235) ⟨(PuOK.ok (ok_aload_n dX15_init_24 rfl)), m_aload⟩ (
  lkp_c (P := OkP 235) ⟨(PuOK.ok (ok_iload dX15_init_25)), m_iload⟩ (
  lkp_c (P := OkP 235) ⟨ok_putF q2004 rfl rfl rfl fd_92 rfl dX15_init_27, m_put⟩ (
  lkp_c (P := OkP 235) ⟨ok_vret rfl dX15_init_30, m_vret⟩ (
  trivial))))))))))))))))))
theorem mt_235 : MtOK TB NT IT 235 := ⟨by decide +kernel, rfl, fun _ => rfl, Or.inl ⟨rfl, rfl⟩, rfl, by decide, lk2_all (P := OkP 235) ⟨c_235_0, trivial⟩⟩
def dkwX15_of_3 : List UInt8 := [167, 0, 4, 3, 172, 42, 180, 0, 34, 172, 42, 180, 0, 37, 172, 42, 180, 0, 9, 172]
abbrev dktX15_of_3 : List UInt8 := dkwX15_of_3 ++ []
def dkwX15_of_2 : List UInt8 := [42, 180, 0, 31, 172, 42, 180, 0, 18, 172, 42, 180, 0, 21, 172, 42, 180, 0, 24, 153, 0, 7, 4]
abbrev dktX15_of_2 : List UInt8 := dkwX15_of_2 ++ dktX15_of_3
def dkwX15_of_1 : List UInt8 := [170, 0, 0, 0, 0, 0, 77, 0, 0, 0, 0, 0, 0, 0, 5, 0, 0, 0, 39, 0, 0, 0, 44, 0, 0, 0, 49, 0, 0, 0, 54, 0, 0, 0, 67, 0, 0, 0, 72]
abbrev dktX15_of_1 : List UInt8 := dkwX15_of_1 ++ dktX15_of_2
def dkwX15_of_0 : List UInt8 := [27]
abbrev dktX15_of_0 : List UInt8 := dkwX15_of_0 ++ dktX15_of_1
theorem dksX15_of_0 : cX15_of.data.toList.drop 0 = dktX15_of_0 := by decide +kernel
theorem dksX15_of_1 : cX15_of.data.toList.drop 1 = dktX15_of_1 := dk_seg dksX15_of_0 1 rfl rfl
theorem dksX15_of_2 : cX15_of.data.toList.drop 40 = dktX15_of_2 := dk_seg dksX15_of_1 39 rfl rfl
theorem dksX15_of_3 : cX15_of.data.toList.drop 63 = dktX15_of_3 := dk_seg dksX15_of_2 23 rfl rfl
theorem dX15_of_0 : decode cX15_of 0 = .ok (.iload_n 1, 1) := dk_27 (dk_at dksX15_of_0 0 rfl rfl)
theorem dX15_of_1 : decode cX15_of 1 = .ok (.tableswitch 77 0 5 #[39, 44, 49, 54, 67, 72], 39) := by decide +kernel
theorem dX15_of_40 : decode cX15_of 40 = .ok (.aload_n 0, 1) := dk_42 (dk_at dksX15_of_2 0 rfl rfl)
theorem dX15_of_41 : decode cX15_of 41 = .ok (.getfield 31, 3) := dk_180 0 31 (dk_at dksX15_of_2 1 rfl rfl)
theorem dX15_of_44 : decode cX15_of 44 = .ok (.ireturn, 1) := dk_172 (dk_at dksX15_of_2 4 rfl rfl)
theorem dX15_of_45 : decode cX15_of 45 = .ok (.aload_n 0, 1) := dk_42 (dk_at dksX15_of_2 5 rfl rfl)
theorem dX15_of_46 : decode cX15_of 46 = .ok (.getfield 18, 3) := dk_180 0 18 (dk_at dksX15_of_2 6 rfl rfl)
theorem dX15_of_49 : decode cX15_of 49 = .ok (.ireturn, 1) := dk_172 (dk_at dksX15_of_2 9 rfl rfl)
theorem dX15_of_50 : decode cX15_of 50 = .ok (.aload_n 0, 1) := dk_42 (dk_at dksX15_of_2 10 rfl rfl)
theorem dX15_of_51 : decode cX15_of 51 = .ok (.getfield 21, 3) := dk_180 0 21 (dk_at dksX15_of_2 11 rfl rfl)
theorem dX15_of_54 : decode cX15_of 54 = .ok (.ireturn, 1) := dk_172 (dk_at dksX15_of_2 14 rfl rfl)
theorem dX15_of_55 : decode cX15_of 55 = .ok (.aload_n 0, 1) := dk_42 (dk_at dksX15_of_2 15 rfl rfl)
theorem dX15_of_56 : decode cX15_of 56 = .ok (.getfield 24, 3) := dk_180 0 24 (dk_at dksX15_of_2 16 rfl rfl)
theorem dX15_of_59 : decode cX15_of 59 = .ok (.ifCond .eq 7, 3) := dk_153 0 7 (dk_at dksX15_of_2 19 rfl rfl)
theorem dX15_of_62 : decode cX15_of 62 = .ok (.iconst 1, 1) := dk_4 (dk_at dksX15_of_2 22 rfl rfl)
theorem dX15_of_63 : decode cX15_of 63 = .ok (.goto 4, 3) := dk_167 0 4 (dk_at dksX15_of_3 0 rfl rfl)
theorem dX15_of_66 : decode cX15_of 66 = .ok (.iconst 0, 1) := dk_3 (dk_at dksX15_of_3 3 rfl rfl)
theorem dX15_of_67 : decode cX15_of 67 = .ok (.ireturn, 1) := dk_172 (dk_at dksX15_of_3 4 rfl rfl)
theorem dX15_of_68 : decode cX15_of 68 = .ok (.aload_n 0, 1) := dk_42 (dk_at dksX15_of_3 5 rfl rfl)
theorem dX15_of_69 : decode cX15_of 69 = .ok (.getfield 34, 3) := dk_180 0 34 (dk_at dksX15_of_3 6 rfl rfl)
theorem dX15_of_72 : decode cX15_of 72 = .ok (.ireturn, 1) := dk_172 (dk_at dksX15_of_3 9 rfl rfl)
theorem dX15_of_73 : decode cX15_of 73 = .ok (.aload_n 0, 1) := dk_42 (dk_at dksX15_of_3 10 rfl rfl)
theorem dX15_of_74 : decode cX15_of 74 = .ok (.getfield 37, 3) := dk_180 0 37 (dk_at dksX15_of_3 11 rfl rfl)
theorem dX15_of_77 : decode cX15_of 77 = .ok (.ireturn, 1) := dk_172 (dk_at dksX15_of_3 14 rfl rfl)
theorem dX15_of_78 : decode cX15_of 78 = .ok (.aload_n 0, 1) := dk_42 (dk_at dksX15_of_3 15 rfl rfl)
theorem dX15_of_79 : decode cX15_of 79 = .ok (.getfield 9, 3) := dk_180 0 9 (dk_at dksX15_of_3 16 rfl rfl)
theorem dX15_of_82 : decode cX15_of 82 = .ok (.ireturn, 1) := dk_172 (dk_at dksX15_of_3 19 rfl rfl)
theorem c_236_0 : LkP (OkP 236) [(0, o_iload 1 1), (1, o_sw (swt 0 [40, 45, 50, 55, 68, 73] 78)), (40, o_aload 0 1), (41, o_get 93), (44, o_ret 1), (45, o_aload 0 1), (46, o_get 90), (49, o_ret 1), (50, o_aload 0 1), (51, o_get 91), (54, o_ret 1), (55, o_aload 0 1), (56, o_get 92), (59, o_if (fun x => decide (x = 0)) 66), (62, o_push 1 (.int 1)), (63, o_goto 67)] := lkp_c (P := OkP 236) ⟨(PuOK.ok (ok_iload_n dX15_of_0 rfl)), m_iload⟩ (
  lkp_c (P := OkP 236) ⟨(PuOK.ok (ok_tsw dX15_of_1 (by decide +kernel))), m_sw⟩ (
  lkp_c (P := OkP 236) ⟨(PuOK.ok (ok_aload_n dX15_of_40 rfl)), m_aload⟩ (
  lkp_c (P := OkP 236) ⟨ok_get ⟨"TollRoad$Read", q2008, Or.inl rfl⟩ dX15_of_41, m_get⟩ (
  lkp_c (P := OkP 236) ⟨ok_iret rfl rfl (by decide) dX15_of_44, m_ret⟩ (
  lkp_c (P := OkP 236) ⟨(PuOK.ok (ok_aload_n dX15_of_45 rfl)), m_aload⟩ (
  lkp_c (P := OkP 236) ⟨ok_get ⟨"TollRoad$Read", q1997, Or.inl rfl⟩ dX15_of_46, m_get⟩ (
  lkp_c (P := OkP 236) ⟨ok_iret rfl rfl (by decide) dX15_of_49, m_ret⟩ (
  lkp_c (P := OkP 236) ⟨(PuOK.ok (ok_aload_n dX15_of_50 rfl)), m_aload⟩ (
  lkp_c (P := OkP 236) ⟨ok_get ⟨"TollRoad$Read", q2000, Or.inl rfl⟩ dX15_of_51, m_get⟩ (
  lkp_c (P := OkP 236) ⟨ok_iret rfl rfl (by decide) dX15_of_54, m_ret⟩ (
  lkp_c (P := OkP 236) ⟨(PuOK.ok (ok_aload_n dX15_of_55 rfl)), m_aload⟩ (
  lkp_c (P := OkP 236) ⟨ok_get ⟨"TollRoad$Read", q2004, Or.inl rfl⟩ dX15_of_56, m_get⟩ (
  lkp_c (P := OkP 236) ⟨(PuOK.ok (ok_if_eq dX15_of_59 rfl)), m_if⟩ (
  lkp_c (P := OkP 236) ⟨(PuOK.ok (ok_iconst dX15_of_62 rfl)), m_push⟩ (
  lkp_c (P := OkP 236) ⟨(PuOK.ok (ok_goto dX15_of_63 rfl)), m_goto⟩ (
  trivial))))))))))))))))
theorem c_236_1 : LkP (OkP 236) [(66, o_push 1 (.int 0)), (67, o_ret 1), (68, o_aload 0 1), (69, o_get 94), (72, o_ret 1), (73, o_aload 0 1), (74, o_get 95), (77, o_ret 1), (78, o_aload 0 1), (79, o_get 96), (82, o_ret 1)] := lkp_c (P := OkP 236) ⟨(PuOK.ok (ok_iconst dX15_of_66 rfl)), m_push⟩ (
  lkp_c (P := OkP 236) ⟨ok_iret rfl rfl (by decide) dX15_of_67, m_ret⟩ (
  lkp_c (P := OkP 236) ⟨(PuOK.ok (ok_aload_n dX15_of_68 rfl)), m_aload⟩ (
  lkp_c (P := OkP 236) ⟨ok_get ⟨"TollRoad$Read", q2010, Or.inl rfl⟩ dX15_of_69, m_get⟩ (
  lkp_c (P := OkP 236) ⟨ok_iret rfl rfl (by decide) dX15_of_72, m_ret⟩ (
  lkp_c (P := OkP 236) ⟨(PuOK.ok (ok_aload_n dX15_of_73 rfl)), m_aload⟩ (
  lkp_c (P := OkP 236) ⟨ok_get ⟨"TollRoad$Read", q2014, Or.inl rfl⟩ dX15_of_74, m_get⟩ (
  lkp_c (P := OkP 236) ⟨ok_iret rfl rfl (by decide) dX15_of_77, m_ret⟩ (
  lkp_c (P := OkP 236) ⟨(PuOK.ok (ok_aload_n dX15_of_78 rfl)), m_aload⟩ (
  lkp_c (P := OkP 236) ⟨ok_get ⟨"TollRoad$Read", q2017, Or.inl rfl⟩ dX15_of_79, m_get⟩ (
  lkp_c (P := OkP 236) ⟨ok_iret rfl rfl (by decide) dX15_of_82, m_ret⟩ (
  trivial)))))))))))
theorem mt_236 : MtOK TB NT IT 236 := ⟨by decide +kernel, rfl, (fun h => by cases h), Or.inl ⟨rfl, rfl⟩, rfl, by decide, lk2_all (P := OkP 236) ⟨c_236_0, c_236_1, trivial⟩⟩
def dkwX15_copy_2 : List UInt8 := [43, 42, 180, 0, 9, 181, 0, 9, 43, 176]
abbrev dktX15_copy_2 : List UInt8 := dkwX15_copy_2 ++ []
def dkwX15_copy_1 : List UInt8 := [43, 42, 180, 0, 31, 181, 0, 31, 43, 42, 180, 0, 34, 181, 0, 34, 43, 42, 180, 0, 37, 181, 0, 37]
abbrev dktX15_copy_1 : List UInt8 := dkwX15_copy_1 ++ dktX15_copy_2
def dkwX15_copy_0 : List UInt8 := [187, 0, 10, 89, 42, 180, 0, 15, 42, 180, 0, 18, 42, 180, 0, 21, 42, 180, 0, 24, 183, 0, 28, 76]
abbrev dktX15_copy_0 : List UInt8 := dkwX15_copy_0 ++ dktX15_copy_1
theorem dksX15_copy_0 : cX15_copy.data.toList.drop 0 = dktX15_copy_0 := by decide +kernel
theorem dksX15_copy_1 : cX15_copy.data.toList.drop 24 = dktX15_copy_1 := dk_seg dksX15_copy_0 24 rfl rfl
theorem dksX15_copy_2 : cX15_copy.data.toList.drop 48 = dktX15_copy_2 := dk_seg dksX15_copy_1 24 rfl rfl
theorem dX15_copy_0 : decode cX15_copy 0 = .ok (.new 10, 3) := dk_187 0 10 (dk_at dksX15_copy_0 0 rfl rfl)
theorem dX15_copy_3 : decode cX15_copy 3 = .ok (.dup, 1) := dk_89 (dk_at dksX15_copy_0 3 rfl rfl)
theorem dX15_copy_4 : decode cX15_copy 4 = .ok (.aload_n 0, 1) := dk_42 (dk_at dksX15_copy_0 4 rfl rfl)
theorem dX15_copy_5 : decode cX15_copy 5 = .ok (.getfield 15, 3) := dk_180 0 15 (dk_at dksX15_copy_0 5 rfl rfl)
theorem dX15_copy_8 : decode cX15_copy 8 = .ok (.aload_n 0, 1) := dk_42 (dk_at dksX15_copy_0 8 rfl rfl)
theorem dX15_copy_9 : decode cX15_copy 9 = .ok (.getfield 18, 3) := dk_180 0 18 (dk_at dksX15_copy_0 9 rfl rfl)
theorem dX15_copy_12 : decode cX15_copy 12 = .ok (.aload_n 0, 1) := dk_42 (dk_at dksX15_copy_0 12 rfl rfl)
theorem dX15_copy_13 : decode cX15_copy 13 = .ok (.getfield 21, 3) := dk_180 0 21 (dk_at dksX15_copy_0 13 rfl rfl)
theorem dX15_copy_16 : decode cX15_copy 16 = .ok (.aload_n 0, 1) := dk_42 (dk_at dksX15_copy_0 16 rfl rfl)
theorem dX15_copy_17 : decode cX15_copy 17 = .ok (.getfield 24, 3) := dk_180 0 24 (dk_at dksX15_copy_0 17 rfl rfl)
theorem dX15_copy_20 : decode cX15_copy 20 = .ok (.invokespecial 28, 3) := dk_183 0 28 (dk_at dksX15_copy_0 20 rfl rfl)
theorem dX15_copy_23 : decode cX15_copy 23 = .ok (.astore_n 1, 1) := dk_76 (dk_at dksX15_copy_0 23 rfl rfl)
theorem dX15_copy_24 : decode cX15_copy 24 = .ok (.aload_n 1, 1) := dk_43 (dk_at dksX15_copy_1 0 rfl rfl)
theorem dX15_copy_25 : decode cX15_copy 25 = .ok (.aload_n 0, 1) := dk_42 (dk_at dksX15_copy_1 1 rfl rfl)
theorem dX15_copy_26 : decode cX15_copy 26 = .ok (.getfield 31, 3) := dk_180 0 31 (dk_at dksX15_copy_1 2 rfl rfl)
theorem dX15_copy_29 : decode cX15_copy 29 = .ok (.putfield 31, 3) := dk_181 0 31 (dk_at dksX15_copy_1 5 rfl rfl)
theorem dX15_copy_32 : decode cX15_copy 32 = .ok (.aload_n 1, 1) := dk_43 (dk_at dksX15_copy_1 8 rfl rfl)
theorem dX15_copy_33 : decode cX15_copy 33 = .ok (.aload_n 0, 1) := dk_42 (dk_at dksX15_copy_1 9 rfl rfl)
theorem dX15_copy_34 : decode cX15_copy 34 = .ok (.getfield 34, 3) := dk_180 0 34 (dk_at dksX15_copy_1 10 rfl rfl)
theorem dX15_copy_37 : decode cX15_copy 37 = .ok (.putfield 34, 3) := dk_181 0 34 (dk_at dksX15_copy_1 13 rfl rfl)
theorem dX15_copy_40 : decode cX15_copy 40 = .ok (.aload_n 1, 1) := dk_43 (dk_at dksX15_copy_1 16 rfl rfl)
theorem dX15_copy_41 : decode cX15_copy 41 = .ok (.aload_n 0, 1) := dk_42 (dk_at dksX15_copy_1 17 rfl rfl)
theorem dX15_copy_42 : decode cX15_copy 42 = .ok (.getfield 37, 3) := dk_180 0 37 (dk_at dksX15_copy_1 18 rfl rfl)
theorem dX15_copy_45 : decode cX15_copy 45 = .ok (.putfield 37, 3) := dk_181 0 37 (dk_at dksX15_copy_1 21 rfl rfl)
theorem dX15_copy_48 : decode cX15_copy 48 = .ok (.aload_n 1, 1) := dk_43 (dk_at dksX15_copy_2 0 rfl rfl)
theorem dX15_copy_49 : decode cX15_copy 49 = .ok (.aload_n 0, 1) := dk_42 (dk_at dksX15_copy_2 1 rfl rfl)
theorem dX15_copy_50 : decode cX15_copy 50 = .ok (.getfield 9, 3) := dk_180 0 9 (dk_at dksX15_copy_2 2 rfl rfl)
theorem dX15_copy_53 : decode cX15_copy 53 = .ok (.putfield 9, 3) := dk_181 0 9 (dk_at dksX15_copy_2 5 rfl rfl)
theorem dX15_copy_56 : decode cX15_copy 56 = .ok (.aload_n 1, 1) := dk_43 (dk_at dksX15_copy_2 8 rfl rfl)
theorem dX15_copy_57 : decode cX15_copy 57 = .ok (.areturn, 1) := dk_176 (dk_at dksX15_copy_2 9 rfl rfl)
theorem c_237_0 : LkP (OkP 237) [(0, o_new 17 8 dv17), (3, o_dup), (4, o_aload 0 1), (5, o_get 89), (8, o_aload 0 1), (9, o_get 90), (12, o_aload 0 1), (13, o_get 91), (16, o_aload 0 1), (17, o_get 92), (20, o_ci 235 4), (23, o_astore 1 1), (24, o_aload 1 1), (25, o_aload 0 1), (26, o_get 93), (29, o_put 93 1), (32, o_aload 1 1), (33, o_aload 0 1), (34, o_get 94), (37, o_put 94 1), (40, o_aload 1 1), (41, o_aload 0 1), (42, o_get 95), (45, o_put 95 1), (48, o_aload 1 1), (49, o_aload 0 1), (50, o_get 96), (53, o_put 96 1), (56, o_aload 1 1), (57, o_ret 0)] := lkp_c (P := OkP 237) ⟨ok_new (ci := 17) (r := CLr 17) rfl dvok_17 q2996 q1988 q157 dX15_copy_0, m_new⟩ (
  lkp_c (P := OkP 237) ⟨(PuOK.ok (ok_dup dX15_copy_3)), m_dup⟩ (
  lkp_c (P := OkP 237) ⟨(PuOK.ok (ok_aload_n dX15_copy_4 rfl)), m_aload⟩ (
  lkp_c (P := OkP 237) ⟨ok_get ⟨"TollRoad$Read", q1993, Or.inl rfl⟩ dX15_copy_5, m_get⟩ (
  lkp_c (P := OkP 237) ⟨(PuOK.ok (ok_aload_n dX15_copy_8 rfl)), m_aload⟩ (
  lkp_c (P := OkP 237) ⟨ok_get ⟨"TollRoad$Read", q1997, Or.inl rfl⟩ dX15_copy_9, m_get⟩ (
  lkp_c (P := OkP 237) ⟨(PuOK.ok (ok_aload_n dX15_copy_12 rfl)), m_aload⟩ (
  lkp_c (P := OkP 237) ⟨ok_get ⟨"TollRoad$Read", q2000, Or.inl rfl⟩ dX15_copy_13, m_get⟩ (
  lkp_c (P := OkP 237) ⟨(PuOK.ok (ok_aload_n dX15_copy_16 rfl)), m_aload⟩ (
  lkp_c (P := OkP 237) ⟨ok_get ⟨"TollRoad$Read", q2004, Or.inl rfl⟩ dX15_copy_17, m_get⟩ (
  lkp_c (P := OkP 237) ⟨ok_ci (tg_I (rt := none) ⟨rfl, by decide⟩ rfl q2997 q1990 q157 q1991 ⟨cn_44.1, cn_44.2, pd_84⟩ dX15_copy_20) hd_no, m_ci⟩ (
  lkp_c (P := OkP 237) ⟨(PuOK.ok (ok_astore_n dX15_copy_23 rfl)), m_astore⟩ (
  lkp_c (P := OkP 237) ⟨(PuOK.ok (ok_aload_n dX15_copy_24 rfl)), m_aload⟩ (
  lkp_c (P := OkP 237) ⟨(PuOK.ok (ok_aload_n dX15_copy_25 rfl)), m_aload⟩ (
  lkp_c (P := OkP 237) ⟨ok_get ⟨"TollRoad$Read", q2008, Or.inl rfl⟩ dX15_copy_26, m_get⟩ (
  lkp_c (P := OkP 237) ⟨ok_put ⟨"TollRoad$Read", q2008, Or.inl rfl⟩ rfl fd_93 rfl dX15_copy_29, m_put⟩ (
  lkp_c (P := OkP 237) ⟨(PuOK.ok (ok_aload_n dX15_copy_32 rfl)), m_aload⟩ (
  lkp_c (P := OkP 237) ⟨(PuOK.ok (ok_aload_n dX15_copy_33 rfl)), m_aload⟩ (
  lkp_c (P := OkP 237) ⟨ok_get ⟨"TollRoad$Read", q2010, Or.inl rfl⟩ dX15_copy_34, m_get⟩ (
  lkp_c (P := OkP 237) ⟨ok_put ⟨"TollRoad$Read", q2010, Or.inl rfl⟩ rfl fd_94 rfl dX15_copy_37, m_put⟩ (
  lkp_c (P := OkP 237) ⟨(PuOK.ok (ok_aload_n dX15_copy_40 rfl)), m_aload⟩ (
  lkp_c (P := OkP 237) ⟨(PuOK.ok (ok_aload_n dX15_copy_41 rfl)), m_aload⟩ (
  lkp_c (P := OkP 237) ⟨ok_get ⟨"TollRoad$Read", q2014, Or.inl rfl⟩ dX15_copy_42, m_get⟩ (
  lkp_c (P := OkP 237) ⟨ok_put ⟨"TollRoad$Read", q2014, Or.inl rfl⟩ rfl fd_95 rfl dX15_copy_45, m_put⟩ (
  lkp_c (P := OkP 237) ⟨(PuOK.ok (ok_aload_n dX15_copy_48 rfl)), m_aload⟩ (
  lkp_c (P := OkP 237) ⟨(PuOK.ok (ok_aload_n dX15_copy_49 rfl)), m_aload⟩ (
  lkp_c (P := OkP 237) ⟨ok_get ⟨"TollRoad$Read", q2017, Or.inl rfl⟩ dX15_copy_50, m_get⟩ (
  lkp_c (P := OkP 237) ⟨ok_put ⟨"TollRoad$Read", q2017, Or.inl rfl⟩ rfl fd_96 rfl dX15_copy_53, m_put⟩ (
  lkp_c (P := OkP 237) ⟨(PuOK.ok (ok_aload_n dX15_copy_56 rfl)), m_aload⟩ (
  lkp_c (P := OkP 237) ⟨ok_aret rfl (Or.inl ⟨_, rfl⟩) dX15_copy_57, m_ret⟩ (
  trivial))))))))))))))))))))))))))))))
theorem mt_237 : MtOK TB NT IT 237 := ⟨by decide +kernel, rfl, (fun h => by cases h), Or.inl ⟨rfl, rfl⟩, rfl, by decide, lk2_all (P := OkP 237) ⟨c_237_0, trivial⟩⟩
def dkwX16_init_0 : List UInt8 := [42, 183, 0, 1, 42, 43, 181, 0, 7, 177]
abbrev dktX16_init_0 : List UInt8 := dkwX16_init_0 ++ []
theorem dksX16_init_0 : cX16_init.data.toList.drop 0 = dktX16_init_0 := by decide +kernel
theorem dX16_init_0 : decode cX16_init 0 = .ok (.aload_n 0, 1) := dk_42 (dk_at dksX16_init_0 0 rfl rfl)
theorem dX16_init_1 : decode cX16_init 1 = .ok (.invokespecial 1, 3) := dk_183 0 1 (dk_at dksX16_init_0 1 rfl rfl)
theorem dX16_init_4 : decode cX16_init 4 = .ok (.aload_n 0, 1) := dk_42 (dk_at dksX16_init_0 4 rfl rfl)
theorem dX16_init_5 : decode cX16_init 5 = .ok (.aload_n 1, 1) := dk_43 (dk_at dksX16_init_0 5 rfl rfl)
theorem dX16_init_6 : decode cX16_init 6 = .ok (.putfield 7, 3) := dk_181 0 7 (dk_at dksX16_init_0 6 rfl rfl)
theorem dX16_init_9 : decode cX16_init 9 = .ok (.return_, 1) := dk_177 (dk_at dksX16_init_0 9 rfl rfl)
theorem c_238_0 : LkP (OkP 238) [(0, o_aload 0 1), (1, o_oi), (4, o_aload 0 1), (5, o_aload 1 1), (6, o_put 101 0), (9, o_vret)] := lkp_c (P := OkP 238) ⟨(PuOK.ok (ok_aload_n dX16_init_0 rfl)), m_aload⟩ (
  lkp_c (P := OkP 238) ⟨ok_oi q2086 q188 q_oi dX16_init_1, m_oi⟩ (
  lkp_c (P := OkP 238) ⟨(PuOK.ok (ok_aload_n dX16_init_4 rfl)), m_aload⟩ (
  lkp_c (P := OkP 238) ⟨(PuOK.ok (ok_aload_n dX16_init_5 rfl)), m_aload⟩ (
  lkp_c (P := OkP 238) ⟨ok_putF q2087 rfl rfl rfl fd_101 rfl dX16_init_6, m_put⟩ (
  lkp_c (P := OkP 238) ⟨ok_vret rfl dX16_init_9, m_vret⟩ (
  trivial))))))
theorem mt_238 : MtOK TB NT IT 238 := ⟨by decide +kernel, rfl, fun _ => rfl, Or.inl ⟨rfl, rfl⟩, rfl, by decide, lk2_all (P := OkP 238) ⟨c_238_0, trivial⟩⟩
def dkwX16_compare_0 : List UInt8 := [42, 43, 192, 0, 20, 44, 192, 0, 20, 182, 0, 48, 172]
abbrev dktX16_compare_0 : List UInt8 := dkwX16_compare_0 ++ []
theorem dksX16_compare_0 : cX16_compare.data.toList.drop 0 = dktX16_compare_0 := by decide +kernel
theorem dX16_compare_0 : decode cX16_compare 0 = .ok (.aload_n 0, 1) := dk_42 (dk_at dksX16_compare_0 0 rfl rfl)
theorem dX16_compare_1 : decode cX16_compare 1 = .ok (.aload_n 1, 1) := dk_43 (dk_at dksX16_compare_0 1 rfl rfl)
theorem dX16_compare_2 : decode cX16_compare 2 = .ok (.checkcast 20, 3) := dk_192 0 20 (dk_at dksX16_compare_0 2 rfl rfl)
theorem dX16_compare_5 : decode cX16_compare 5 = .ok (.aload_n 2, 1) := dk_44 (dk_at dksX16_compare_0 5 rfl rfl)
theorem dX16_compare_6 : decode cX16_compare 6 = .ok (.checkcast 20, 3) := dk_192 0 20 (dk_at dksX16_compare_0 6 rfl rfl)
theorem dX16_compare_9 : decode cX16_compare 9 = .ok (.invokevirtual 48, 3) := dk_182 0 48 (dk_at dksX16_compare_0 9 rfl rfl)
theorem dX16_compare_12 : decode cX16_compare 12 = .ok (.ireturn, 1) := dk_172 (dk_at dksX16_compare_0 12 rfl rfl)
theorem c_239_0 : LkP (OkP 239) [(0, o_aload 0 1), (1, o_aload 1 1), (2, o_cast [17]), (5, o_aload 2 1), (6, o_cast [17]), (9, o_cv [(19, 240)] 2 3 false none), (12, o_ret 1)] := lkp_c (P := OkP 239) ⟨(PuOK.ok (ok_aload_n dX16_compare_0 rfl)), m_aload⟩ (
  lkp_c (P := OkP 239) ⟨(PuOK.ok (ok_aload_n dX16_compare_1 rfl)), m_aload⟩ (
  lkp_c (P := OkP 239) ⟨ok_cast q2167 cst_6 dX16_compare_2, m_cast⟩ (
  lkp_c (P := OkP 239) ⟨(PuOK.ok (ok_aload_n dX16_compare_5 rfl)), m_aload⟩ (
  lkp_c (P := OkP 239) ⟨ok_cast q2167 cst_6 dX16_compare_6, m_cast⟩ (
  lkp_c (P := OkP 239) ⟨ok_cv (List.forall_mem_cons.mpr ⟨tg_V (ci := 19) (r := CLr 19) (y := 240) rfl ⟨rfl, by decide⟩ rfl q2168 q2169 q2170 q160 q2171 ⟨cn_45.1, cn_45.2, pd_99⟩ dX16_compare_9, (List.forall_mem_nil _)⟩) hd_no, m_cv⟩ (
  lkp_c (P := OkP 239) ⟨ok_iret rfl rfl (by decide) dX16_compare_12, m_ret⟩ (
  trivial)))))))
theorem mt_239 : MtOK TB NT IT 239 := ⟨by decide +kernel, rfl, (fun h => by cases h), Or.inl ⟨rfl, rfl⟩, rfl, by decide, lk2_all (P := OkP 239) ⟨c_239_0, trivial⟩⟩
def dkwX16_compare_2_3 : List UInt8 := [180, 0, 45, 44, 180, 0, 45, 100, 172]
abbrev dktX16_compare_2_3 : List UInt8 := dkwX16_compare_2_3 ++ []
def dkwX16_compare_2_2 : List UInt8 := [180, 0, 42, 44, 180, 0, 42, 159, 0, 15, 43, 180, 0, 42, 44, 180, 0, 42, 100, 167, 0, 12, 43]
abbrev dktX16_compare_2_2 : List UInt8 := dkwX16_compare_2_2 ++ dktX16_compare_2_3
def dkwX16_compare_2_1 : List UInt8 := [172, 43, 180, 0, 39, 44, 180, 0, 39, 159, 0, 13, 43, 180, 0, 39, 44, 180, 0, 39, 100, 172, 43]
abbrev dktX16_compare_2_1 : List UInt8 := dkwX16_compare_2_1 ++ dktX16_compare_2_2
def dkwX16_compare_2_0 : List UInt8 := [42, 43, 182, 0, 36, 42, 44, 182, 0, 36, 159, 0, 15, 42, 44, 182, 0, 36, 42, 43, 182, 0, 36, 100]
abbrev dktX16_compare_2_0 : List UInt8 := dkwX16_compare_2_0 ++ dktX16_compare_2_1
theorem dksX16_compare_2_0 : cX16_compare_2.data.toList.drop 0 = dktX16_compare_2_0 := by decide +kernel
theorem dksX16_compare_2_1 : cX16_compare_2.data.toList.drop 24 = dktX16_compare_2_1 := dk_seg dksX16_compare_2_0 24 rfl rfl
theorem dksX16_compare_2_2 : cX16_compare_2.data.toList.drop 47 = dktX16_compare_2_2 := dk_seg dksX16_compare_2_1 23 rfl rfl
theorem dksX16_compare_2_3 : cX16_compare_2.data.toList.drop 70 = dktX16_compare_2_3 := dk_seg dksX16_compare_2_2 23 rfl rfl
theorem dX16_compare_2_0 : decode cX16_compare_2 0 = .ok (.aload_n 0, 1) := dk_42 (dk_at dksX16_compare_2_0 0 rfl rfl)
theorem dX16_compare_2_1 : decode cX16_compare_2 1 = .ok (.aload_n 1, 1) := dk_43 (dk_at dksX16_compare_2_0 1 rfl rfl)
theorem dX16_compare_2_2 : decode cX16_compare_2 2 = .ok (.invokevirtual 36, 3) := dk_182 0 36 (dk_at dksX16_compare_2_0 2 rfl rfl)
theorem dX16_compare_2_5 : decode cX16_compare_2 5 = .ok (.aload_n 0, 1) := dk_42 (dk_at dksX16_compare_2_0 5 rfl rfl)
theorem dX16_compare_2_6 : decode cX16_compare_2 6 = .ok (.aload_n 2, 1) := dk_44 (dk_at dksX16_compare_2_0 6 rfl rfl)
theorem dX16_compare_2_7 : decode cX16_compare_2 7 = .ok (.invokevirtual 36, 3) := dk_182 0 36 (dk_at dksX16_compare_2_0 7 rfl rfl)
theorem dX16_compare_2_10 : decode cX16_compare_2 10 = .ok (.if_icmp .eq 15, 3) := dk_159 0 15 (dk_at dksX16_compare_2_0 10 rfl rfl)
theorem dX16_compare_2_13 : decode cX16_compare_2 13 = .ok (.aload_n 0, 1) := dk_42 (dk_at dksX16_compare_2_0 13 rfl rfl)
theorem dX16_compare_2_14 : decode cX16_compare_2 14 = .ok (.aload_n 2, 1) := dk_44 (dk_at dksX16_compare_2_0 14 rfl rfl)
theorem dX16_compare_2_15 : decode cX16_compare_2 15 = .ok (.invokevirtual 36, 3) := dk_182 0 36 (dk_at dksX16_compare_2_0 15 rfl rfl)
theorem dX16_compare_2_18 : decode cX16_compare_2 18 = .ok (.aload_n 0, 1) := dk_42 (dk_at dksX16_compare_2_0 18 rfl rfl)
theorem dX16_compare_2_19 : decode cX16_compare_2 19 = .ok (.aload_n 1, 1) := dk_43 (dk_at dksX16_compare_2_0 19 rfl rfl)
theorem dX16_compare_2_20 : decode cX16_compare_2 20 = .ok (.invokevirtual 36, 3) := dk_182 0 36 (dk_at dksX16_compare_2_0 20 rfl rfl)
theorem dX16_compare_2_23 : decode cX16_compare_2 23 = .ok (.isub, 1) := dk_100 (dk_at dksX16_compare_2_0 23 rfl rfl)
theorem dX16_compare_2_24 : decode cX16_compare_2 24 = .ok (.ireturn, 1) := dk_172 (dk_at dksX16_compare_2_1 0 rfl rfl)
theorem dX16_compare_2_25 : decode cX16_compare_2 25 = .ok (.aload_n 1, 1) := dk_43 (dk_at dksX16_compare_2_1 1 rfl rfl)
theorem dX16_compare_2_26 : decode cX16_compare_2 26 = .ok (.getfield 39, 3) := dk_180 0 39 (dk_at dksX16_compare_2_1 2 rfl rfl)
theorem dX16_compare_2_29 : decode cX16_compare_2 29 = .ok (.aload_n 2, 1) := dk_44 (dk_at dksX16_compare_2_1 5 rfl rfl)
theorem dX16_compare_2_30 : decode cX16_compare_2 30 = .ok (.getfield 39, 3) := dk_180 0 39 (dk_at dksX16_compare_2_1 6 rfl rfl)
theorem dX16_compare_2_33 : decode cX16_compare_2 33 = .ok (.if_icmp .eq 13, 3) := dk_159 0 13 (dk_at dksX16_compare_2_1 9 rfl rfl)
theorem dX16_compare_2_36 : decode cX16_compare_2 36 = .ok (.aload_n 1, 1) := dk_43 (dk_at dksX16_compare_2_1 12 rfl rfl)
theorem dX16_compare_2_37 : decode cX16_compare_2 37 = .ok (.getfield 39, 3) := dk_180 0 39 (dk_at dksX16_compare_2_1 13 rfl rfl)
theorem dX16_compare_2_40 : decode cX16_compare_2 40 = .ok (.aload_n 2, 1) := dk_44 (dk_at dksX16_compare_2_1 16 rfl rfl)
theorem dX16_compare_2_41 : decode cX16_compare_2 41 = .ok (.getfield 39, 3) := dk_180 0 39 (dk_at dksX16_compare_2_1 17 rfl rfl)
theorem dX16_compare_2_44 : decode cX16_compare_2 44 = .ok (.isub, 1) := dk_100 (dk_at dksX16_compare_2_1 20 rfl rfl)
theorem dX16_compare_2_45 : decode cX16_compare_2 45 = .ok (.ireturn, 1) := dk_172 (dk_at dksX16_compare_2_1 21 rfl rfl)
theorem dX16_compare_2_46 : decode cX16_compare_2 46 = .ok (.aload_n 1, 1) := dk_43 (dk_at dksX16_compare_2_1 22 rfl rfl)
theorem dX16_compare_2_47 : decode cX16_compare_2 47 = .ok (.getfield 42, 3) := dk_180 0 42 (dk_at dksX16_compare_2_2 0 rfl rfl)
theorem dX16_compare_2_50 : decode cX16_compare_2 50 = .ok (.aload_n 2, 1) := dk_44 (dk_at dksX16_compare_2_2 3 rfl rfl)
theorem dX16_compare_2_51 : decode cX16_compare_2 51 = .ok (.getfield 42, 3) := dk_180 0 42 (dk_at dksX16_compare_2_2 4 rfl rfl)
theorem dX16_compare_2_54 : decode cX16_compare_2 54 = .ok (.if_icmp .eq 15, 3) := dk_159 0 15 (dk_at dksX16_compare_2_2 7 rfl rfl)
theorem dX16_compare_2_57 : decode cX16_compare_2 57 = .ok (.aload_n 1, 1) := dk_43 (dk_at dksX16_compare_2_2 10 rfl rfl)
theorem dX16_compare_2_58 : decode cX16_compare_2 58 = .ok (.getfield 42, 3) := dk_180 0 42 (dk_at dksX16_compare_2_2 11 rfl rfl)
theorem dX16_compare_2_61 : decode cX16_compare_2 61 = .ok (.aload_n 2, 1) := dk_44 (dk_at dksX16_compare_2_2 14 rfl rfl)
theorem dX16_compare_2_62 : decode cX16_compare_2 62 = .ok (.getfield 42, 3) := dk_180 0 42 (dk_at dksX16_compare_2_2 15 rfl rfl)
theorem dX16_compare_2_65 : decode cX16_compare_2 65 = .ok (.isub, 1) := dk_100 (dk_at dksX16_compare_2_2 18 rfl rfl)
theorem dX16_compare_2_66 : decode cX16_compare_2 66 = .ok (.goto 12, 3) := dk_167 0 12 (dk_at dksX16_compare_2_2 19 rfl rfl)
theorem dX16_compare_2_69 : decode cX16_compare_2 69 = .ok (.aload_n 1, 1) := dk_43 (dk_at dksX16_compare_2_2 22 rfl rfl)
theorem dX16_compare_2_70 : decode cX16_compare_2 70 = .ok (.getfield 45, 3) := dk_180 0 45 (dk_at dksX16_compare_2_3 0 rfl rfl)
theorem dX16_compare_2_73 : decode cX16_compare_2 73 = .ok (.aload_n 2, 1) := dk_44 (dk_at dksX16_compare_2_3 3 rfl rfl)
theorem dX16_compare_2_74 : decode cX16_compare_2 74 = .ok (.getfield 45, 3) := dk_180 0 45 (dk_at dksX16_compare_2_3 4 rfl rfl)
theorem dX16_compare_2_77 : decode cX16_compare_2 77 = .ok (.isub, 1) := dk_100 (dk_at dksX16_compare_2_3 7 rfl rfl)
theorem dX16_compare_2_78 : decode cX16_compare_2 78 = .ok (.ireturn, 1) := dk_172 (dk_at dksX16_compare_2_3 8 rfl rfl)
theorem c_240_0 : LkP (OkP 240) [(0, o_aload 0 1), (1, o_aload 1 1), (2, o_cv [(19, 241)] 1 3 false none), (5, o_aload 0 1), (6, o_aload 2 1), (7, o_cv [(19, 241)] 1 3 false none), (10, o_icmp (fun x y => decide (x = y)) 25), (13, o_aload 0 1), (14, o_aload 2 1), (15, o_cv [(19, 241)] 1 3 false none), (18, o_aload 0 1), (19, o_aload 1 1), (20, o_cv [(19, 241)] 1 3 false none), (23, o_iop (fun x y => x - y)), (24, o_ret 1), (25, o_aload 1 1), (26, o_get 94), (29, o_aload 2 1), (30, o_get 94), (33, o_icmp (fun x y => decide (x = y)) 46), (36, o_aload 1 1), (37, o_get 94), (40, o_aload 2 1), (41, o_get 94), (44, o_iop (fun x y => x - y)), (45, o_ret 1), (46, o_aload 1 1), (47, o_get 91), (50, o_aload 2 1), (51, o_get 91), (54, o_icmp (fun x y => decide (x = y)) 69), (57, o_aload 1 1), (58, o_get 91), (61, o_aload 2 1), (62, o_get 91)] := lkp_c (P := OkP 240) ⟨(PuOK.ok (ok_aload_n dX16_compare_2_0 rfl)), m_aload⟩ (
  lkp_c (P := OkP 240) ⟨(PuOK.ok (ok_aload_n dX16_compare_2_1 rfl)), m_aload⟩ (
  lkp_c (P := OkP 240) ⟨ok_cv (List.forall_mem_cons.mpr ⟨tg_V (ci := 19) (r := CLr 19) (y := 241) rfl ⟨rfl, by decide⟩ rfl q2172 q2174 qs25 q160 q2175 ⟨cn_45.1, cn_45.2, pd_100⟩ dX16_compare_2_2, (List.forall_mem_nil _)⟩) hd_no, m_cv⟩ (
  lkp_c (P := OkP 240) ⟨(PuOK.ok (ok_aload_n dX16_compare_2_5 rfl)), m_aload⟩ (
  lkp_c (P := OkP 240) ⟨(PuOK.ok (ok_aload_n dX16_compare_2_6 rfl)), m_aload⟩ (
  lkp_c (P := OkP 240) ⟨ok_cv (List.forall_mem_cons.mpr ⟨tg_V (ci := 19) (r := CLr 19) (y := 241) rfl ⟨rfl, by decide⟩ rfl q2172 q2174 qs25 q160 q2175 ⟨cn_45.1, cn_45.2, pd_100⟩ dX16_compare_2_7, (List.forall_mem_nil _)⟩) hd_no, m_cv⟩ (
  lkp_c (P := OkP 240) ⟨(PuOK.ok (ok_icmp_eq dX16_compare_2_10 rfl)), m_icmp⟩ (
  lkp_c (P := OkP 240) ⟨(PuOK.ok (ok_aload_n dX16_compare_2_13 rfl)), m_aload⟩ (
  lkp_c (P := OkP 240) ⟨(PuOK.ok (ok_aload_n dX16_compare_2_14 rfl)), m_aload⟩ (
  lkp_c (P := OkP 240) ⟨ok_cv (List.forall_mem_cons.mpr ⟨tg_V (ci := 19) (r := CLr 19) (y := 241) rfl ⟨rfl, by decide⟩ rfl q2172 q2174 qs25 q160 q2175 ⟨cn_45.1, cn_45.2, pd_100⟩ dX16_compare_2_15, (List.forall_mem_nil _)⟩) hd_no, m_cv⟩ (
  lkp_c (P := OkP 240) ⟨(PuOK.ok (ok_aload_n dX16_compare_2_18 rfl)), m_aload⟩ (
  lkp_c (P := OkP 240) ⟨(PuOK.ok (ok_aload_n dX16_compare_2_19 rfl)), m_aload⟩ (
  lkp_c (P := OkP 240) ⟨ok_cv (List.forall_mem_cons.mpr ⟨tg_V (ci := 19) (r := CLr 19) (y := 241) rfl ⟨rfl, by decide⟩ rfl q2172 q2174 qs25 q160 q2175 ⟨cn_45.1, cn_45.2, pd_100⟩ dX16_compare_2_20, (List.forall_mem_nil _)⟩) hd_no, m_cv⟩ (
  lkp_c (P := OkP 240) ⟨(PuOK.ok (ok_isub dX16_compare_2_23)), m_iop⟩ (
  lkp_c (P := OkP 240) ⟨ok_iret rfl rfl (by decide) dX16_compare_2_24, m_ret⟩ (
  lkp_c (P := OkP 240) ⟨(PuOK.ok (ok_aload_n dX16_compare_2_25 rfl)), m_aload⟩ (
  lkp_c (P := OkP 240) ⟨ok_getN ⟨"TollRoad$Read", "TollRoad", q2011, Or.inl rfl⟩ dX16_compare_2_26, m_get⟩ (
  lkp_c (P := OkP 240) ⟨(PuOK.ok (ok_aload_n dX16_compare_2_29 rfl)), m_aload⟩ (
  lkp_c (P := OkP 240) ⟨ok_getN ⟨"TollRoad$Read", "TollRoad", q2011, Or.inl rfl⟩ dX16_compare_2_30, m_get⟩ (
  lkp_c (P := OkP 240) ⟨(PuOK.ok (ok_icmp_eq dX16_compare_2_33 rfl)), m_icmp⟩ (
  lkp_c (P := OkP 240) ⟨(PuOK.ok (ok_aload_n dX16_compare_2_36 rfl)), m_aload⟩ (
  lkp_c (P := OkP 240) ⟨ok_getN ⟨"TollRoad$Read", "TollRoad", q2011, Or.inl rfl⟩ dX16_compare_2_37, m_get⟩ (
  lkp_c (P := OkP 240) ⟨(PuOK.ok (ok_aload_n dX16_compare_2_40 rfl)), m_aload⟩ (
  lkp_c (P := OkP 240) ⟨ok_getN ⟨"TollRoad$Read", "TollRoad", q2011, Or.inl rfl⟩ dX16_compare_2_41, m_get⟩ (
  lkp_c (P := OkP 240) ⟨(PuOK.ok (ok_isub dX16_compare_2_44)), m_iop⟩ (
  lkp_c (P := OkP 240) ⟨ok_iret rfl rfl (by decide) dX16_compare_2_45, m_ret⟩ (
  lkp_c (P := OkP 240) ⟨(PuOK.ok (ok_aload_n dX16_compare_2_46 rfl)), m_aload⟩ (
  lkp_c (P := OkP 240) ⟨ok_getN ⟨"TollRoad$Read", "TollRoad", q2002, Or.inl rfl⟩ dX16_compare_2_47, m_get⟩ (
  lkp_c (P := OkP 240) ⟨(PuOK.ok (ok_aload_n dX16_compare_2_50 rfl)), m_aload⟩ (
  lkp_c (P := OkP 240) ⟨ok_getN ⟨"TollRoad$Read", "TollRoad", q2002, Or.inl rfl⟩ dX16_compare_2_51, m_get⟩ (
  lkp_c (P := OkP 240) ⟨(PuOK.ok (ok_icmp_eq dX16_compare_2_54 rfl)), m_icmp⟩ (
  lkp_c (P := OkP 240) ⟨(PuOK.ok (ok_aload_n dX16_compare_2_57 rfl)), m_aload⟩ (
  lkp_c (P := OkP 240) ⟨ok_getN ⟨"TollRoad$Read", "TollRoad", q2002, Or.inl rfl⟩ dX16_compare_2_58, m_get⟩ (
  lkp_c (P := OkP 240) ⟨(PuOK.ok (ok_aload_n dX16_compare_2_61 rfl)), m_aload⟩ (
  lkp_c (P := OkP 240) ⟨ok_getN ⟨"TollRoad$Read", "TollRoad", q2002, Or.inl rfl⟩ dX16_compare_2_62, m_get⟩ (
  trivial)))))))))))))))))))))))))))))))))))
theorem c_240_1 : LkP (OkP 240) [(65, o_iop (fun x y => x - y)), (66, o_goto 78), (69, o_aload 1 1), (70, o_get 89), (73, o_aload 2 1), (74, o_get 89), (77, o_iop (fun x y => x - y)), (78, o_ret 1)] := lkp_c (P := OkP 240) ⟨(PuOK.ok (ok_isub dX16_compare_2_65)), m_iop⟩ (
  lkp_c (P := OkP 240) ⟨(PuOK.ok (ok_goto dX16_compare_2_66 rfl)), m_goto⟩ (
  lkp_c (P := OkP 240) ⟨(PuOK.ok (ok_aload_n dX16_compare_2_69 rfl)), m_aload⟩ (
  lkp_c (P := OkP 240) ⟨ok_getN ⟨"TollRoad$Read", "TollRoad", q1994, Or.inl rfl⟩ dX16_compare_2_70, m_get⟩ (
  lkp_c (P := OkP 240) ⟨(PuOK.ok (ok_aload_n dX16_compare_2_73 rfl)), m_aload⟩ (
  lkp_c (P := OkP 240) ⟨ok_getN ⟨"TollRoad$Read", "TollRoad", q1994, Or.inl rfl⟩ dX16_compare_2_74, m_get⟩ (
  lkp_c (P := OkP 240) ⟨(PuOK.ok (ok_isub dX16_compare_2_77)), m_iop⟩ (
  lkp_c (P := OkP 240) ⟨ok_iret rfl rfl (by decide) dX16_compare_2_78, m_ret⟩ (
  trivial))))))))
theorem mt_240 : MtOK TB NT IT 240 := ⟨by decide +kernel, rfl, (fun h => by cases h), Or.inl ⟨rfl, rfl⟩, rfl, by decide, lk2_all (P := OkP 240) ⟨c_240_0, c_240_1, trivial⟩⟩
def dkwX16_size_0 : List UInt8 := [42, 180, 0, 7, 180, 0, 13, 43, 180, 0, 19, 182, 0, 25, 192, 0, 31, 180, 0, 33, 172]
abbrev dktX16_size_0 : List UInt8 := dkwX16_size_0 ++ []
theorem dksX16_size_0 : cX16_size.data.toList.drop 0 = dktX16_size_0 := by decide +kernel
theorem dX16_size_0 : decode cX16_size 0 = .ok (.aload_n 0, 1) := dk_42 (dk_at dksX16_size_0 0 rfl rfl)
theorem dX16_size_1 : decode cX16_size 1 = .ok (.getfield 7, 3) := dk_180 0 7 (dk_at dksX16_size_0 1 rfl rfl)
theorem dX16_size_4 : decode cX16_size 4 = .ok (.getfield 13, 3) := dk_180 0 13 (dk_at dksX16_size_0 4 rfl rfl)
theorem dX16_size_7 : decode cX16_size 7 = .ok (.aload_n 1, 1) := dk_43 (dk_at dksX16_size_0 7 rfl rfl)
theorem dX16_size_8 : decode cX16_size 8 = .ok (.getfield 19, 3) := dk_180 0 19 (dk_at dksX16_size_0 8 rfl rfl)
theorem dX16_size_11 : decode cX16_size 11 = .ok (.invokevirtual 25, 3) := dk_182 0 25 (dk_at dksX16_size_0 11 rfl rfl)
theorem dX16_size_14 : decode cX16_size 14 = .ok (.checkcast 31, 3) := dk_192 0 31 (dk_at dksX16_size_0 14 rfl rfl)
theorem dX16_size_17 : decode cX16_size 17 = .ok (.getfield 33, 3) := dk_180 0 33 (dk_at dksX16_size_0 17 rfl rfl)
theorem dX16_size_20 : decode cX16_size 20 = .ok (.ireturn, 1) := dk_172 (dk_at dksX16_size_0 20 rfl rfl)
theorem c_241_0 : LkP (OkP 241) [(0, o_aload 0 1), (1, o_get 101), (4, o_get 10), (7, o_aload 1 1), (8, o_get 93), (11, o_cv [(3, 47)] 1 3 false none), (14, o_cast [13]), (17, o_get 69), (20, o_ret 1)] := lkp_c (P := OkP 241) ⟨(PuOK.ok (ok_aload_n dX16_size_0 rfl)), m_aload⟩ (
  lkp_c (P := OkP 241) ⟨ok_get ⟨"TollRoad$Order", q2087, Or.inl rfl⟩ dX16_size_1, m_get⟩ (
  lkp_c (P := OkP 241) ⟨ok_getN ⟨"TollRoad$World", "TollRoad", q638, Or.inl rfl⟩ dX16_size_4, m_get⟩ (
  lkp_c (P := OkP 241) ⟨(PuOK.ok (ok_aload_n dX16_size_7 rfl)), m_aload⟩ (
  lkp_c (P := OkP 241) ⟨ok_getN ⟨"TollRoad$Read", "TollRoad", q2007, Or.inl rfl⟩ dX16_size_8, m_get⟩ (
  lkp_c (P := OkP 241) ⟨ok_cv (List.forall_mem_cons.mpr ⟨tg_V (ci := 3) (r := CLr 3) (y := 47) rfl ⟨rfl, by decide⟩ rfl q2176 q1807 q1808 q120 q1809 ⟨cn_15.1, cn_15.2, pd_27⟩ dX16_size_11, (List.forall_mem_nil _)⟩) hd_no, m_cv⟩ (
  lkp_c (P := OkP 241) ⟨ok_cast q2177 cst_7 dX16_size_14, m_cast⟩ (
  lkp_c (P := OkP 241) ⟨ok_getN ⟨"TollRoad$Vehicle", "TollRoad", q1499, Or.inl rfl⟩ dX16_size_17, m_get⟩ (
  lkp_c (P := OkP 241) ⟨ok_iret rfl rfl (by decide) dX16_size_20, m_ret⟩ (
  trivial)))))))))
theorem mt_241 : MtOK TB NT IT 241 := ⟨by decide +kernel, rfl, (fun h => by cases h), Or.inl ⟨rfl, rfl⟩, rfl, by decide, lk2_all (P := OkP 241) ⟨c_241_0, trivial⟩⟩
def dkwX17_takes_8 : List UInt8 := [180, 0, 83, 96, 181, 0, 80, 42, 180, 0, 14, 43, 182, 0, 27, 87, 42, 43, 181, 0, 42, 4, 172]
abbrev dktX17_takes_8 : List UInt8 := dkwX17_takes_8 ++ []
def dkwX17_takes_7 : List UInt8 := [181, 0, 71, 42, 89, 180, 0, 74, 25, 5, 180, 0, 77, 96, 181, 0, 74, 42, 89, 180, 0, 80, 25, 5]
abbrev dktX17_takes_7 : List UInt8 := dkwX17_takes_7 ++ dktX17_takes_8
def dkwX17_takes_6 : List UInt8 := [184, 0, 36, 182, 0, 27, 87, 132, 8, 1, 167, 255, 230, 42, 89, 180, 0, 71, 21, 7, 4, 100, 96]
abbrev dktX17_takes_6 : List UInt8 := dkwX17_takes_6 ++ dktX17_takes_7
def dkwX17_takes_5 : List UInt8 := [180, 0, 68, 54, 7, 4, 54, 8, 21, 8, 21, 7, 163, 0, 25, 42, 180, 0, 20, 25, 6, 21, 8, 46]
abbrev dktX17_takes_5 : List UInt8 := dkwX17_takes_5 ++ dktX17_takes_6
def dkwX17_takes_4 : List UInt8 := [58, 5, 25, 5, 182, 0, 54, 182, 0, 58, 154, 0, 5, 3, 172, 25, 5, 180, 0, 64, 58, 6, 25, 5]
abbrev dktX17_takes_4 : List UInt8 := dkwX17_takes_4 ++ dktX17_takes_5
def dkwX17_takes_3 : List UInt8 := [172, 187, 0, 49, 89, 44, 45, 42, 180, 0, 42, 180, 0, 31, 43, 180, 0, 31, 21, 4, 183, 0, 51]
abbrev dktX17_takes_3 : List UInt8 := dkwX17_takes_3 ++ dktX17_takes_4
def dkwX17_takes_2 : List UInt8 := [153, 0, 12, 42, 180, 0, 14, 43, 182, 0, 27, 87, 21, 5, 172, 21, 4, 45, 3, 46, 164, 0, 5, 3]
abbrev dktX17_takes_2 : List UInt8 := dkwX17_takes_2 ++ dktX17_takes_3
def dkwX17_takes_1 : List UInt8 := [180, 0, 31, 160, 0, 35, 21, 4, 45, 4, 46, 163, 0, 7, 4, 167, 0, 4, 3, 54, 5, 21, 5]
abbrev dktX17_takes_1 : List UInt8 := dkwX17_takes_1 ++ dktX17_takes_2
def dkwX17_takes_0 : List UInt8 := [43, 180, 0, 46, 42, 180, 0, 42, 180, 0, 46, 100, 54, 4, 43, 180, 0, 31, 42, 180, 0, 42]
abbrev dktX17_takes_0 : List UInt8 := dkwX17_takes_0 ++ dktX17_takes_1
theorem dksX17_takes_0 : cX17_takes.data.toList.drop 0 = dktX17_takes_0 := by decide +kernel
theorem dksX17_takes_1 : cX17_takes.data.toList.drop 22 = dktX17_takes_1 := dk_seg dksX17_takes_0 22 rfl rfl
theorem dksX17_takes_2 : cX17_takes.data.toList.drop 45 = dktX17_takes_2 := dk_seg dksX17_takes_1 23 rfl rfl
theorem dksX17_takes_3 : cX17_takes.data.toList.drop 69 = dktX17_takes_3 := dk_seg dksX17_takes_2 24 rfl rfl
theorem dksX17_takes_4 : cX17_takes.data.toList.drop 92 = dktX17_takes_4 := dk_seg dksX17_takes_3 23 rfl rfl
theorem dksX17_takes_5 : cX17_takes.data.toList.drop 116 = dktX17_takes_5 := dk_seg dksX17_takes_4 24 rfl rfl
theorem dksX17_takes_6 : cX17_takes.data.toList.drop 140 = dktX17_takes_6 := dk_seg dksX17_takes_5 24 rfl rfl
theorem dksX17_takes_7 : cX17_takes.data.toList.drop 163 = dktX17_takes_7 := dk_seg dksX17_takes_6 23 rfl rfl
theorem dksX17_takes_8 : cX17_takes.data.toList.drop 187 = dktX17_takes_8 := dk_seg dksX17_takes_7 24 rfl rfl
theorem dX17_takes_0 : decode cX17_takes 0 = .ok (.aload_n 1, 1) := dk_43 (dk_at dksX17_takes_0 0 rfl rfl)
theorem dX17_takes_1 : decode cX17_takes 1 = .ok (.getfield 46, 3) := dk_180 0 46 (dk_at dksX17_takes_0 1 rfl rfl)
theorem dX17_takes_4 : decode cX17_takes 4 = .ok (.aload_n 0, 1) := dk_42 (dk_at dksX17_takes_0 4 rfl rfl)
theorem dX17_takes_5 : decode cX17_takes 5 = .ok (.getfield 42, 3) := dk_180 0 42 (dk_at dksX17_takes_0 5 rfl rfl)
theorem dX17_takes_8 : decode cX17_takes 8 = .ok (.getfield 46, 3) := dk_180 0 46 (dk_at dksX17_takes_0 8 rfl rfl)
theorem dX17_takes_11 : decode cX17_takes 11 = .ok (.isub, 1) := dk_100 (dk_at dksX17_takes_0 11 rfl rfl)
theorem dX17_takes_12 : decode cX17_takes 12 = .ok (.istore 4, 2) := dk_54 4 (dk_at dksX17_takes_0 12 rfl rfl)
theorem dX17_takes_14 : decode cX17_takes 14 = .ok (.aload_n 1, 1) := dk_43 (dk_at dksX17_takes_0 14 rfl rfl)
theorem dX17_takes_15 : decode cX17_takes 15 = .ok (.getfield 31, 3) := dk_180 0 31 (dk_at dksX17_takes_0 15 rfl rfl)
theorem dX17_takes_18 : decode cX17_takes 18 = .ok (.aload_n 0, 1) := dk_42 (dk_at dksX17_takes_0 18 rfl rfl)
theorem dX17_takes_19 : decode cX17_takes 19 = .ok (.getfield 42, 3) := dk_180 0 42 (dk_at dksX17_takes_0 19 rfl rfl)
theorem dX17_takes_22 : decode cX17_takes 22 = .ok (.getfield 31, 3) := dk_180 0 31 (dk_at dksX17_takes_1 0 rfl rfl)
theorem dX17_takes_25 : decode cX17_takes 25 = .ok (.if_icmp .ne 35, 3) := dk_160 0 35 (dk_at dksX17_takes_1 3 rfl rfl)
theorem dX17_takes_28 : decode cX17_takes 28 = .ok (.iload 4, 2) := dk_21 4 (dk_at dksX17_takes_1 6 rfl rfl)
theorem dX17_takes_30 : decode cX17_takes 30 = .ok (.aload_n 3, 1) := dk_45 (dk_at dksX17_takes_1 8 rfl rfl)
theorem dX17_takes_31 : decode cX17_takes 31 = .ok (.iconst 1, 1) := dk_4 (dk_at dksX17_takes_1 9 rfl rfl)
theorem dX17_takes_32 : decode cX17_takes 32 = .ok (.iaload, 1) := dk_46 (dk_at dksX17_takes_1 10 rfl rfl)
theorem dX17_takes_33 : decode cX17_takes 33 = .ok (.if_icmp .gt 7, 3) := dk_163 0 7 (dk_at dksX17_takes_1 11 rfl rfl)
theorem dX17_takes_36 : decode cX17_takes 36 = .ok (.iconst 1, 1) := dk_4 (dk_at dksX17_takes_1 14 rfl rfl)
theorem dX17_takes_37 : decode cX17_takes 37 = .ok (.goto 4, 3) := dk_167 0 4 (dk_at dksX17_takes_1 15 rfl rfl)
theorem dX17_takes_40 : decode cX17_takes 40 = .ok (.iconst 0, 1) := dk_3 (dk_at dksX17_takes_1 18 rfl rfl)
theorem dX17_takes_41 : decode cX17_takes 41 = .ok (.istore 5, 2) := dk_54 5 (dk_at dksX17_takes_1 19 rfl rfl)
theorem dX17_takes_43 : decode cX17_takes 43 = .ok (.iload 5, 2) := dk_21 5 (dk_at dksX17_takes_1 21 rfl rfl)
theorem dX17_takes_45 : decode cX17_takes 45 = .ok (.ifCond .eq 12, 3) := dk_153 0 12 (dk_at dksX17_takes_2 0 rfl rfl)
theorem dX17_takes_48 : decode cX17_takes 48 = .ok (.aload_n 0, 1) := dk_42 (dk_at dksX17_takes_2 3 rfl rfl)
theorem dX17_takes_49 : decode cX17_takes 49 = .ok (.getfield 14, 3) := dk_180 0 14 (dk_at dksX17_takes_2 4 rfl rfl)
theorem dX17_takes_52 : decode cX17_takes 52 = .ok (.aload_n 1, 1) := dk_43 (dk_at dksX17_takes_2 7 rfl rfl)
theorem dX17_takes_53 : decode cX17_takes 53 = .ok (.invokevirtual 27, 3) := dk_182 0 27 (dk_at dksX17_takes_2 8 rfl rfl)
theorem dX17_takes_56 : decode cX17_takes 56 = .ok (.pop, 1) := dk_87 (dk_at dksX17_takes_2 11 rfl rfl)
theorem dX17_takes_57 : decode cX17_takes 57 = .ok (.iload 5, 2) := dk_21 5 (dk_at dksX17_takes_2 12 rfl rfl)
theorem dX17_takes_59 : decode cX17_takes 59 = .ok (.ireturn, 1) := dk_172 (dk_at dksX17_takes_2 14 rfl rfl)
theorem dX17_takes_60 : decode cX17_takes 60 = .ok (.iload 4, 2) := dk_21 4 (dk_at dksX17_takes_2 15 rfl rfl)
theorem dX17_takes_62 : decode cX17_takes 62 = .ok (.aload_n 3, 1) := dk_45 (dk_at dksX17_takes_2 17 rfl rfl)
theorem dX17_takes_63 : decode cX17_takes 63 = .ok (.iconst 0, 1) := dk_3 (dk_at dksX17_takes_2 18 rfl rfl)
theorem dX17_takes_64 : decode cX17_takes 64 = .ok (.iaload, 1) := dk_46 (dk_at dksX17_takes_2 19 rfl rfl)
theorem dX17_takes_65 : decode cX17_takes 65 = .ok (.if_icmp .le 5, 3) := dk_164 0 5 (dk_at dksX17_takes_2 20 rfl rfl)
theorem dX17_takes_68 : decode cX17_takes 68 = .ok (.iconst 0, 1) := dk_3 (dk_at dksX17_takes_2 23 rfl rfl)
theorem dX17_takes_69 : decode cX17_takes 69 = .ok (.ireturn, 1) := dk_172 (dk_at dksX17_takes_3 0 rfl rfl)
theorem dX17_takes_70 : decode cX17_takes 70 = .ok (.new 49, 3) := dk_187 0 49 (dk_at dksX17_takes_3 1 rfl rfl)
theorem dX17_takes_73 : decode cX17_takes 73 = .ok (.dup, 1) := dk_89 (dk_at dksX17_takes_3 4 rfl rfl)
theorem dX17_takes_74 : decode cX17_takes 74 = .ok (.aload_n 2, 1) := dk_44 (dk_at dksX17_takes_3 5 rfl rfl)
theorem dX17_takes_75 : decode cX17_takes 75 = .ok (.aload_n 3, 1) := dk_45 (dk_at dksX17_takes_3 6 rfl rfl)
theorem dX17_takes_76 : decode cX17_takes 76 = .ok (.aload_n 0, 1) := dk_42 (dk_at dksX17_takes_3 7 rfl rfl)
theorem dX17_takes_77 : decode cX17_takes 77 = .ok (.getfield 42, 3) := dk_180 0 42 (dk_at dksX17_takes_3 8 rfl rfl)
theorem dX17_takes_80 : decode cX17_takes 80 = .ok (.getfield 31, 3) := dk_180 0 31 (dk_at dksX17_takes_3 11 rfl rfl)
theorem dX17_takes_83 : decode cX17_takes 83 = .ok (.aload_n 1, 1) := dk_43 (dk_at dksX17_takes_3 14 rfl rfl)
theorem dX17_takes_84 : decode cX17_takes 84 = .ok (.getfield 31, 3) := dk_180 0 31 (dk_at dksX17_takes_3 15 rfl rfl)
theorem dX17_takes_87 : decode cX17_takes 87 = .ok (.iload 4, 2) := dk_21 4 (dk_at dksX17_takes_3 18 rfl rfl)
theorem dX17_takes_89 : decode cX17_takes 89 = .ok (.invokespecial 51, 3) := dk_183 0 51 (dk_at dksX17_takes_3 20 rfl rfl)
theorem dX17_takes_92 : decode cX17_takes 92 = .ok (.astore 5, 2) := dk_58 5 (dk_at dksX17_takes_4 0 rfl rfl)
theorem dX17_takes_94 : decode cX17_takes 94 = .ok (.aload 5, 2) := dk_25 5 (dk_at dksX17_takes_4 2 rfl rfl)
theorem dX17_takes_96 : decode cX17_takes 96 = .ok (.invokevirtual 54, 3) := dk_182 0 54 (dk_at dksX17_takes_4 4 rfl rfl)
theorem dX17_takes_99 : decode cX17_takes 99 = .ok (.invokevirtual 58, 3) := dk_182 0 58 (dk_at dksX17_takes_4 7 rfl rfl)
theorem dX17_takes_102 : decode cX17_takes 102 = .ok (.ifCond .ne 5, 3) := dk_154 0 5 (dk_at dksX17_takes_4 10 rfl rfl)
theorem dX17_takes_105 : decode cX17_takes 105 = .ok (.iconst 0, 1) := dk_3 (dk_at dksX17_takes_4 13 rfl rfl)
theorem dX17_takes_106 : decode cX17_takes 106 = .ok (.ireturn, 1) := dk_172 (dk_at dksX17_takes_4 14 rfl rfl)
theorem dX17_takes_107 : decode cX17_takes 107 = .ok (.aload 5, 2) := dk_25 5 (dk_at dksX17_takes_4 15 rfl rfl)
theorem dX17_takes_109 : decode cX17_takes 109 = .ok (.getfield 64, 3) := dk_180 0 64 (dk_at dksX17_takes_4 17 rfl rfl)
theorem dX17_takes_112 : decode cX17_takes 112 = .ok (.astore 6, 2) := dk_58 6 (dk_at dksX17_takes_4 20 rfl rfl)
theorem dX17_takes_114 : decode cX17_takes 114 = .ok (.aload 5, 2) := dk_25 5 (dk_at dksX17_takes_4 22 rfl rfl)
theorem dX17_takes_116 : decode cX17_takes 116 = .ok (.getfield 68, 3) := dk_180 0 68 (dk_at dksX17_takes_5 0 rfl rfl)
theorem dX17_takes_119 : decode cX17_takes 119 = .ok (.istore 7, 2) := dk_54 7 (dk_at dksX17_takes_5 3 rfl rfl)
theorem dX17_takes_121 : decode cX17_takes 121 = .ok (.iconst 1, 1) := dk_4 (dk_at dksX17_takes_5 5 rfl rfl)
theorem dX17_takes_122 : decode cX17_takes 122 = .ok (.istore 8, 2) := dk_54 8 (dk_at dksX17_takes_5 6 rfl rfl)
theorem dX17_takes_124 : decode cX17_takes 124 = .ok (.iload 8, 2) := dk_21 8 (dk_at dksX17_takes_5 8 rfl rfl)
theorem dX17_takes_126 : decode cX17_takes 126 = .ok (.iload 7, 2) := dk_21 7 (dk_at dksX17_takes_5 10 rfl rfl)
theorem dX17_takes_128 : decode cX17_takes 128 = .ok (.if_icmp .gt 25, 3) := dk_163 0 25 (dk_at dksX17_takes_5 12 rfl rfl)
theorem dX17_takes_131 : decode cX17_takes 131 = .ok (.aload_n 0, 1) := dk_42 (dk_at dksX17_takes_5 15 rfl rfl)
theorem dX17_takes_132 : decode cX17_takes 132 = .ok (.getfield 20, 3) := dk_180 0 20 (dk_at dksX17_takes_5 16 rfl rfl)
theorem dX17_takes_135 : decode cX17_takes 135 = .ok (.aload 6, 2) := dk_25 6 (dk_at dksX17_takes_5 19 rfl rfl)
theorem dX17_takes_137 : decode cX17_takes 137 = .ok (.iload 8, 2) := dk_21 8 (dk_at dksX17_takes_5 21 rfl rfl)
theorem dX17_takes_139 : decode cX17_takes 139 = .ok (.iaload, 1) := dk_46 (dk_at dksX17_takes_5 23 rfl rfl)
theorem dX17_takes_140 : decode cX17_takes 140 = .ok (.invokestatic 36, 3) := dk_184 0 36 (dk_at dksX17_takes_6 0 rfl rfl)
theorem dX17_takes_143 : decode cX17_takes 143 = .ok (.invokevirtual 27, 3) := dk_182 0 27 (dk_at dksX17_takes_6 3 rfl rfl)
theorem dX17_takes_146 : decode cX17_takes 146 = .ok (.pop, 1) := dk_87 (dk_at dksX17_takes_6 6 rfl rfl)
theorem dX17_takes_147 : decode cX17_takes 147 = .ok (.iinc 8 1, 3) := dk_132 8 1 (dk_at dksX17_takes_6 7 rfl rfl)
theorem dX17_takes_150 : decode cX17_takes 150 = .ok (.goto (-26), 3) := dk_167 255 230 (dk_at dksX17_takes_6 10 rfl rfl)
theorem dX17_takes_153 : decode cX17_takes 153 = .ok (.aload_n 0, 1) := dk_42 (dk_at dksX17_takes_6 13 rfl rfl)
theorem dX17_takes_154 : decode cX17_takes 154 = .ok (.dup, 1) := dk_89 (dk_at dksX17_takes_6 14 rfl rfl)
theorem dX17_takes_155 : decode cX17_takes 155 = .ok (.getfield 71, 3) := dk_180 0 71 (dk_at dksX17_takes_6 15 rfl rfl)
theorem dX17_takes_158 : decode cX17_takes 158 = .ok (.iload 7, 2) := dk_21 7 (dk_at dksX17_takes_6 18 rfl rfl)
theorem dX17_takes_160 : decode cX17_takes 160 = .ok (.iconst 1, 1) := dk_4 (dk_at dksX17_takes_6 20 rfl rfl)
theorem dX17_takes_161 : decode cX17_takes 161 = .ok (.isub, 1) := dk_100 (dk_at dksX17_takes_6 21 rfl rfl)
theorem dX17_takes_162 : decode cX17_takes 162 = .ok (.iadd, 1) := dk_96 (dk_at dksX17_takes_6 22 rfl rfl)
theorem dX17_takes_163 : decode cX17_takes 163 = .ok (.putfield 71, 3) := dk_181 0 71 (dk_at dksX17_takes_7 0 rfl rfl)
theorem dX17_takes_166 : decode cX17_takes 166 = .ok (.aload_n 0, 1) := dk_42 (dk_at dksX17_takes_7 3 rfl rfl)
theorem dX17_takes_167 : decode cX17_takes 167 = .ok (.dup, 1) := dk_89 (dk_at dksX17_takes_7 4 rfl rfl)
theorem dX17_takes_168 : decode cX17_takes 168 = .ok (.getfield 74, 3) := dk_180 0 74 (dk_at dksX17_takes_7 5 rfl rfl)
theorem dX17_takes_171 : decode cX17_takes 171 = .ok (.aload 5, 2) := dk_25 5 (dk_at dksX17_takes_7 8 rfl rfl)
theorem dX17_takes_173 : decode cX17_takes 173 = .ok (.getfield 77, 3) := dk_180 0 77 (dk_at dksX17_takes_7 10 rfl rfl)
theorem dX17_takes_176 : decode cX17_takes 176 = .ok (.iadd, 1) := dk_96 (dk_at dksX17_takes_7 13 rfl rfl)
theorem dX17_takes_177 : decode cX17_takes 177 = .ok (.putfield 74, 3) := dk_181 0 74 (dk_at dksX17_takes_7 14 rfl rfl)
theorem dX17_takes_180 : decode cX17_takes 180 = .ok (.aload_n 0, 1) := dk_42 (dk_at dksX17_takes_7 17 rfl rfl)
theorem dX17_takes_181 : decode cX17_takes 181 = .ok (.dup, 1) := dk_89 (dk_at dksX17_takes_7 18 rfl rfl)
theorem dX17_takes_182 : decode cX17_takes 182 = .ok (.getfield 80, 3) := dk_180 0 80 (dk_at dksX17_takes_7 19 rfl rfl)
theorem dX17_takes_185 : decode cX17_takes 185 = .ok (.aload 5, 2) := dk_25 5 (dk_at dksX17_takes_7 22 rfl rfl)
theorem dX17_takes_187 : decode cX17_takes 187 = .ok (.getfield 83, 3) := dk_180 0 83 (dk_at dksX17_takes_8 0 rfl rfl)
theorem dX17_takes_190 : decode cX17_takes 190 = .ok (.iadd, 1) := dk_96 (dk_at dksX17_takes_8 3 rfl rfl)
theorem dX17_takes_191 : decode cX17_takes 191 = .ok (.putfield 80, 3) := dk_181 0 80 (dk_at dksX17_takes_8 4 rfl rfl)
theorem dX17_takes_194 : decode cX17_takes 194 = .ok (.aload_n 0, 1) := dk_42 (dk_at dksX17_takes_8 7 rfl rfl)
theorem dX17_takes_195 : decode cX17_takes 195 = .ok (.getfield 14, 3) := dk_180 0 14 (dk_at dksX17_takes_8 8 rfl rfl)
theorem dX17_takes_198 : decode cX17_takes 198 = .ok (.aload_n 1, 1) := dk_43 (dk_at dksX17_takes_8 11 rfl rfl)
theorem dX17_takes_199 : decode cX17_takes 199 = .ok (.invokevirtual 27, 3) := dk_182 0 27 (dk_at dksX17_takes_8 12 rfl rfl)
theorem dX17_takes_202 : decode cX17_takes 202 = .ok (.pop, 1) := dk_87 (dk_at dksX17_takes_8 15 rfl rfl)
theorem dX17_takes_203 : decode cX17_takes 203 = .ok (.aload_n 0, 1) := dk_42 (dk_at dksX17_takes_8 16 rfl rfl)
theorem dX17_takes_204 : decode cX17_takes 204 = .ok (.aload_n 1, 1) := dk_43 (dk_at dksX17_takes_8 17 rfl rfl)
theorem dX17_takes_205 : decode cX17_takes 205 = .ok (.putfield 42, 3) := dk_181 0 42 (dk_at dksX17_takes_8 18 rfl rfl)
theorem dX17_takes_208 : decode cX17_takes 208 = .ok (.iconst 1, 1) := dk_4 (dk_at dksX17_takes_8 21 rfl rfl)
theorem dX17_takes_209 : decode cX17_takes 209 = .ok (.ireturn, 1) := dk_172 (dk_at dksX17_takes_8 22 rfl rfl)
theorem c_242_0 : LkP (OkP 242) [(0, o_aload 1 1), (1, o_get 91), (4, o_aload 0 1), (5, o_get 129), (8, o_get 91), (11, o_iop (fun x y => x - y)), (12, o_istore 4 2), (14, o_aload 1 1), (15, o_get 90), (18, o_aload 0 1), (19, o_get 129), (22, o_get 90), (25, o_icmp (fun x y => decide (¬ x = y)) 60), (28, o_iload 4 2), (30, o_aload 3 1), (31, o_push 1 (.int 1)), (32, o_rdI 0), (33, o_icmp (fun x y => decide (y < x)) 40), (36, o_push 1 (.int 1)), (37, o_goto 41), (40, o_push 1 (.int 0)), (41, o_istore 5 2), (43, o_iload 5 2), (45, o_if (fun x => decide (x = 0)) 57), (48, o_aload 0 1), (49, o_get 127), (52, o_aload 1 1), (53, o_cv [(3, 43)] 1 3 false none), (56, o_pop), (57, o_iload 5 2), (59, o_ret 5), (60, o_iload 4 2), (62, o_aload 3 1), (63, o_push 1 (.int 0))] := lkp_c (P := OkP 242) ⟨(PuOK.ok (ok_aload_n dX17_takes_0 rfl)), m_aload⟩ (
  lkp_c (P := OkP 242) ⟨ok_getN ⟨"TollRoad$Read", "TollRoad", q2001, Or.inl rfl⟩ dX17_takes_1, m_get⟩ (
  lkp_c (P := OkP 242) ⟨(PuOK.ok (ok_aload_n dX17_takes_4 rfl)), m_aload⟩ (
  lkp_c (P := OkP 242) ⟨ok_get ⟨"TollRoad$Trip", q2500, Or.inl rfl⟩ dX17_takes_5, m_get⟩ (
  lkp_c (P := OkP 242) ⟨ok_getN ⟨"TollRoad$Read", "TollRoad", q2001, Or.inl rfl⟩ dX17_takes_8, m_get⟩ (
  lkp_c (P := OkP 242) ⟨(PuOK.ok (ok_isub dX17_takes_11)), m_iop⟩ (
  lkp_c (P := OkP 242) ⟨(PuOK.ok (ok_istore dX17_takes_12)), m_istore⟩ (
  lkp_c (P := OkP 242) ⟨(PuOK.ok (ok_aload_n dX17_takes_14 rfl)), m_aload⟩ (
  lkp_c (P := OkP 242) ⟨ok_getN ⟨"TollRoad$Read", "TollRoad", q1998, Or.inl rfl⟩ dX17_takes_15, m_get⟩ (
  lkp_c (P := OkP 242) ⟨(PuOK.ok (ok_aload_n dX17_takes_18 rfl)), m_aload⟩ (
  lkp_c (P := OkP 242) ⟨ok_get ⟨"TollRoad$Trip", q2500, Or.inl rfl⟩ dX17_takes_19, m_get⟩ (
  lkp_c (P := OkP 242) ⟨ok_getN ⟨"TollRoad$Read", "TollRoad", q1998, Or.inl rfl⟩ dX17_takes_22, m_get⟩ (
  lkp_c (P := OkP 242) ⟨(PuOK.ok (ok_icmp_ne dX17_takes_25 rfl)), m_icmp⟩ (
  lkp_c (P := OkP 242) ⟨(PuOK.ok (ok_iload dX17_takes_28)), m_iload⟩ (
  lkp_c (P := OkP 242) ⟨(PuOK.ok (ok_aload_n dX17_takes_30 rfl)), m_aload⟩ (
  lkp_c (P := OkP 242) ⟨(PuOK.ok (ok_iconst dX17_takes_31 rfl)), m_push⟩ (
  lkp_c (P := OkP 242) ⟨ok_iald dX17_takes_32, m_rdI⟩ (
  lkp_c (P := OkP 242) ⟨(PuOK.ok (ok_icmp_gt dX17_takes_33 rfl)), m_icmp⟩ (
  lkp_c (P := OkP 242) ⟨(PuOK.ok (ok_iconst dX17_takes_36 rfl)), m_push⟩ (
  lkp_c (P := OkP 242) ⟨(PuOK.ok (ok_goto dX17_takes_37 rfl)), m_goto⟩ (
  lkp_c (P := OkP 242) ⟨(PuOK.ok (ok_iconst dX17_takes_40 rfl)), m_push⟩ (
  lkp_c (P := OkP 242) ⟨(PuOK.ok (ok_istore dX17_takes_41)), m_istore⟩ (
  lkp_c (P := OkP 242) ⟨(PuOK.ok (ok_iload dX17_takes_43)), m_iload⟩ (
  lkp_c (P := OkP 242) ⟨(PuOK.ok (ok_if_eq dX17_takes_45 rfl)), m_if⟩ (
  lkp_c (P := OkP 242) ⟨(PuOK.ok (ok_aload_n dX17_takes_48 rfl)), m_aload⟩ (
  lkp_c (P := OkP 242) ⟨ok_get ⟨"TollRoad$Trip", q2494, Or.inl rfl⟩ dX17_takes_49, m_get⟩ (
  lkp_c (P := OkP 242) ⟨(PuOK.ok (ok_aload_n dX17_takes_52 rfl)), m_aload⟩ (
  lkp_c (P := OkP 242) ⟨ok_cv (List.forall_mem_cons.mpr ⟨tg_V (ci := 3) (r := CLr 3) (y := 43) rfl ⟨rfl, by decide⟩ rfl q2478 q1531 q1532 q120 q1533 ⟨cn_15.1, cn_15.2, pd_12⟩ dX17_takes_53, (List.forall_mem_nil _)⟩) hd_no, m_cv⟩ (
  lkp_c (P := OkP 242) ⟨(PuOK.ok (ok_pop dX17_takes_56)), m_pop⟩ (
  lkp_c (P := OkP 242) ⟨(PuOK.ok (ok_iload dX17_takes_57)), m_iload⟩ (
  lkp_c (P := OkP 242) ⟨ok_iret rfl rfl (by decide) dX17_takes_59, m_ret⟩ (
  lkp_c (P := OkP 242) ⟨(PuOK.ok (ok_iload dX17_takes_60)), m_iload⟩ (
  lkp_c (P := OkP 242) ⟨(PuOK.ok (ok_aload_n dX17_takes_62 rfl)), m_aload⟩ (
  lkp_c (P := OkP 242) ⟨(PuOK.ok (ok_iconst dX17_takes_63 rfl)), m_push⟩ (
  trivial))))))))))))))))))))))))))))))))))
theorem c_242_1 : LkP (OkP 242) [(64, o_rdI 0), (65, o_icmp (fun x y => decide (x ≤ y)) 70), (68, o_push 1 (.int 0)), (69, o_ret 5), (70, o_new 15 11 dv15), (73, o_dup), (74, o_aload 2 1), (75, o_aload 3 1), (76, o_aload 0 1), (77, o_get 129), (80, o_get 90), (83, o_aload 1 1), (84, o_get 90), (87, o_iload 4 2), (89, o_ci 231 5), (92, o_astore 5 2), (94, o_aload 5 2), (96, o_cv [(15, 228)] 0 3 false none), (99, o_cv [(16, 230), (15, 230)] 0 3 false none), (102, o_if (fun x => decide (¬ x = 0)) 107), (105, o_push 1 (.int 0)), (106, o_ret 5), (107, o_aload 5 2), (109, o_get 80), (112, o_astore 6 2), (114, o_aload 5 2), (116, o_get 81), (119, o_istore 7 2), (121, o_push 1 (.int 1)), (122, o_istore 8 2), (124, o_iload 8 2), (126, o_iload 7 2)] := lkp_c (P := OkP 242) ⟨ok_iald dX17_takes_64, m_rdI⟩ (
  lkp_c (P := OkP 242) ⟨(PuOK.ok (ok_icmp_le dX17_takes_65 rfl)), m_icmp⟩ (
  lkp_c (P := OkP 242) ⟨(PuOK.ok (ok_iconst dX17_takes_68 rfl)), m_push⟩ (
  lkp_c (P := OkP 242) ⟨ok_iret rfl rfl (by decide) dX17_takes_69, m_ret⟩ (
  lkp_c (P := OkP 242) ⟨ok_new (ci := 15) (r := CLr 15) rfl dvok_15 q2479 q1855 q155 dX17_takes_70, m_new⟩ (
  lkp_c (P := OkP 242) ⟨(PuOK.ok (ok_dup dX17_takes_73)), m_dup⟩ (
  lkp_c (P := OkP 242) ⟨(PuOK.ok (ok_aload_n dX17_takes_74 rfl)), m_aload⟩ (
  lkp_c (P := OkP 242) ⟨(PuOK.ok (ok_aload_n dX17_takes_75 rfl)), m_aload⟩ (
  lkp_c (P := OkP 242) ⟨(PuOK.ok (ok_aload_n dX17_takes_76 rfl)), m_aload⟩ (
  lkp_c (P := OkP 242) ⟨ok_get ⟨"TollRoad$Trip", q2500, Or.inl rfl⟩ dX17_takes_77, m_get⟩ (
  lkp_c (P := OkP 242) ⟨ok_getN ⟨"TollRoad$Read", "TollRoad", q1998, Or.inl rfl⟩ dX17_takes_80, m_get⟩ (
  lkp_c (P := OkP 242) ⟨(PuOK.ok (ok_aload_n dX17_takes_83 rfl)), m_aload⟩ (
  lkp_c (P := OkP 242) ⟨ok_getN ⟨"TollRoad$Read", "TollRoad", q1998, Or.inl rfl⟩ dX17_takes_84, m_get⟩ (
  lkp_c (P := OkP 242) ⟨(PuOK.ok (ok_iload dX17_takes_87)), m_iload⟩ (
  lkp_c (P := OkP 242) ⟨ok_ci (tg_I (rt := none) ⟨rfl, by decide⟩ rfl q2480 q1857 q155 q1858 ⟨cn_42.1, cn_42.2, pd_82⟩ dX17_takes_89) hd_no, m_ci⟩ (
  lkp_c (P := OkP 242) ⟨(PuOK.ok (ok_astore dX17_takes_92)), m_astore⟩ (
  lkp_c (P := OkP 242) ⟨(PuOK.ok (ok_aload dX17_takes_94)), m_aload⟩ (
  lkp_c (P := OkP 242) ⟨ok_cv (List.forall_mem_cons.mpr ⟨tg_U (ci := 15) (r := CLr 15) (y := 228) rfl (owner := "TollRoad$Search") ⟨rfl, by decide⟩ q2481 q1908 q1910 q1911 q154 q1912 ⟨cn_43.1, cn_43.2, pd_83⟩ rfl dX17_takes_96, (List.forall_mem_nil _)⟩) hd_no, m_cv⟩ (
  lkp_c (P := OkP 242) ⟨ok_cv (List.forall_mem_cons.mpr ⟨tg_U (ci := 16) (r := CLr 16) (y := 230) rfl (owner := "TollRoad$Search") ⟨rfl, by decide⟩ q2482 q3709 q3710 q1929 q154 q1930 ⟨cn_43.1, cn_43.2, pd_50⟩ rfl dX17_takes_99, (List.forall_mem_cons.mpr ⟨tg_U (ci := 15) (r := CLr 15) (y := 230) rfl (owner := "TollRoad$Search") ⟨rfl, by decide⟩ q2482 q3709 q3711 q1929 q154 q1930 ⟨cn_43.1, cn_43.2, pd_50⟩ rfl dX17_takes_99, (List.forall_mem_nil _)⟩)⟩) hd_no, m_cv⟩ (
  lkp_c (P := OkP 242) ⟨(PuOK.ok (ok_if_ne dX17_takes_102 rfl)), m_if⟩ (
  lkp_c (P := OkP 242) ⟨(PuOK.ok (ok_iconst dX17_takes_105 rfl)), m_push⟩ (
  lkp_c (P := OkP 242) ⟨ok_iret rfl rfl (by decide) dX17_takes_106, m_ret⟩ (
  lkp_c (P := OkP 242) ⟨(PuOK.ok (ok_aload dX17_takes_107)), m_aload⟩ (
  lkp_c (P := OkP 242) ⟨ok_getN ⟨"TollRoad$Search", "TollRoad", q1878, Or.inl rfl⟩ dX17_takes_109, m_get⟩ (
  lkp_c (P := OkP 242) ⟨(PuOK.ok (ok_astore dX17_takes_112)), m_astore⟩ (
  lkp_c (P := OkP 242) ⟨(PuOK.ok (ok_aload dX17_takes_114)), m_aload⟩ (
  lkp_c (P := OkP 242) ⟨ok_getN ⟨"TollRoad$Search", "TollRoad", q1882, Or.inl rfl⟩ dX17_takes_116, m_get⟩ (
  lkp_c (P := OkP 242) ⟨(PuOK.ok (ok_istore dX17_takes_119)), m_istore⟩ (
  lkp_c (P := OkP 242) ⟨(PuOK.ok (ok_iconst dX17_takes_121 rfl)), m_push⟩ (
  lkp_c (P := OkP 242) ⟨(PuOK.ok (ok_istore dX17_takes_122)), m_istore⟩ (
  lkp_c (P := OkP 242) ⟨(PuOK.ok (ok_iload dX17_takes_124)), m_iload⟩ (
  lkp_c (P := OkP 242) ⟨(PuOK.ok (ok_iload dX17_takes_126)), m_iload⟩ (
  trivial))))))))))))))))))))))))))))))))
theorem c_242_2 : LkP (OkP 242) [(128, o_icmp (fun x y => decide (y < x)) 153), (131, o_aload 0 1), (132, o_get 128), (135, o_aload 6 2), (137, o_iload 8 2), (139, o_rdI 0), (140, o_cs 25 1 false none), (143, o_cv [(3, 43)] 1 3 false none), (146, o_pop), (147, o_iinc 8 1), (150, o_goto 124), (153, o_aload 0 1), (154, o_dup), (155, o_get 130), (158, o_iload 7 2), (160, o_push 1 (.int 1)), (161, o_iop (fun x y => x - y)), (162, o_iop (fun x y => x + y)), (163, o_put 130 1), (166, o_aload 0 1), (167, o_dup), (168, o_get 131), (171, o_aload 5 2), (173, o_get 87), (176, o_iop (fun x y => x + y)), (177, o_put 131 1), (180, o_aload 0 1), (181, o_dup), (182, o_get 132), (185, o_aload 5 2), (187, o_get 85), (190, o_iop (fun x y => x + y)), (191, o_put 132 1)] := lkp_c (P := OkP 242) ⟨(PuOK.ok (ok_icmp_gt dX17_takes_128 rfl)), m_icmp⟩ (
  lkp_c (P := OkP 242) ⟨(PuOK.ok (ok_aload_n dX17_takes_131 rfl)), m_aload⟩ (
  lkp_c (P := OkP 242) ⟨ok_get ⟨"TollRoad$Trip", q2497, Or.inl rfl⟩ dX17_takes_132, m_get⟩ (
  lkp_c (P := OkP 242) ⟨(PuOK.ok (ok_aload dX17_takes_135)), m_aload⟩ (
  lkp_c (P := OkP 242) ⟨(PuOK.ok (ok_iload dX17_takes_137)), m_iload⟩ (
  lkp_c (P := OkP 242) ⟨ok_iald dX17_takes_139, m_rdI⟩ (
  lkp_c (P := OkP 242) ⟨ok_cs (tg_S ⟨rfl, by decide⟩ q2483 q2253 q136 q2254 ⟨cn_6.1, cn_6.2, pd_101⟩ dX17_takes_140) hd_no, m_cs⟩ (
  lkp_c (P := OkP 242) ⟨ok_cv (List.forall_mem_cons.mpr ⟨tg_V (ci := 3) (r := CLr 3) (y := 43) rfl ⟨rfl, by decide⟩ rfl q2478 q1531 q1532 q120 q1533 ⟨cn_15.1, cn_15.2, pd_12⟩ dX17_takes_143, (List.forall_mem_nil _)⟩) hd_no, m_cv⟩ (
  lkp_c (P := OkP 242) ⟨(PuOK.ok (ok_pop dX17_takes_146)), m_pop⟩ (
  lkp_c (P := OkP 242) ⟨(PuOK.ok (ok_iinc dX17_takes_147 rfl)), m_iinc⟩ (
  lkp_c (P := OkP 242) ⟨(PuOK.ok (ok_goto dX17_takes_150 rfl)), m_goto⟩ (
  lkp_c (P := OkP 242) ⟨(PuOK.ok (ok_aload_n dX17_takes_153 rfl)), m_aload⟩ (
  lkp_c (P := OkP 242) ⟨(PuOK.ok (ok_dup dX17_takes_154)), m_dup⟩ (
  lkp_c (P := OkP 242) ⟨ok_get ⟨"TollRoad$Trip", q2501, Or.inl rfl⟩ dX17_takes_155, m_get⟩ (
  lkp_c (P := OkP 242) ⟨(PuOK.ok (ok_iload dX17_takes_158)), m_iload⟩ (
  lkp_c (P := OkP 242) ⟨(PuOK.ok (ok_iconst dX17_takes_160 rfl)), m_push⟩ (
  lkp_c (P := OkP 242) ⟨(PuOK.ok (ok_isub dX17_takes_161)), m_iop⟩ (
  lkp_c (P := OkP 242) ⟨(PuOK.ok (ok_iadd dX17_takes_162)), m_iop⟩ (
  lkp_c (P := OkP 242) ⟨ok_put ⟨"TollRoad$Trip", q2501, Or.inl rfl⟩ rfl fd_130 rfl dX17_takes_163, m_put⟩ (
  lkp_c (P := OkP 242) ⟨(PuOK.ok (ok_aload_n dX17_takes_166 rfl)), m_aload⟩ (
  lkp_c (P := OkP 242) ⟨(PuOK.ok (ok_dup dX17_takes_167)), m_dup⟩ (
  lkp_c (P := OkP 242) ⟨ok_get ⟨"TollRoad$Trip", q2504, Or.inl rfl⟩ dX17_takes_168, m_get⟩ (
  lkp_c (P := OkP 242) ⟨(PuOK.ok (ok_aload dX17_takes_171)), m_aload⟩ (
  lkp_c (P := OkP 242) ⟨ok_getN ⟨"TollRoad$Route", "TollRoad", q1872, Or.inl rfl⟩ dX17_takes_173, m_get⟩ (
  lkp_c (P := OkP 242) ⟨(PuOK.ok (ok_iadd dX17_takes_176)), m_iop⟩ (
  lkp_c (P := OkP 242) ⟨ok_put ⟨"TollRoad$Trip", q2504, Or.inl rfl⟩ rfl fd_131 rfl dX17_takes_177, m_put⟩ (
  lkp_c (P := OkP 242) ⟨(PuOK.ok (ok_aload_n dX17_takes_180 rfl)), m_aload⟩ (
  lkp_c (P := OkP 242) ⟨(PuOK.ok (ok_dup dX17_takes_181)), m_dup⟩ (
  lkp_c (P := OkP 242) ⟨ok_get ⟨"TollRoad$Trip", q2505, Or.inl rfl⟩ dX17_takes_182, m_get⟩ (
  lkp_c (P := OkP 242) ⟨(PuOK.ok (ok_aload dX17_takes_185)), m_aload⟩ (
  lkp_c (P := OkP 242) ⟨ok_getN ⟨"TollRoad$Route", "TollRoad", q1867, Or.inl rfl⟩ dX17_takes_187, m_get⟩ (
  lkp_c (P := OkP 242) ⟨(PuOK.ok (ok_iadd dX17_takes_190)), m_iop⟩ (
  lkp_c (P := OkP 242) ⟨ok_put ⟨"TollRoad$Trip", q2505, Or.inl rfl⟩ rfl fd_132 rfl dX17_takes_191, m_put⟩ (
  trivial)))))))))))))))))))))))))))))))))
theorem c_242_3 : LkP (OkP 242) [(194, o_aload 0 1), (195, o_get 127), (198, o_aload 1 1), (199, o_cv [(3, 43)] 1 3 false none), (202, o_pop), (203, o_aload 0 1), (204, o_aload 1 1), (205, o_put 129 0), (208, o_push 1 (.int 1)), (209, o_ret 5)] := lkp_c (P := OkP 242) ⟨(PuOK.ok (ok_aload_n dX17_takes_194 rfl)), m_aload⟩ (
  lkp_c (P := OkP 242) ⟨ok_get ⟨"TollRoad$Trip", q2494, Or.inl rfl⟩ dX17_takes_195, m_get⟩ (
  lkp_c (P := OkP 242) ⟨(PuOK.ok (ok_aload_n dX17_takes_198 rfl)), m_aload⟩ (
  lkp_c (P := OkP 242) ⟨ok_cv (List.forall_mem_cons.mpr ⟨tg_V (ci := 3) (r := CLr 3) (y := 43) rfl ⟨rfl, by decide⟩ rfl q2478 q1531 q1532 q120 q1533 ⟨cn_15.1, cn_15.2, pd_12⟩ dX17_takes_199, (List.forall_mem_nil _)⟩) hd_no, m_cv⟩ (
  lkp_c (P := OkP 242) ⟨(PuOK.ok (ok_pop dX17_takes_202)), m_pop⟩ (
  lkp_c (P := OkP 242) ⟨(PuOK.ok (ok_aload_n dX17_takes_203 rfl)), m_aload⟩ (
  lkp_c (P := OkP 242) ⟨(PuOK.ok (ok_aload_n dX17_takes_204 rfl)), m_aload⟩ (
  lkp_c (P := OkP 242) ⟨ok_put ⟨"TollRoad$Trip", q2500, Or.inl rfl⟩ rfl fd_129 rfl dX17_takes_205, m_put⟩ (
  lkp_c (P := OkP 242) ⟨(PuOK.ok (ok_iconst dX17_takes_208 rfl)), m_push⟩ (
  lkp_c (P := OkP 242) ⟨ok_iret rfl rfl (by decide) dX17_takes_209, m_ret⟩ (
  trivial))))))))))
theorem mt_242 : MtOK TB NT IT 242 := ⟨by decide +kernel, rfl, (fun h => by cases h), Or.inl ⟨rfl, rfl⟩, rfl, by decide, lk2_all (P := OkP 242) ⟨c_242_0, c_242_1, c_242_2, c_242_3, trivial⟩⟩
def dkwX17_init_2 : List UInt8 := [43, 180, 0, 31, 184, 0, 36, 182, 0, 27, 87, 42, 43, 181, 0, 42, 177]
abbrev dktX17_init_2 : List UInt8 := dkwX17_init_2 ++ []
def dkwX17_init_1 : List UInt8 := [183, 0, 11, 181, 0, 20, 42, 28, 181, 0, 23, 42, 180, 0, 14, 43, 182, 0, 27, 87, 42, 180, 0, 20]
abbrev dktX17_init_1 : List UInt8 := dkwX17_init_1 ++ dktX17_init_2
def dkwX17_init_0 : List UInt8 := [42, 183, 0, 3, 42, 187, 0, 9, 89, 7, 183, 0, 11, 181, 0, 14, 42, 187, 0, 9, 89, 7]
abbrev dktX17_init_0 : List UInt8 := dkwX17_init_0 ++ dktX17_init_1
theorem dksX17_init_0 : cX17_init.data.toList.drop 0 = dktX17_init_0 := by decide +kernel
theorem dksX17_init_1 : cX17_init.data.toList.drop 22 = dktX17_init_1 := dk_seg dksX17_init_0 22 rfl rfl
theorem dksX17_init_2 : cX17_init.data.toList.drop 46 = dktX17_init_2 := dk_seg dksX17_init_1 24 rfl rfl
theorem dX17_init_0 : decode cX17_init 0 = .ok (.aload_n 0, 1) := dk_42 (dk_at dksX17_init_0 0 rfl rfl)
theorem dX17_init_1 : decode cX17_init 1 = .ok (.invokespecial 3, 3) := dk_183 0 3 (dk_at dksX17_init_0 1 rfl rfl)
theorem dX17_init_4 : decode cX17_init 4 = .ok (.aload_n 0, 1) := dk_42 (dk_at dksX17_init_0 4 rfl rfl)
theorem dX17_init_5 : decode cX17_init 5 = .ok (.new 9, 3) := dk_187 0 9 (dk_at dksX17_init_0 5 rfl rfl)
theorem dX17_init_8 : decode cX17_init 8 = .ok (.dup, 1) := dk_89 (dk_at dksX17_init_0 8 rfl rfl)
theorem dX17_init_9 : decode cX17_init 9 = .ok (.iconst 4, 1) := dk_7 (dk_at dksX17_init_0 9 rfl rfl)
theorem dX17_init_10 : decode cX17_init 10 = .ok (.invokespecial 11, 3) := dk_183 0 11 (dk_at dksX17_init_0 10 rfl rfl)
theorem dX17_init_13 : decode cX17_init 13 = .ok (.putfield 14, 3) := dk_181 0 14 (dk_at dksX17_init_0 13 rfl rfl)
theorem dX17_init_16 : decode cX17_init 16 = .ok (.aload_n 0, 1) := dk_42 (dk_at dksX17_init_0 16 rfl rfl)
theorem dX17_init_17 : decode cX17_init 17 = .ok (.new 9, 3) := dk_187 0 9 (dk_at dksX17_init_0 17 rfl rfl)
theorem dX17_init_20 : decode cX17_init 20 = .ok (.dup, 1) := dk_89 (dk_at dksX17_init_0 20 rfl rfl)
theorem dX17_init_21 : decode cX17_init 21 = .ok (.iconst 4, 1) := dk_7 (dk_at dksX17_init_0 21 rfl rfl)
theorem dX17_init_22 : decode cX17_init 22 = .ok (.invokespecial 11, 3) := dk_183 0 11 (dk_at dksX17_init_1 0 rfl rfl)
theorem dX17_init_25 : decode cX17_init 25 = .ok (.putfield 20, 3) := dk_181 0 20 (dk_at dksX17_init_1 3 rfl rfl)
theorem dX17_init_28 : decode cX17_init 28 = .ok (.aload_n 0, 1) := dk_42 (dk_at dksX17_init_1 6 rfl rfl)
theorem dX17_init_29 : decode cX17_init 29 = .ok (.iload_n 2, 1) := dk_28 (dk_at dksX17_init_1 7 rfl rfl)
theorem dX17_init_30 : decode cX17_init 30 = .ok (.putfield 23, 3) := dk_181 0 23 (dk_at dksX17_init_1 8 rfl rfl)
theorem dX17_init_33 : decode cX17_init 33 = .ok (.aload_n 0, 1) := dk_42 (dk_at dksX17_init_1 11 rfl rfl)
theorem dX17_init_34 : decode cX17_init 34 = .ok (.getfield 14, 3) := dk_180 0 14 (dk_at dksX17_init_1 12 rfl rfl)
theorem dX17_init_37 : decode cX17_init 37 = .ok (.aload_n 1, 1) := dk_43 (dk_at dksX17_init_1 15 rfl rfl)
theorem dX17_init_38 : decode cX17_init 38 = .ok (.invokevirtual 27, 3) := dk_182 0 27 (dk_at dksX17_init_1 16 rfl rfl)
theorem dX17_init_41 : decode cX17_init 41 = .ok (.pop, 1) := dk_87 (dk_at dksX17_init_1 19 rfl rfl)
theorem dX17_init_42 : decode cX17_init 42 = .ok (.aload_n 0, 1) := dk_42 (dk_at dksX17_init_1 20 rfl rfl)
theorem dX17_init_43 : decode cX17_init 43 = .ok (.getfield 20, 3) := dk_180 0 20 (dk_at dksX17_init_1 21 rfl rfl)
theorem dX17_init_46 : decode cX17_init 46 = .ok (.aload_n 1, 1) := dk_43 (dk_at dksX17_init_2 0 rfl rfl)
theorem dX17_init_47 : decode cX17_init 47 = .ok (.getfield 31, 3) := dk_180 0 31 (dk_at dksX17_init_2 1 rfl rfl)
theorem dX17_init_50 : decode cX17_init 50 = .ok (.invokestatic 36, 3) := dk_184 0 36 (dk_at dksX17_init_2 4 rfl rfl)
theorem dX17_init_53 : decode cX17_init 53 = .ok (.invokevirtual 27, 3) := dk_182 0 27 (dk_at dksX17_init_2 7 rfl rfl)
theorem dX17_init_56 : decode cX17_init 56 = .ok (.pop, 1) := dk_87 (dk_at dksX17_init_2 10 rfl rfl)
theorem dX17_init_57 : decode cX17_init 57 = .ok (.aload_n 0, 1) := dk_42 (dk_at dksX17_init_2 11 rfl rfl)
theorem dX17_init_58 : decode cX17_init 58 = .ok (.aload_n 1, 1) := dk_43 (dk_at dksX17_init_2 12 rfl rfl)
theorem dX17_init_59 : decode cX17_init 59 = .ok (.putfield 42, 3) := dk_181 0 42 (dk_at dksX17_init_2 13 rfl rfl)
theorem dX17_init_62 : decode cX17_init 62 = .ok (.return_, 1) := dk_177 (dk_at dksX17_init_2 16 rfl rfl)
theorem c_243_0 : LkP (OkP 243) [(0, o_aload 0 1), (1, o_oi), (4, o_aload 0 1), (5, o_new 3 3 dv3), (8, o_dup), (9, o_push 1 (.int 4)), (10, o_ci 39 1), (13, o_put 127 0), (16, o_aload 0 1), (17, o_new 3 3 dv3), (20, o_dup), (21, o_push 1 (.int 4)), (22, o_ci 39 1), (25, o_put 128 0), (28, o_aload 0 1), (29, o_iload 2 1), (30, o_put 126 1), (33, o_aload 0 1), (34, o_get 127), (37, o_aload 1 1), (38, o_cv [(3, 43)] 1 3 false none), (41, o_pop), (42, o_aload 0 1), (43, o_get 128), (46, o_aload 1 1), (47, o_get 90), (50, o_cs 25 1 false none), (53, o_cv [(3, 43)] 1 3 false none), (56, o_pop), (57, o_aload 0 1), (58, o_aload 1 1), (59, o_put 129 0), (62, o_vret)] := lkp_c (P := OkP 243) ⟨(PuOK.ok (ok_aload_n dX17_init_0 rfl)), m_aload⟩ (
  lkp_c (P := OkP 243) ⟨ok_oi q2489 q188 q_oi dX17_init_1, m_oi⟩ (
  lkp_c (P := OkP 243) ⟨(PuOK.ok (ok_aload_n dX17_init_4 rfl)), m_aload⟩ (
  lkp_c (P := OkP 243) ⟨ok_new (ci := 3) (r := CLr 3) rfl dvok_3 q2490 q228 q120 dX17_init_5, m_new⟩ (
  lkp_c (P := OkP 243) ⟨(PuOK.ok (ok_dup dX17_init_8)), m_dup⟩ (
  lkp_c (P := OkP 243) ⟨(PuOK.ok (ok_iconst dX17_init_9 rfl)), m_push⟩ (
  lkp_c (P := OkP 243) ⟨ok_ci (tg_I (rt := none) ⟨rfl, by decide⟩ rfl q2491 q230 q120 q231 ⟨cn_15.1, cn_15.2, pd_9⟩ dX17_init_10) hd_no, m_ci⟩ (
  lkp_c (P := OkP 243) ⟨ok_putF q2494 rfl rfl rfl fd_127 rfl dX17_init_13, m_put⟩ (
  lkp_c (P := OkP 243) ⟨(PuOK.ok (ok_aload_n dX17_init_16 rfl)), m_aload⟩ (
  lkp_c (P := OkP 243) ⟨ok_new (ci := 3) (r := CLr 3) rfl dvok_3 q2490 q228 q120 dX17_init_17, m_new⟩ (
  lkp_c (P := OkP 243) ⟨(PuOK.ok (ok_dup dX17_init_20)), m_dup⟩ (
  lkp_c (P := OkP 243) ⟨(PuOK.ok (ok_iconst dX17_init_21 rfl)), m_push⟩ (
  lkp_c (P := OkP 243) ⟨ok_ci (tg_I (rt := none) ⟨rfl, by decide⟩ rfl q2491 q230 q120 q231 ⟨cn_15.1, cn_15.2, pd_9⟩ dX17_init_22) hd_no, m_ci⟩ (
  lkp_c (P := OkP 243) ⟨ok_putF q2497 rfl rfl rfl fd_128 rfl dX17_init_25, m_put⟩ (
  lkp_c (P := OkP 243) ⟨(PuOK.ok (ok_aload_n dX17_init_28 rfl)), m_aload⟩ (
  lkp_c (P := OkP 243) ⟨(PuOK.ok (ok_iload_n dX17_init_29 rfl)), m_iload⟩ (
  lkp_c (P := OkP 243) ⟨ok_putF q2492 rfl rfl rfl fd_126 rfl dX17_init_30, m_put⟩ (
  lkp_c (P := OkP 243) ⟨(PuOK.ok (ok_aload_n dX17_init_33 rfl)), m_aload⟩ (
  lkp_c (P := OkP 243) ⟨ok_get ⟨"TollRoad$Trip", q2494, Or.inl rfl⟩ dX17_init_34, m_get⟩ (
  lkp_c (P := OkP 243) ⟨(PuOK.ok (ok_aload_n dX17_init_37 rfl)), m_aload⟩ (
  lkp_c (P := OkP 243) ⟨ok_cv (List.forall_mem_cons.mpr ⟨tg_V (ci := 3) (r := CLr 3) (y := 43) rfl ⟨rfl, by decide⟩ rfl q2478 q1531 q1532 q120 q1533 ⟨cn_15.1, cn_15.2, pd_12⟩ dX17_init_38, (List.forall_mem_nil _)⟩) hd_no, m_cv⟩ (
  lkp_c (P := OkP 243) ⟨(PuOK.ok (ok_pop dX17_init_41)), m_pop⟩ (
  lkp_c (P := OkP 243) ⟨(PuOK.ok (ok_aload_n dX17_init_42 rfl)), m_aload⟩ (
  lkp_c (P := OkP 243) ⟨ok_get ⟨"TollRoad$Trip", q2497, Or.inl rfl⟩ dX17_init_43, m_get⟩ (
  lkp_c (P := OkP 243) ⟨(PuOK.ok (ok_aload_n dX17_init_46 rfl)), m_aload⟩ (
  lkp_c (P := OkP 243) ⟨ok_getN ⟨"TollRoad$Read", "TollRoad", q1998, Or.inl rfl⟩ dX17_init_47, m_get⟩ (
  lkp_c (P := OkP 243) ⟨ok_cs (tg_S ⟨rfl, by decide⟩ q2483 q2253 q136 q2254 ⟨cn_6.1, cn_6.2, pd_101⟩ dX17_init_50) hd_no, m_cs⟩ (
  lkp_c (P := OkP 243) ⟨ok_cv (List.forall_mem_cons.mpr ⟨tg_V (ci := 3) (r := CLr 3) (y := 43) rfl ⟨rfl, by decide⟩ rfl q2478 q1531 q1532 q120 q1533 ⟨cn_15.1, cn_15.2, pd_12⟩ dX17_init_53, (List.forall_mem_nil _)⟩) hd_no, m_cv⟩ (
  lkp_c (P := OkP 243) ⟨(PuOK.ok (ok_pop dX17_init_56)), m_pop⟩ (
  lkp_c (P := OkP 243) ⟨(PuOK.ok (ok_aload_n dX17_init_57 rfl)), m_aload⟩ (
  lkp_c (P := OkP 243) ⟨(PuOK.ok (ok_aload_n dX17_init_58 rfl)), m_aload⟩ (
  lkp_c (P := OkP 243) ⟨ok_put ⟨"TollRoad$Trip", q2500, Or.inl rfl⟩ rfl fd_129 rfl dX17_init_59, m_put⟩ (
  lkp_c (P := OkP 243) ⟨ok_vret rfl dX17_init_62, m_vret⟩ (
  trivial)))))))))))))))))))))))))))))))))
theorem mt_243 : MtOK TB NT IT 243 := ⟨by decide +kernel, rfl, fun _ => rfl, Or.inl ⟨rfl, rfl⟩, rfl, by decide, lk2_all (P := OkP 243) ⟨c_243_0, trivial⟩⟩
def dkwX17_from_0 : List UInt8 := [42, 180, 0, 14, 3, 182, 0, 84, 192, 0, 32, 180, 0, 46, 172]
abbrev dktX17_from_0 : List UInt8 := dkwX17_from_0 ++ []
theorem dksX17_from_0 : cX17_from.data.toList.drop 0 = dktX17_from_0 := by decide +kernel
theorem dX17_from_0 : decode cX17_from 0 = .ok (.aload_n 0, 1) := dk_42 (dk_at dksX17_from_0 0 rfl rfl)
theorem dX17_from_1 : decode cX17_from 1 = .ok (.getfield 14, 3) := dk_180 0 14 (dk_at dksX17_from_0 1 rfl rfl)
theorem dX17_from_4 : decode cX17_from 4 = .ok (.iconst 0, 1) := dk_3 (dk_at dksX17_from_0 4 rfl rfl)
theorem dX17_from_5 : decode cX17_from 5 = .ok (.invokevirtual 84, 3) := dk_182 0 84 (dk_at dksX17_from_0 5 rfl rfl)
theorem dX17_from_8 : decode cX17_from 8 = .ok (.checkcast 32, 3) := dk_192 0 32 (dk_at dksX17_from_0 8 rfl rfl)
theorem dX17_from_11 : decode cX17_from 11 = .ok (.getfield 46, 3) := dk_180 0 46 (dk_at dksX17_from_0 11 rfl rfl)
theorem dX17_from_14 : decode cX17_from 14 = .ok (.ireturn, 1) := dk_172 (dk_at dksX17_from_0 14 rfl rfl)
theorem c_244_0 : LkP (OkP 244) [(0, o_aload 0 1), (1, o_get 127), (4, o_push 1 (.int 0)), (5, o_cv [(3, 47)] 1 3 false none), (8, o_cast [17]), (11, o_get 91), (14, o_ret 1)] := lkp_c (P := OkP 244) ⟨(PuOK.ok (ok_aload_n dX17_from_0 rfl)), m_aload⟩ (
  lkp_c (P := OkP 244) ⟨ok_get ⟨"TollRoad$Trip", q2494, Or.inl rfl⟩ dX17_from_1, m_get⟩ (
  lkp_c (P := OkP 244) ⟨(PuOK.ok (ok_iconst dX17_from_4 rfl)), m_push⟩ (
  lkp_c (P := OkP 244) ⟨ok_cv (List.forall_mem_cons.mpr ⟨tg_V (ci := 3) (r := CLr 3) (y := 47) rfl ⟨rfl, by decide⟩ rfl q2538 q1807 q1808 q120 q1809 ⟨cn_15.1, cn_15.2, pd_27⟩ dX17_from_5, (List.forall_mem_nil _)⟩) hd_no, m_cv⟩ (
  lkp_c (P := OkP 244) ⟨ok_cast q2539 cst_6 dX17_from_8, m_cast⟩ (
  lkp_c (P := OkP 244) ⟨ok_getN ⟨"TollRoad$Read", "TollRoad", q2001, Or.inl rfl⟩ dX17_from_11, m_get⟩ (
  lkp_c (P := OkP 244) ⟨ok_iret rfl rfl (by decide) dX17_from_14, m_ret⟩ (
  trivial)))))))
theorem mt_244 : MtOK TB NT IT 244 := ⟨by decide +kernel, rfl, (fun h => by cases h), Or.inl ⟨rfl, rfl⟩, rfl, by decide, lk2_all (P := OkP 244) ⟨c_244_0, trivial⟩⟩
def dkwX17_to_0 : List UInt8 := [42, 180, 0, 14, 42, 180, 0, 14, 182, 0, 88, 4, 100, 182, 0, 84, 192, 0, 32, 180, 0, 46, 172]
abbrev dktX17_to_0 : List UInt8 := dkwX17_to_0 ++ []
theorem dksX17_to_0 : cX17_to.data.toList.drop 0 = dktX17_to_0 := by decide +kernel
theorem dX17_to_0 : decode cX17_to 0 = .ok (.aload_n 0, 1) := dk_42 (dk_at dksX17_to_0 0 rfl rfl)
theorem dX17_to_1 : decode cX17_to 1 = .ok (.getfield 14, 3) := dk_180 0 14 (dk_at dksX17_to_0 1 rfl rfl)
theorem dX17_to_4 : decode cX17_to 4 = .ok (.aload_n 0, 1) := dk_42 (dk_at dksX17_to_0 4 rfl rfl)
theorem dX17_to_5 : decode cX17_to 5 = .ok (.getfield 14, 3) := dk_180 0 14 (dk_at dksX17_to_0 5 rfl rfl)
theorem dX17_to_8 : decode cX17_to 8 = .ok (.invokevirtual 88, 3) := dk_182 0 88 (dk_at dksX17_to_0 8 rfl rfl)
theorem dX17_to_11 : decode cX17_to 11 = .ok (.iconst 1, 1) := dk_4 (dk_at dksX17_to_0 11 rfl rfl)
theorem dX17_to_12 : decode cX17_to 12 = .ok (.isub, 1) := dk_100 (dk_at dksX17_to_0 12 rfl rfl)
theorem dX17_to_13 : decode cX17_to 13 = .ok (.invokevirtual 84, 3) := dk_182 0 84 (dk_at dksX17_to_0 13 rfl rfl)
theorem dX17_to_16 : decode cX17_to 16 = .ok (.checkcast 32, 3) := dk_192 0 32 (dk_at dksX17_to_0 16 rfl rfl)
theorem dX17_to_19 : decode cX17_to 19 = .ok (.getfield 46, 3) := dk_180 0 46 (dk_at dksX17_to_0 19 rfl rfl)
theorem dX17_to_22 : decode cX17_to 22 = .ok (.ireturn, 1) := dk_172 (dk_at dksX17_to_0 22 rfl rfl)
theorem c_245_0 : LkP (OkP 245) [(0, o_aload 0 1), (1, o_get 127), (4, o_aload 0 1), (5, o_get 127), (8, o_cv [(3, 42)] 0 3 false none), (11, o_push 1 (.int 1)), (12, o_iop (fun x y => x - y)), (13, o_cv [(3, 47)] 1 3 false none), (16, o_cast [17]), (19, o_get 91), (22, o_ret 1)] := lkp_c (P := OkP 245) ⟨(PuOK.ok (ok_aload_n dX17_to_0 rfl)), m_aload⟩ (
  lkp_c (P := OkP 245) ⟨ok_get ⟨"TollRoad$Trip", q2494, Or.inl rfl⟩ dX17_to_1, m_get⟩ (
  lkp_c (P := OkP 245) ⟨(PuOK.ok (ok_aload_n dX17_to_4 rfl)), m_aload⟩ (
  lkp_c (P := OkP 245) ⟨ok_get ⟨"TollRoad$Trip", q2494, Or.inl rfl⟩ dX17_to_5, m_get⟩ (
  lkp_c (P := OkP 245) ⟨ok_cv (List.forall_mem_cons.mpr ⟨tg_V (ci := 3) (r := CLr 3) (y := 42) rfl ⟨rfl, by decide⟩ rfl q2544 q1257 q1258 q120 q1259 ⟨cn_15.1, cn_15.2, pd_13⟩ dX17_to_8, (List.forall_mem_nil _)⟩) hd_no, m_cv⟩ (
  lkp_c (P := OkP 245) ⟨(PuOK.ok (ok_iconst dX17_to_11 rfl)), m_push⟩ (
  lkp_c (P := OkP 245) ⟨(PuOK.ok (ok_isub dX17_to_12)), m_iop⟩ (
  lkp_c (P := OkP 245) ⟨ok_cv (List.forall_mem_cons.mpr ⟨tg_V (ci := 3) (r := CLr 3) (y := 47) rfl ⟨rfl, by decide⟩ rfl q2538 q1807 q1808 q120 q1809 ⟨cn_15.1, cn_15.2, pd_27⟩ dX17_to_13, (List.forall_mem_nil _)⟩) hd_no, m_cv⟩ (
  lkp_c (P := OkP 245) ⟨ok_cast q2539 cst_6 dX17_to_16, m_cast⟩ (
  lkp_c (P := OkP 245) ⟨ok_getN ⟨"TollRoad$Read", "TollRoad", q2001, Or.inl rfl⟩ dX17_to_19, m_get⟩ (
  lkp_c (P := OkP 245) ⟨ok_iret rfl rfl (by decide) dX17_to_22, m_ret⟩ (
  trivial)))))))))))
theorem mt_245 : MtOK TB NT IT 245 := ⟨by decide +kernel, rfl, (fun h => by cases h), Or.inl ⟨rfl, rfl⟩, rfl, by decide, lk2_all (P := OkP 245) ⟨c_245_0, trivial⟩⟩
def dkwX17_toll_0 : List UInt8 := [42, 180, 0, 74, 42, 180, 0, 23, 104, 172]
abbrev dktX17_toll_0 : List UInt8 := dkwX17_toll_0 ++ []
theorem dksX17_toll_0 : cX17_toll.data.toList.drop 0 = dktX17_toll_0 := by decide +kernel
theorem dX17_toll_0 : decode cX17_toll 0 = .ok (.aload_n 0, 1) := dk_42 (dk_at dksX17_toll_0 0 rfl rfl)
theorem dX17_toll_1 : decode cX17_toll 1 = .ok (.getfield 74, 3) := dk_180 0 74 (dk_at dksX17_toll_0 1 rfl rfl)
theorem dX17_toll_4 : decode cX17_toll 4 = .ok (.aload_n 0, 1) := dk_42 (dk_at dksX17_toll_0 4 rfl rfl)
theorem dX17_toll_5 : decode cX17_toll 5 = .ok (.getfield 23, 3) := dk_180 0 23 (dk_at dksX17_toll_0 5 rfl rfl)
theorem dX17_toll_8 : decode cX17_toll 8 = .ok (.imul, 1) := dk_104 (dk_at dksX17_toll_0 8 rfl rfl)
theorem dX17_toll_9 : decode cX17_toll 9 = .ok (.ireturn, 1) := dk_172 (dk_at dksX17_toll_0 9 rfl rfl)
theorem c_246_0 : LkP (OkP 246) [(0, o_aload 0 1), (1, o_get 131), (4, o_aload 0 1), (5, o_get 126), (8, o_iop (fun x y => x * y)), (9, o_ret 1)] := lkp_c (P := OkP 246) ⟨(PuOK.ok (ok_aload_n dX17_toll_0 rfl)), m_aload⟩ (
  lkp_c (P := OkP 246) ⟨ok_get ⟨"TollRoad$Trip", q2504, Or.inl rfl⟩ dX17_toll_1, m_get⟩ (
  lkp_c (P := OkP 246) ⟨(PuOK.ok (ok_aload_n dX17_toll_4 rfl)), m_aload⟩ (
  lkp_c (P := OkP 246) ⟨ok_get ⟨"TollRoad$Trip", q2492, Or.inl rfl⟩ dX17_toll_5, m_get⟩ (
  lkp_c (P := OkP 246) ⟨(PuOK.ok (ok_imul dX17_toll_8)), m_iop⟩ (
  lkp_c (P := OkP 246) ⟨ok_iret rfl rfl (by decide) dX17_toll_9, m_ret⟩ (
  trivial))))))
theorem mt_246 : MtOK TB NT IT 246 := ⟨by decide +kernel, rfl, (fun h => by cases h), Or.inl ⟨rfl, rfl⟩, rfl, by decide, lk2_all (P := OkP 246) ⟨c_246_0, trivial⟩⟩
def dkwX17_imageCount_1 : List UInt8 := [192, 0, 32, 180, 0, 91, 153, 0, 7, 4, 167, 0, 4, 3, 96, 60, 132, 2, 1, 167, 255, 217, 27, 172]
abbrev dktX17_imageCount_1 : List UInt8 := dkwX17_imageCount_1 ++ []
def dkwX17_imageCount_0 : List UInt8 := [3, 60, 3, 61, 28, 42, 180, 0, 14, 182, 0, 88, 162, 0, 34, 27, 42, 180, 0, 14, 28, 182, 0, 84]
abbrev dktX17_imageCount_0 : List UInt8 := dkwX17_imageCount_0 ++ dktX17_imageCount_1
theorem dksX17_imageCount_0 : cX17_imageCount.data.toList.drop 0 = dktX17_imageCount_0 := by decide +kernel
theorem dksX17_imageCount_1 : cX17_imageCount.data.toList.drop 24 = dktX17_imageCount_1 := dk_seg dksX17_imageCount_0 24 rfl rfl
theorem dX17_imageCount_0 : decode cX17_imageCount 0 = .ok (.iconst 0, 1) := dk_3 (dk_at dksX17_imageCount_0 0 rfl rfl)
theorem dX17_imageCount_1 : decode cX17_imageCount 1 = .ok (.istore_n 1, 1) := dk_60 (dk_at dksX17_imageCount_0 1 rfl rfl)
theorem dX17_imageCount_2 : decode cX17_imageCount 2 = .ok (.iconst 0, 1) := dk_3 (dk_at dksX17_imageCount_0 2 rfl rfl)
theorem dX17_imageCount_3 : decode cX17_imageCount 3 = .ok (.istore_n 2, 1) := dk_61 (dk_at dksX17_imageCount_0 3 rfl rfl)
theorem dX17_imageCount_4 : decode cX17_imageCount 4 = .ok (.iload_n 2, 1) := dk_28 (dk_at dksX17_imageCount_0 4 rfl rfl)
theorem dX17_imageCount_5 : decode cX17_imageCount 5 = .ok (.aload_n 0, 1) := dk_42 (dk_at dksX17_imageCount_0 5 rfl rfl)
theorem dX17_imageCount_6 : decode cX17_imageCount 6 = .ok (.getfield 14, 3) := dk_180 0 14 (dk_at dksX17_imageCount_0 6 rfl rfl)
theorem dX17_imageCount_9 : decode cX17_imageCount 9 = .ok (.invokevirtual 88, 3) := dk_182 0 88 (dk_at dksX17_imageCount_0 9 rfl rfl)
theorem dX17_imageCount_12 : decode cX17_imageCount 12 = .ok (.if_icmp .ge 34, 3) := dk_162 0 34 (dk_at dksX17_imageCount_0 12 rfl rfl)
theorem dX17_imageCount_15 : decode cX17_imageCount 15 = .ok (.iload_n 1, 1) := dk_27 (dk_at dksX17_imageCount_0 15 rfl rfl)
theorem dX17_imageCount_16 : decode cX17_imageCount 16 = .ok (.aload_n 0, 1) := dk_42 (dk_at dksX17_imageCount_0 16 rfl rfl)
theorem dX17_imageCount_17 : decode cX17_imageCount 17 = .ok (.getfield 14, 3) := dk_180 0 14 (dk_at dksX17_imageCount_0 17 rfl rfl)
theorem dX17_imageCount_20 : decode cX17_imageCount 20 = .ok (.iload_n 2, 1) := dk_28 (dk_at dksX17_imageCount_0 20 rfl rfl)
theorem dX17_imageCount_21 : decode cX17_imageCount 21 = .ok (.invokevirtual 84, 3) := dk_182 0 84 (dk_at dksX17_imageCount_0 21 rfl rfl)
theorem dX17_imageCount_24 : decode cX17_imageCount 24 = .ok (.checkcast 32, 3) := dk_192 0 32 (dk_at dksX17_imageCount_1 0 rfl rfl)
theorem dX17_imageCount_27 : decode cX17_imageCount 27 = .ok (.getfield 91, 3) := dk_180 0 91 (dk_at dksX17_imageCount_1 3 rfl rfl)
theorem dX17_imageCount_30 : decode cX17_imageCount 30 = .ok (.ifCond .eq 7, 3) := dk_153 0 7 (dk_at dksX17_imageCount_1 6 rfl rfl)
theorem dX17_imageCount_33 : decode cX17_imageCount 33 = .ok (.iconst 1, 1) := dk_4 (dk_at dksX17_imageCount_1 9 rfl rfl)
theorem dX17_imageCount_34 : decode cX17_imageCount 34 = .ok (.goto 4, 3) := dk_167 0 4 (dk_at dksX17_imageCount_1 10 rfl rfl)
theorem dX17_imageCount_37 : decode cX17_imageCount 37 = .ok (.iconst 0, 1) := dk_3 (dk_at dksX17_imageCount_1 13 rfl rfl)
theorem dX17_imageCount_38 : decode cX17_imageCount 38 = .ok (.iadd, 1) := dk_96 (dk_at dksX17_imageCount_1 14 rfl rfl)
theorem dX17_imageCount_39 : decode cX17_imageCount 39 = .ok (.istore_n 1, 1) := dk_60 (dk_at dksX17_imageCount_1 15 rfl rfl)
theorem dX17_imageCount_40 : decode cX17_imageCount 40 = .ok (.iinc 2 1, 3) := dk_132 2 1 (dk_at dksX17_imageCount_1 16 rfl rfl)
theorem dX17_imageCount_43 : decode cX17_imageCount 43 = .ok (.goto (-39), 3) := dk_167 255 217 (dk_at dksX17_imageCount_1 19 rfl rfl)
theorem dX17_imageCount_46 : decode cX17_imageCount 46 = .ok (.iload_n 1, 1) := dk_27 (dk_at dksX17_imageCount_1 22 rfl rfl)
theorem dX17_imageCount_47 : decode cX17_imageCount 47 = .ok (.ireturn, 1) := dk_172 (dk_at dksX17_imageCount_1 23 rfl rfl)
theorem c_247_0 : LkP (OkP 247) [(0, o_push 1 (.int 0)), (1, o_istore 1 1), (2, o_push 1 (.int 0)), (3, o_istore 2 1), (4, o_iload 2 1), (5, o_aload 0 1), (6, o_get 127), (9, o_cv [(3, 42)] 0 3 false none), (12, o_icmp (fun x y => decide (y ≤ x)) 46), (15, o_iload 1 1), (16, o_aload 0 1), (17, o_get 127), (20, o_iload 2 1), (21, o_cv [(3, 47)] 1 3 false none), (24, o_cast [17]), (27, o_get 92), (30, o_if (fun x => decide (x = 0)) 37), (33, o_push 1 (.int 1)), (34, o_goto 38), (37, o_push 1 (.int 0)), (38, o_iop (fun x y => x + y)), (39, o_istore 1 1), (40, o_iinc 2 1), (43, o_goto 4), (46, o_iload 1 1), (47, o_ret 1)] := lkp_c (P := OkP 247) ⟨(PuOK.ok (ok_iconst dX17_imageCount_0 rfl)), m_push⟩ (
  lkp_c (P := OkP 247) ⟨(PuOK.ok (ok_istore_n dX17_imageCount_1 rfl)), m_istore⟩ (
  lkp_c (P := OkP 247) ⟨(PuOK.ok (ok_iconst dX17_imageCount_2 rfl)), m_push⟩ (
  lkp_c (P := OkP 247) ⟨(PuOK.ok (ok_istore_n dX17_imageCount_3 rfl)), m_istore⟩ (
  lkp_c (P := OkP 247) ⟨(PuOK.ok (ok_iload_n dX17_imageCount_4 rfl)), m_iload⟩ (
  lkp_c (P := OkP 247) ⟨(PuOK.ok (ok_aload_n dX17_imageCount_5 rfl)), m_aload⟩ (
  lkp_c (P := OkP 247) ⟨ok_get ⟨"TollRoad$Trip", q2494, Or.inl rfl⟩ dX17_imageCount_6, m_get⟩ (
  lkp_c (P := OkP 247) ⟨ok_cv (List.forall_mem_cons.mpr ⟨tg_V (ci := 3) (r := CLr 3) (y := 42) rfl ⟨rfl, by decide⟩ rfl q2544 q1257 q1258 q120 q1259 ⟨cn_15.1, cn_15.2, pd_13⟩ dX17_imageCount_9, (List.forall_mem_nil _)⟩) hd_no, m_cv⟩ (
  lkp_c (P := OkP 247) ⟨(PuOK.ok (ok_icmp_ge dX17_imageCount_12 rfl)), m_icmp⟩ (
  lkp_c (P := OkP 247) ⟨(PuOK.ok (ok_iload_n dX17_imageCount_15 rfl)), m_iload⟩ (
  lkp_c (P := OkP 247) ⟨(PuOK.ok (ok_aload_n dX17_imageCount_16 rfl)), m_aload⟩ (
  lkp_c (P := OkP 247) ⟨ok_get ⟨"TollRoad$Trip", q2494, Or.inl rfl⟩ dX17_imageCount_17, m_get⟩ (
  lkp_c (P := OkP 247) ⟨(PuOK.ok (ok_iload_n dX17_imageCount_20 rfl)), m_iload⟩ (
  lkp_c (P := OkP 247) ⟨ok_cv (List.forall_mem_cons.mpr ⟨tg_V (ci := 3) (r := CLr 3) (y := 47) rfl ⟨rfl, by decide⟩ rfl q2538 q1807 q1808 q120 q1809 ⟨cn_15.1, cn_15.2, pd_27⟩ dX17_imageCount_21, (List.forall_mem_nil _)⟩) hd_no, m_cv⟩ (
  lkp_c (P := OkP 247) ⟨ok_cast q2539 cst_6 dX17_imageCount_24, m_cast⟩ (
  lkp_c (P := OkP 247) ⟨ok_getN ⟨"TollRoad$Read", "TollRoad", q2005, Or.inl rfl⟩ dX17_imageCount_27, m_get⟩ (
  lkp_c (P := OkP 247) ⟨(PuOK.ok (ok_if_eq dX17_imageCount_30 rfl)), m_if⟩ (
  lkp_c (P := OkP 247) ⟨(PuOK.ok (ok_iconst dX17_imageCount_33 rfl)), m_push⟩ (
  lkp_c (P := OkP 247) ⟨(PuOK.ok (ok_goto dX17_imageCount_34 rfl)), m_goto⟩ (
  lkp_c (P := OkP 247) ⟨(PuOK.ok (ok_iconst dX17_imageCount_37 rfl)), m_push⟩ (
  lkp_c (P := OkP 247) ⟨(PuOK.ok (ok_iadd dX17_imageCount_38)), m_iop⟩ (
  lkp_c (P := OkP 247) ⟨(PuOK.ok (ok_istore_n dX17_imageCount_39 rfl)), m_istore⟩ (
  lkp_c (P := OkP 247) ⟨(PuOK.ok (ok_iinc dX17_imageCount_40 rfl)), m_iinc⟩ (
  lkp_c (P := OkP 247) ⟨(PuOK.ok (ok_goto dX17_imageCount_43 rfl)), m_goto⟩ (
  lkp_c (P := OkP 247) ⟨(PuOK.ok (ok_iload_n dX17_imageCount_46 rfl)), m_iload⟩ (
  lkp_c (P := OkP 247) ⟨ok_iret rfl rfl (by decide) dX17_imageCount_47, m_ret⟩ (
  trivial))))))))))))))))))))))))))
theorem mt_247 : MtOK TB NT IT 247 := ⟨by decide +kernel, rfl, (fun h => by cases h), Or.inl ⟨rfl, rfl⟩, rfl, by decide, lk2_all (P := OkP 247) ⟨c_247_0, trivial⟩⟩
def dkwX17_marks_5 : List UInt8 := [167, 255, 174, 43, 176]
abbrev dktX17_marks_5 : List UInt8 := dkwX17_marks_5 ++ []
def dkwX17_marks_4 : List UInt8 := [180, 0, 31, 159, 0, 9, 132, 2, 1, 167, 255, 231, 43, 28, 4, 84, 25, 5, 78, 132, 4, 1]
abbrev dktX17_marks_4 : List UInt8 := dkwX17_marks_4 ++ dktX17_marks_5
def dkwX17_marks_3 : List UInt8 := [167, 0, 41, 132, 2, 1, 42, 180, 0, 20, 28, 182, 0, 84, 192, 0, 37, 182, 0, 95, 25, 5]
abbrev dktX17_marks_3 : List UInt8 := dkwX17_marks_3 ++ dktX17_marks_4
def dkwX17_marks_2 : List UInt8 := [21, 4, 182, 0, 84, 192, 0, 32, 58, 5, 25, 5, 180, 0, 31, 45, 180, 0, 31, 160, 0, 6]
abbrev dktX17_marks_2 : List UInt8 := dkwX17_marks_2 ++ dktX17_marks_3
def dkwX17_marks_1 : List UInt8 := [192, 0, 32, 78, 4, 54, 4, 21, 4, 42, 180, 0, 14, 182, 0, 88, 162, 0, 76, 42, 180, 0, 14]
abbrev dktX17_marks_1 : List UInt8 := dkwX17_marks_1 ++ dktX17_marks_2
def dkwX17_marks_0 : List UInt8 := [42, 180, 0, 20, 182, 0, 88, 188, 4, 76, 43, 3, 4, 84, 3, 61, 42, 180, 0, 14, 3, 182, 0, 84]
abbrev dktX17_marks_0 : List UInt8 := dkwX17_marks_0 ++ dktX17_marks_1
theorem dksX17_marks_0 : cX17_marks.data.toList.drop 0 = dktX17_marks_0 := by decide +kernel
theorem dksX17_marks_1 : cX17_marks.data.toList.drop 24 = dktX17_marks_1 := dk_seg dksX17_marks_0 24 rfl rfl
theorem dksX17_marks_2 : cX17_marks.data.toList.drop 47 = dktX17_marks_2 := dk_seg dksX17_marks_1 23 rfl rfl
theorem dksX17_marks_3 : cX17_marks.data.toList.drop 69 = dktX17_marks_3 := dk_seg dksX17_marks_2 22 rfl rfl
theorem dksX17_marks_4 : cX17_marks.data.toList.drop 91 = dktX17_marks_4 := dk_seg dksX17_marks_3 22 rfl rfl
theorem dksX17_marks_5 : cX17_marks.data.toList.drop 113 = dktX17_marks_5 := dk_seg dksX17_marks_4 22 rfl rfl
theorem dX17_marks_0 : decode cX17_marks 0 = .ok (.aload_n 0, 1) := dk_42 (dk_at dksX17_marks_0 0 rfl rfl)
theorem dX17_marks_1 : decode cX17_marks 1 = .ok (.getfield 20, 3) := dk_180 0 20 (dk_at dksX17_marks_0 1 rfl rfl)
theorem dX17_marks_4 : decode cX17_marks 4 = .ok (.invokevirtual 88, 3) := dk_182 0 88 (dk_at dksX17_marks_0 4 rfl rfl)
theorem dX17_marks_7 : decode cX17_marks 7 = .ok (.newarray .boolean, 2) := dk_188_4 (dk_at dksX17_marks_0 7 rfl rfl)
theorem dX17_marks_9 : decode cX17_marks 9 = .ok (.astore_n 1, 1) := dk_76 (dk_at dksX17_marks_0 9 rfl rfl)
theorem dX17_marks_10 : decode cX17_marks 10 = .ok (.aload_n 1, 1) := dk_43 (dk_at dksX17_marks_0 10 rfl rfl)
theorem dX17_marks_11 : decode cX17_marks 11 = .ok (.iconst 0, 1) := dk_3 (dk_at dksX17_marks_0 11 rfl rfl)
theorem dX17_marks_12 : decode cX17_marks 12 = .ok (.iconst 1, 1) := dk_4 (dk_at dksX17_marks_0 12 rfl rfl)
theorem dX17_marks_13 : decode cX17_marks 13 = .ok (.bastore, 1) := dk_84 (dk_at dksX17_marks_0 13 rfl rfl)
theorem dX17_marks_14 : decode cX17_marks 14 = .ok (.iconst 0, 1) := dk_3 (dk_at dksX17_marks_0 14 rfl rfl)
theorem dX17_marks_15 : decode cX17_marks 15 = .ok (.istore_n 2, 1) := dk_61 (dk_at dksX17_marks_0 15 rfl rfl)
theorem dX17_marks_16 : decode cX17_marks 16 = .ok (.aload_n 0, 1) := dk_42 (dk_at dksX17_marks_0 16 rfl rfl)
theorem dX17_marks_17 : decode cX17_marks 17 = .ok (.getfield 14, 3) := dk_180 0 14 (dk_at dksX17_marks_0 17 rfl rfl)
theorem dX17_marks_20 : decode cX17_marks 20 = .ok (.iconst 0, 1) := dk_3 (dk_at dksX17_marks_0 20 rfl rfl)
theorem dX17_marks_21 : decode cX17_marks 21 = .ok (.invokevirtual 84, 3) := dk_182 0 84 (dk_at dksX17_marks_0 21 rfl rfl)
theorem dX17_marks_24 : decode cX17_marks 24 = .ok (.checkcast 32, 3) := dk_192 0 32 (dk_at dksX17_marks_1 0 rfl rfl)
theorem dX17_marks_27 : decode cX17_marks 27 = .ok (.astore_n 3, 1) := dk_78 (dk_at dksX17_marks_1 3 rfl rfl)
theorem dX17_marks_28 : decode cX17_marks 28 = .ok (.iconst 1, 1) := dk_4 (dk_at dksX17_marks_1 4 rfl rfl)
theorem dX17_marks_29 : decode cX17_marks 29 = .ok (.istore 4, 2) := dk_54 4 (dk_at dksX17_marks_1 5 rfl rfl)
theorem dX17_marks_31 : decode cX17_marks 31 = .ok (.iload 4, 2) := dk_21 4 (dk_at dksX17_marks_1 7 rfl rfl)
theorem dX17_marks_33 : decode cX17_marks 33 = .ok (.aload_n 0, 1) := dk_42 (dk_at dksX17_marks_1 9 rfl rfl)
theorem dX17_marks_34 : decode cX17_marks 34 = .ok (.getfield 14, 3) := dk_180 0 14 (dk_at dksX17_marks_1 10 rfl rfl)
theorem dX17_marks_37 : decode cX17_marks 37 = .ok (.invokevirtual 88, 3) := dk_182 0 88 (dk_at dksX17_marks_1 13 rfl rfl)
theorem dX17_marks_40 : decode cX17_marks 40 = .ok (.if_icmp .ge 76, 3) := dk_162 0 76 (dk_at dksX17_marks_1 16 rfl rfl)
theorem dX17_marks_43 : decode cX17_marks 43 = .ok (.aload_n 0, 1) := dk_42 (dk_at dksX17_marks_1 19 rfl rfl)
theorem dX17_marks_44 : decode cX17_marks 44 = .ok (.getfield 14, 3) := dk_180 0 14 (dk_at dksX17_marks_1 20 rfl rfl)
theorem dX17_marks_47 : decode cX17_marks 47 = .ok (.iload 4, 2) := dk_21 4 (dk_at dksX17_marks_2 0 rfl rfl)
theorem dX17_marks_49 : decode cX17_marks 49 = .ok (.invokevirtual 84, 3) := dk_182 0 84 (dk_at dksX17_marks_2 2 rfl rfl)
theorem dX17_marks_52 : decode cX17_marks 52 = .ok (.checkcast 32, 3) := dk_192 0 32 (dk_at dksX17_marks_2 5 rfl rfl)
theorem dX17_marks_55 : decode cX17_marks 55 = .ok (.astore 5, 2) := dk_58 5 (dk_at dksX17_marks_2 8 rfl rfl)
theorem dX17_marks_57 : decode cX17_marks 57 = .ok (.aload 5, 2) := dk_25 5 (dk_at dksX17_marks_2 10 rfl rfl)
theorem dX17_marks_59 : decode cX17_marks 59 = .ok (.getfield 31, 3) := dk_180 0 31 (dk_at dksX17_marks_2 12 rfl rfl)
theorem dX17_marks_62 : decode cX17_marks 62 = .ok (.aload_n 3, 1) := dk_45 (dk_at dksX17_marks_2 15 rfl rfl)
theorem dX17_marks_63 : decode cX17_marks 63 = .ok (.getfield 31, 3) := dk_180 0 31 (dk_at dksX17_marks_2 16 rfl rfl)
theorem dX17_marks_66 : decode cX17_marks 66 = .ok (.if_icmp .ne 6, 3) := dk_160 0 6 (dk_at dksX17_marks_2 19 rfl rfl)
theorem dX17_marks_69 : decode cX17_marks 69 = .ok (.goto 41, 3) := dk_167 0 41 (dk_at dksX17_marks_3 0 rfl rfl)
theorem dX17_marks_72 : decode cX17_marks 72 = .ok (.iinc 2 1, 3) := dk_132 2 1 (dk_at dksX17_marks_3 3 rfl rfl)
theorem dX17_marks_75 : decode cX17_marks 75 = .ok (.aload_n 0, 1) := dk_42 (dk_at dksX17_marks_3 6 rfl rfl)
theorem dX17_marks_76 : decode cX17_marks 76 = .ok (.getfield 20, 3) := dk_180 0 20 (dk_at dksX17_marks_3 7 rfl rfl)
theorem dX17_marks_79 : decode cX17_marks 79 = .ok (.iload_n 2, 1) := dk_28 (dk_at dksX17_marks_3 10 rfl rfl)
theorem dX17_marks_80 : decode cX17_marks 80 = .ok (.invokevirtual 84, 3) := dk_182 0 84 (dk_at dksX17_marks_3 11 rfl rfl)
theorem dX17_marks_83 : decode cX17_marks 83 = .ok (.checkcast 37, 3) := dk_192 0 37 (dk_at dksX17_marks_3 14 rfl rfl)
theorem dX17_marks_86 : decode cX17_marks 86 = .ok (.invokevirtual 95, 3) := dk_182 0 95 (dk_at dksX17_marks_3 17 rfl rfl)
theorem dX17_marks_89 : decode cX17_marks 89 = .ok (.aload 5, 2) := dk_25 5 (dk_at dksX17_marks_3 20 rfl rfl)
theorem dX17_marks_91 : decode cX17_marks 91 = .ok (.getfield 31, 3) := dk_180 0 31 (dk_at dksX17_marks_4 0 rfl rfl)
theorem dX17_marks_94 : decode cX17_marks 94 = .ok (.if_icmp .eq 9, 3) := dk_159 0 9 (dk_at dksX17_marks_4 3 rfl rfl)
theorem dX17_marks_97 : decode cX17_marks 97 = .ok (.iinc 2 1, 3) := dk_132 2 1 (dk_at dksX17_marks_4 6 rfl rfl)
theorem dX17_marks_100 : decode cX17_marks 100 = .ok (.goto (-25), 3) := dk_167 255 231 (dk_at dksX17_marks_4 9 rfl rfl)
theorem dX17_marks_103 : decode cX17_marks 103 = .ok (.aload_n 1, 1) := dk_43 (dk_at dksX17_marks_4 12 rfl rfl)
theorem dX17_marks_104 : decode cX17_marks 104 = .ok (.iload_n 2, 1) := dk_28 (dk_at dksX17_marks_4 13 rfl rfl)
theorem dX17_marks_105 : decode cX17_marks 105 = .ok (.iconst 1, 1) := dk_4 (dk_at dksX17_marks_4 14 rfl rfl)
theorem dX17_marks_106 : decode cX17_marks 106 = .ok (.bastore, 1) := dk_84 (dk_at dksX17_marks_4 15 rfl rfl)
theorem dX17_marks_107 : decode cX17_marks 107 = .ok (.aload 5, 2) := dk_25 5 (dk_at dksX17_marks_4 16 rfl rfl)
theorem dX17_marks_109 : decode cX17_marks 109 = .ok (.astore_n 3, 1) := dk_78 (dk_at dksX17_marks_4 18 rfl rfl)
theorem dX17_marks_110 : decode cX17_marks 110 = .ok (.iinc 4 1, 3) := dk_132 4 1 (dk_at dksX17_marks_4 19 rfl rfl)
theorem dX17_marks_113 : decode cX17_marks 113 = .ok (.goto (-82), 3) := dk_167 255 174 (dk_at dksX17_marks_5 0 rfl rfl)
theorem dX17_marks_116 : decode cX17_marks 116 = .ok (.aload_n 1, 1) := dk_43 (dk_at dksX17_marks_5 3 rfl rfl)
theorem dX17_marks_117 : decode cX17_marks 117 = .ok (.areturn, 1) := dk_176 (dk_at dksX17_marks_5 4 rfl rfl)
theorem c_248_0 : LkP (OkP 248) [(0, o_aload 0 1), (1, o_get 128), (4, o_cv [(3, 42)] 0 3 false none), (7, o_newa 2 2), (9, o_astore 1 1), (10, o_aload 1 1), (11, o_push 1 (.int 0)), (12, o_push 1 (.int 1)), (13, o_wrI 2), (14, o_push 1 (.int 0)), (15, o_istore 2 1), (16, o_aload 0 1), (17, o_get 127), (20, o_push 1 (.int 0)), (21, o_cv [(3, 47)] 1 3 false none), (24, o_cast [17]), (27, o_astore 3 1), (28, o_push 1 (.int 1)), (29, o_istore 4 2), (31, o_iload 4 2), (33, o_aload 0 1), (34, o_get 127), (37, o_cv [(3, 42)] 0 3 false none), (40, o_icmp (fun x y => decide (y ≤ x)) 116), (43, o_aload 0 1), (44, o_get 127), (47, o_iload 4 2), (49, o_cv [(3, 47)] 1 3 false none), (52, o_cast [17]), (55, o_astore 5 2), (57, o_aload 5 2), (59, o_get 90), (62, o_aload 3 1), (63, o_get 90)] := lkp_c (P := OkP 248) ⟨(PuOK.ok (ok_aload_n dX17_marks_0 rfl)), m_aload⟩ (
  lkp_c (P := OkP 248) ⟨ok_get ⟨"TollRoad$Trip", q2497, Or.inl rfl⟩ dX17_marks_1, m_get⟩ (
  lkp_c (P := OkP 248) ⟨ok_cv (List.forall_mem_cons.mpr ⟨tg_V (ci := 3) (r := CLr 3) (y := 42) rfl ⟨rfl, by decide⟩ rfl q2544 q1257 q1258 q120 q1259 ⟨cn_15.1, cn_15.2, pd_13⟩ dX17_marks_4, (List.forall_mem_nil _)⟩) hd_no, m_cv⟩ (
  lkp_c (P := OkP 248) ⟨ok_newa (by decide) rfl q2755 dX17_marks_7, m_newa⟩ (
  lkp_c (P := OkP 248) ⟨(PuOK.ok (ok_astore_n dX17_marks_9 rfl)), m_astore⟩ (
  lkp_c (P := OkP 248) ⟨(PuOK.ok (ok_aload_n dX17_marks_10 rfl)), m_aload⟩ (
  lkp_c (P := OkP 248) ⟨(PuOK.ok (ok_iconst dX17_marks_11 rfl)), m_push⟩ (
  lkp_c (P := OkP 248) ⟨(PuOK.ok (ok_iconst dX17_marks_12 rfl)), m_push⟩ (
  lkp_c (P := OkP 248) ⟨ok_zast dX17_marks_13, m_wrI⟩ (
  lkp_c (P := OkP 248) ⟨(PuOK.ok (ok_iconst dX17_marks_14 rfl)), m_push⟩ (
  lkp_c (P := OkP 248) ⟨(PuOK.ok (ok_istore_n dX17_marks_15 rfl)), m_istore⟩ (
  lkp_c (P := OkP 248) ⟨(PuOK.ok (ok_aload_n dX17_marks_16 rfl)), m_aload⟩ (
  lkp_c (P := OkP 248) ⟨ok_get ⟨"TollRoad$Trip", q2494, Or.inl rfl⟩ dX17_marks_17, m_get⟩ (
  lkp_c (P := OkP 248) ⟨(PuOK.ok (ok_iconst dX17_marks_20 rfl)), m_push⟩ (
  lkp_c (P := OkP 248) ⟨ok_cv (List.forall_mem_cons.mpr ⟨tg_V (ci := 3) (r := CLr 3) (y := 47) rfl ⟨rfl, by decide⟩ rfl q2538 q1807 q1808 q120 q1809 ⟨cn_15.1, cn_15.2, pd_27⟩ dX17_marks_21, (List.forall_mem_nil _)⟩) hd_no, m_cv⟩ (
  lkp_c (P := OkP 248) ⟨ok_cast q2539 cst_6 dX17_marks_24, m_cast⟩ (
  lkp_c (P := OkP 248) ⟨(PuOK.ok (ok_astore_n dX17_marks_27 rfl)), m_astore⟩ (
  lkp_c (P := OkP 248) ⟨(PuOK.ok (ok_iconst dX17_marks_28 rfl)), m_push⟩ (
  lkp_c (P := OkP 248) ⟨(PuOK.ok (ok_istore dX17_marks_29)), m_istore⟩ (
  lkp_c (P := OkP 248) ⟨(PuOK.ok (ok_iload dX17_marks_31)), m_iload⟩ (
  lkp_c (P := OkP 248) ⟨(PuOK.ok (ok_aload_n dX17_marks_33 rfl)), m_aload⟩ (
  lkp_c (P := OkP 248) ⟨ok_get ⟨"TollRoad$Trip", q2494, Or.inl rfl⟩ dX17_marks_34, m_get⟩ (
  lkp_c (P := OkP 248) ⟨ok_cv (List.forall_mem_cons.mpr ⟨tg_V (ci := 3) (r := CLr 3) (y := 42) rfl ⟨rfl, by decide⟩ rfl q2544 q1257 q1258 q120 q1259 ⟨cn_15.1, cn_15.2, pd_13⟩ dX17_marks_37, (List.forall_mem_nil _)⟩) hd_no, m_cv⟩ (
  lkp_c (P := OkP 248) ⟨(PuOK.ok (ok_icmp_ge dX17_marks_40 rfl)), m_icmp⟩ (
  lkp_c (P := OkP 248) ⟨(PuOK.ok (ok_aload_n dX17_marks_43 rfl)), m_aload⟩ (
  lkp_c (P := OkP 248) ⟨ok_get ⟨"TollRoad$Trip", q2494, Or.inl rfl⟩ dX17_marks_44, m_get⟩ (
  lkp_c (P := OkP 248) ⟨(PuOK.ok (ok_iload dX17_marks_47)), m_iload⟩ (
  lkp_c (P := OkP 248) ⟨ok_cv (List.forall_mem_cons.mpr ⟨tg_V (ci := 3) (r := CLr 3) (y := 47) rfl ⟨rfl, by decide⟩ rfl q2538 q1807 q1808 q120 q1809 ⟨cn_15.1, cn_15.2, pd_27⟩ dX17_marks_49, (List.forall_mem_nil _)⟩) hd_no, m_cv⟩ (
  lkp_c (P := OkP 248) ⟨ok_cast q2539 cst_6 dX17_marks_52, m_cast⟩ (
  lkp_c (P := OkP 248) ⟨(PuOK.ok (ok_astore dX17_marks_55)), m_astore⟩ (
  lkp_c (P := OkP 248) ⟨(PuOK.ok (ok_aload dX17_marks_57)), m_aload⟩ (
  lkp_c (P := OkP 248) ⟨ok_getN ⟨"TollRoad$Read", "TollRoad", q1998, Or.inl rfl⟩ dX17_marks_59, m_get⟩ (
  lkp_c (P := OkP 248) ⟨(PuOK.ok (ok_aload_n dX17_marks_62 rfl)), m_aload⟩ (
  lkp_c (P := OkP 248) ⟨ok_getN ⟨"TollRoad$Read", "TollRoad", q1998, Or.inl rfl⟩ dX17_marks_63, m_get⟩ (
  trivial))))))))))))))))))))))))))))))))))
theorem c_248_1 : LkP (OkP 248) [(66, o_icmp (fun x y => decide (¬ x = y)) 72), (69, o_goto 110), (72, o_iinc 2 1), (75, o_aload 0 1), (76, o_get 128), (79, o_iload 2 1), (80, o_cv [(3, 47)] 1 3 false none), (83, o_cast [21]), (86, o_cvs [(21, 21)] 0 3 false), (89, o_aload 5 2), (91, o_get 90), (94, o_icmp (fun x y => decide (x = y)) 103), (97, o_iinc 2 1), (100, o_goto 75), (103, o_aload 1 1), (104, o_iload 2 1), (105, o_push 1 (.int 1)), (106, o_wrI 2), (107, o_aload 5 2), (109, o_astore 3 1), (110, o_iinc 4 1), (113, o_goto 31), (116, o_aload 1 1), (117, o_ret 0)] := lkp_c (P := OkP 248) ⟨(PuOK.ok (ok_icmp_ne dX17_marks_66 rfl)), m_icmp⟩ (
  lkp_c (P := OkP 248) ⟨(PuOK.ok (ok_goto dX17_marks_69 rfl)), m_goto⟩ (
  lkp_c (P := OkP 248) ⟨(PuOK.ok (ok_iinc dX17_marks_72 rfl)), m_iinc⟩ (
  lkp_c (P := OkP 248) ⟨(PuOK.ok (ok_aload_n dX17_marks_75 rfl)), m_aload⟩ (
  lkp_c (P := OkP 248) ⟨ok_get ⟨"TollRoad$Trip", q2497, Or.inl rfl⟩ dX17_marks_76, m_get⟩ (
  lkp_c (P := OkP 248) ⟨(PuOK.ok (ok_iload_n dX17_marks_79 rfl)), m_iload⟩ (
  lkp_c (P := OkP 248) ⟨ok_cv (List.forall_mem_cons.mpr ⟨tg_V (ci := 3) (r := CLr 3) (y := 47) rfl ⟨rfl, by decide⟩ rfl q2538 q1807 q1808 q120 q1809 ⟨cn_15.1, cn_15.2, pd_27⟩ dX17_marks_80, (List.forall_mem_nil _)⟩) hd_no, m_cv⟩ (
  lkp_c (P := OkP 248) ⟨ok_cast q2688 cst_1 dX17_marks_83, m_cast⟩ (
  lkp_c (P := OkP 248) ⟨ok_cvs (List.forall_mem_cons.mpr ⟨tg_V (ci := 21) (r := CLr 21) (y := 21) rfl ⟨rfl, by decide⟩ rfl q2689 q968 q969 q136 q970 ⟨cn_6.1, cn_6.2, pd_13⟩ dX17_marks_86, (List.forall_mem_nil _)⟩) hd_no, m_cvs⟩ (
  lkp_c (P := OkP 248) ⟨(PuOK.ok (ok_aload dX17_marks_89)), m_aload⟩ (
  lkp_c (P := OkP 248) ⟨ok_getN ⟨"TollRoad$Read", "TollRoad", q1998, Or.inl rfl⟩ dX17_marks_91, m_get⟩ (
  lkp_c (P := OkP 248) ⟨(PuOK.ok (ok_icmp_eq dX17_marks_94 rfl)), m_icmp⟩ (
  lkp_c (P := OkP 248) ⟨(PuOK.ok (ok_iinc dX17_marks_97 rfl)), m_iinc⟩ (
  lkp_c (P := OkP 248) ⟨(PuOK.ok (ok_goto dX17_marks_100 rfl)), m_goto⟩ (
  lkp_c (P := OkP 248) ⟨(PuOK.ok (ok_aload_n dX17_marks_103 rfl)), m_aload⟩ (
  lkp_c (P := OkP 248) ⟨(PuOK.ok (ok_iload_n dX17_marks_104 rfl)), m_iload⟩ (
  lkp_c (P := OkP 248) ⟨(PuOK.ok (ok_iconst dX17_marks_105 rfl)), m_push⟩ (
  lkp_c (P := OkP 248) ⟨ok_zast dX17_marks_106, m_wrI⟩ (
  lkp_c (P := OkP 248) ⟨(PuOK.ok (ok_aload dX17_marks_107)), m_aload⟩ (
  lkp_c (P := OkP 248) ⟨(PuOK.ok (ok_astore_n dX17_marks_109 rfl)), m_astore⟩ (
  lkp_c (P := OkP 248) ⟨(PuOK.ok (ok_iinc dX17_marks_110 rfl)), m_iinc⟩ (
  lkp_c (P := OkP 248) ⟨(PuOK.ok (ok_goto dX17_marks_113 rfl)), m_goto⟩ (
  lkp_c (P := OkP 248) ⟨(PuOK.ok (ok_aload_n dX17_marks_116 rfl)), m_aload⟩ (
  lkp_c (P := OkP 248) ⟨ok_aret rfl (Or.inr ⟨_, rfl⟩) dX17_marks_117, m_ret⟩ (
  trivial))))))))))))))))))))))))
theorem mt_248 : MtOK TB NT IT 248 := ⟨by decide +kernel, rfl, (fun h => by cases h), Or.inl ⟨rfl, rfl⟩, rfl, by decide, lk2_all (P := OkP 248) ⟨c_248_0, c_248_1, trivial⟩⟩
def dkwX18_init_2 : List UInt8 := [45, 21, 4, 21, 5, 21, 6, 184, 0, 39, 181, 0, 45, 177]
abbrev dktX18_init_2 : List UInt8 := dkwX18_init_2 ++ []
def dkwX18_init_1 : List UInt8 := [181, 0, 22, 42, 21, 5, 181, 0, 25, 42, 21, 6, 181, 0, 28, 42, 45, 182, 0, 31, 181, 0, 37, 42]
abbrev dktX18_init_1 : List UInt8 := dkwX18_init_1 ++ dktX18_init_2
def dkwX18_init_0 : List UInt8 := [42, 183, 0, 3, 42, 27, 181, 0, 9, 42, 28, 181, 0, 15, 42, 45, 181, 0, 18, 42, 21, 4]
abbrev dktX18_init_0 : List UInt8 := dkwX18_init_0 ++ dktX18_init_1
theorem dksX18_init_0 : cX18_init.data.toList.drop 0 = dktX18_init_0 := by decide +kernel
theorem dksX18_init_1 : cX18_init.data.toList.drop 22 = dktX18_init_1 := dk_seg dksX18_init_0 22 rfl rfl
theorem dksX18_init_2 : cX18_init.data.toList.drop 46 = dktX18_init_2 := dk_seg dksX18_init_1 24 rfl rfl
theorem dX18_init_0 : decode cX18_init 0 = .ok (.aload_n 0, 1) := dk_42 (dk_at dksX18_init_0 0 rfl rfl)
theorem dX18_init_1 : decode cX18_init 1 = .ok (.invokespecial 3, 3) := dk_183 0 3 (dk_at dksX18_init_0 1 rfl rfl)
theorem dX18_init_4 : decode cX18_init 4 = .ok (.aload_n 0, 1) := dk_42 (dk_at dksX18_init_0 4 rfl rfl)
theorem dX18_init_5 : decode cX18_init 5 = .ok (.iload_n 1, 1) := dk_27 (dk_at dksX18_init_0 5 rfl rfl)
theorem dX18_init_6 : decode cX18_init 6 = .ok (.putfield 9, 3) := dk_181 0 9 (dk_at dksX18_init_0 6 rfl rfl)
theorem dX18_init_9 : decode cX18_init 9 = .ok (.aload_n 0, 1) := dk_42 (dk_at dksX18_init_0 9 rfl rfl)
theorem dX18_init_10 : decode cX18_init 10 = .ok (.iload_n 2, 1) := dk_28 (dk_at dksX18_init_0 10 rfl rfl)
theorem dX18_init_11 : decode cX18_init 11 = .ok (.putfield 15, 3) := dk_181 0 15 (dk_at dksX18_init_0 11 rfl rfl)
theorem dX18_init_14 : decode cX18_init 14 = .ok (.aload_n 0, 1) := dk_42 (dk_at dksX18_init_0 14 rfl rfl)
theorem dX18_init_15 : decode cX18_init 15 = .ok (.aload_n 3, 1) := dk_45 (dk_at dksX18_init_0 15 rfl rfl)
theorem dX18_init_16 : decode cX18_init 16 = .ok (.putfield 18, 3) := dk_181 0 18 (dk_at dksX18_init_0 16 rfl rfl)
theorem dX18_init_19 : decode cX18_init 19 = .ok (.aload_n 0, 1) := dk_42 (dk_at dksX18_init_0 19 rfl rfl)
theorem dX18_init_20 : decode cX18_init 20 = .ok (.iload 4, 2) := dk_21 4 (dk_at dksX18_init_0 20 rfl rfl)
theorem dX18_init_22 : decode cX18_init 22 = .ok (.putfield 22, 3) := dk_181 0 22 (dk_at dksX18_init_1 0 rfl rfl)
theorem dX18_init_25 : decode cX18_init 25 = .ok (.aload_n 0, 1) := dk_42 (dk_at dksX18_init_1 3 rfl rfl)
theorem dX18_init_26 : decode cX18_init 26 = .ok (.iload 5, 2) := dk_21 5 (dk_at dksX18_init_1 4 rfl rfl)
theorem dX18_init_28 : decode cX18_init 28 = .ok (.putfield 25, 3) := dk_181 0 25 (dk_at dksX18_init_1 6 rfl rfl)
theorem dX18_init_31 : decode cX18_init 31 = .ok (.aload_n 0, 1) := dk_42 (dk_at dksX18_init_1 9 rfl rfl)
theorem dX18_init_32 : decode cX18_init 32 = .ok (.iload 6, 2) := dk_21 6 (dk_at dksX18_init_1 10 rfl rfl)
theorem dX18_init_34 : decode cX18_init 34 = .ok (.putfield 28, 3) := dk_181 0 28 (dk_at dksX18_init_1 12 rfl rfl)
theorem dX18_init_37 : decode cX18_init 37 = .ok (.aload_n 0, 1) := dk_42 (dk_at dksX18_init_1 15 rfl rfl)
theorem dX18_init_38 : decode cX18_init 38 = .ok (.aload_n 3, 1) := dk_45 (dk_at dksX18_init_1 16 rfl rfl)
theorem dX18_init_39 : decode cX18_init 39 = .ok (.invokevirtual 31, 3) := dk_182 0 31 (dk_at dksX18_init_1 17 rfl rfl)
theorem dX18_init_42 : decode cX18_init 42 = .ok (.putfield 37, 3) := dk_181 0 37 (dk_at dksX18_init_1 20 rfl rfl)
theorem dX18_init_45 : decode cX18_init 45 = .ok (.aload_n 0, 1) := dk_42 (dk_at dksX18_init_1 23 rfl rfl)
theorem dX18_init_46 : decode cX18_init 46 = .ok (.aload_n 3, 1) := dk_45 (dk_at dksX18_init_2 0 rfl rfl)
theorem dX18_init_47 : decode cX18_init 47 = .ok (.iload 4, 2) := dk_21 4 (dk_at dksX18_init_2 1 rfl rfl)
theorem dX18_init_49 : decode cX18_init 49 = .ok (.iload 5, 2) := dk_21 5 (dk_at dksX18_init_2 3 rfl rfl)
theorem dX18_init_51 : decode cX18_init 51 = .ok (.iload 6, 2) := dk_21 6 (dk_at dksX18_init_2 5 rfl rfl)
theorem dX18_init_53 : decode cX18_init 53 = .ok (.invokestatic 39, 3) := dk_184 0 39 (dk_at dksX18_init_2 7 rfl rfl)
theorem dX18_init_56 : decode cX18_init 56 = .ok (.putfield 45, 3) := dk_181 0 45 (dk_at dksX18_init_2 10 rfl rfl)
theorem dX18_init_59 : decode cX18_init 59 = .ok (.return_, 1) := dk_177 (dk_at dksX18_init_2 13 rfl rfl)
theorem c_249_0 : LkP (OkP 249) [(0, o_aload 0 1), (1, o_oi), (4, o_aload 0 1), (5, o_iload 1 1), (6, o_put 133 1), (9, o_aload 0 1), (10, o_iload 2 1), (11, o_put 134 1), (14, o_aload 0 1), (15, o_aload 3 1), (16, o_put 140 0), (19, o_aload 0 1), (20, o_iload 4 2), (22, o_put 137 1), (25, o_aload 0 1), (26, o_iload 5 2), (28, o_put 138 1), (31, o_aload 0 1), (32, o_iload 6 2), (34, o_put 139 1), (37, o_aload 0 1), (38, o_aload 3 1), (39, o_cv [(26, 246)] 0 3 false none), (42, o_put 136 1), (45, o_aload 0 1), (46, o_aload 3 1), (47, o_iload 4 2), (49, o_iload 5 2), (51, o_iload 6 2), (53, o_cs 254 4 false none), (56, o_put 135 1), (59, o_vret)] := lkp_c (P := OkP 249) ⟨(PuOK.ok (ok_aload_n dX18_init_0 rfl)), m_aload⟩ (
  lkp_c (P := OkP 249) ⟨ok_oi q2607 q188 q_oi dX18_init_1, m_oi⟩ (
  lkp_c (P := OkP 249) ⟨(PuOK.ok (ok_aload_n dX18_init_4 rfl)), m_aload⟩ (
  lkp_c (P := OkP 249) ⟨(PuOK.ok (ok_iload_n dX18_init_5 rfl)), m_iload⟩ (
  lkp_c (P := OkP 249) ⟨ok_putF q2628 rfl rfl rfl fd_133 rfl dX18_init_6, m_put⟩ (
  lkp_c (P := OkP 249) ⟨(PuOK.ok (ok_aload_n dX18_init_9 rfl)), m_aload⟩ (
  lkp_c (P := OkP 249) ⟨(PuOK.ok (ok_iload_n dX18_init_10 rfl)), m_iload⟩ (
  lkp_c (P := OkP 249) ⟨ok_putF q2631 rfl rfl rfl fd_134 rfl dX18_init_11, m_put⟩ (
  lkp_c (P := OkP 249) ⟨(PuOK.ok (ok_aload_n dX18_init_14 rfl)), m_aload⟩ (
  lkp_c (P := OkP 249) ⟨(PuOK.ok (ok_aload_n dX18_init_15 rfl)), m_aload⟩ (
  lkp_c (P := OkP 249) ⟨ok_putF q2645 rfl rfl rfl fd_140 rfl dX18_init_16, m_put⟩ (
  lkp_c (P := OkP 249) ⟨(PuOK.ok (ok_aload_n dX18_init_19 rfl)), m_aload⟩ (
  lkp_c (P := OkP 249) ⟨(PuOK.ok (ok_iload dX18_init_20)), m_iload⟩ (
  lkp_c (P := OkP 249) ⟨ok_putF q2640 rfl rfl rfl fd_137 rfl dX18_init_22, m_put⟩ (
  lkp_c (P := OkP 249) ⟨(PuOK.ok (ok_aload_n dX18_init_25 rfl)), m_aload⟩ (
  lkp_c (P := OkP 249) ⟨(PuOK.ok (ok_iload dX18_init_26)), m_iload⟩ (
  lkp_c (P := OkP 249) ⟨ok_putF q2641 rfl rfl rfl fd_138 rfl dX18_init_28, m_put⟩ (
  lkp_c (P := OkP 249) ⟨(PuOK.ok (ok_aload_n dX18_init_31 rfl)), m_aload⟩ (
  lkp_c (P := OkP 249) ⟨(PuOK.ok (ok_iload dX18_init_32)), m_iload⟩ (
  lkp_c (P := OkP 249) ⟨ok_putF q2644 rfl rfl rfl fd_139 rfl dX18_init_34, m_put⟩ (
  lkp_c (P := OkP 249) ⟨(PuOK.ok (ok_aload_n dX18_init_37 rfl)), m_aload⟩ (
  lkp_c (P := OkP 249) ⟨(PuOK.ok (ok_aload_n dX18_init_38 rfl)), m_aload⟩ (
  lkp_c (P := OkP 249) ⟨ok_cv (List.forall_mem_cons.mpr ⟨tg_V (ci := 26) (r := CLr 26) (y := 246) rfl ⟨rfl, by decide⟩ rfl q2608 q2546 q2547 q173 q2548 ⟨cn_46.1, cn_46.2, pd_13⟩ dX18_init_39, (List.forall_mem_nil _)⟩) hd_no, m_cv⟩ (
  lkp_c (P := OkP 249) ⟨ok_putF q2637 rfl rfl rfl fd_136 rfl dX18_init_42, m_put⟩ (
  lkp_c (P := OkP 249) ⟨(PuOK.ok (ok_aload_n dX18_init_45 rfl)), m_aload⟩ (
  lkp_c (P := OkP 249) ⟨(PuOK.ok (ok_aload_n dX18_init_46 rfl)), m_aload⟩ (
  lkp_c (P := OkP 249) ⟨(PuOK.ok (ok_iload dX18_init_47)), m_iload⟩ (
  lkp_c (P := OkP 249) ⟨(PuOK.ok (ok_iload dX18_init_49)), m_iload⟩ (
  lkp_c (P := OkP 249) ⟨(PuOK.ok (ok_iload dX18_init_51)), m_iload⟩ (
  lkp_c (P := OkP 249) ⟨ok_cs (tg_S ⟨rfl, by decide⟩ q2609 q2610 q175 q2611 ⟨cn_49.1, cn_49.2, pd_102⟩ dX18_init_53) hd_no, m_cs⟩ (
  lkp_c (P := OkP 249) ⟨ok_putF q2634 rfl rfl rfl fd_135 rfl dX18_init_56, m_put⟩ (
  lkp_c (P := OkP 249) ⟨ok_vret rfl dX18_init_59, m_vret⟩ (
  trivial))))))))))))))))))))))))))))))))
theorem mt_249 : MtOK TB NT IT 249 := ⟨by decide +kernel, rfl, fun _ => rfl, Or.inl ⟨rfl, rfl⟩, rfl, by decide, lk2_all (P := OkP 249) ⟨c_249_0, trivial⟩⟩
def dkwX18_discount_0 : List UInt8 := [42, 180, 0, 18, 76, 43, 42, 180, 0, 22, 185, 0, 56, 2, 0, 172]
abbrev dktX18_discount_0 : List UInt8 := dkwX18_discount_0 ++ []
theorem dksX18_discount_0 : cX18_discount.data.toList.drop 0 = dktX18_discount_0 := by decide +kernel
theorem dX18_discount_0 : decode cX18_discount 0 = .ok (.aload_n 0, 1) := dk_42 (dk_at dksX18_discount_0 0 rfl rfl)
theorem dX18_discount_1 : decode cX18_discount 1 = .ok (.getfield 18, 3) := dk_180 0 18 (dk_at dksX18_discount_0 1 rfl rfl)
theorem dX18_discount_4 : decode cX18_discount 4 = .ok (.astore_n 1, 1) := dk_76 (dk_at dksX18_discount_0 4 rfl rfl)
theorem dX18_discount_5 : decode cX18_discount 5 = .ok (.aload_n 1, 1) := dk_43 (dk_at dksX18_discount_0 5 rfl rfl)
theorem dX18_discount_6 : decode cX18_discount 6 = .ok (.aload_n 0, 1) := dk_42 (dk_at dksX18_discount_0 6 rfl rfl)
theorem dX18_discount_7 : decode cX18_discount 7 = .ok (.getfield 22, 3) := dk_180 0 22 (dk_at dksX18_discount_0 7 rfl rfl)
theorem dX18_discount_10 : decode cX18_discount 10 = .ok (.invokeinterface 56 2, 5) := by decide +kernel
theorem dX18_discount_15 : decode cX18_discount 15 = .ok (.ireturn, 1) := dk_172 (dk_at dksX18_discount_0 15 rfl rfl)
theorem c_250_0 : LkP (OkP 250) [(0, o_aload 0 1), (1, o_get 140), (4, o_astore 1 1), (5, o_aload 1 1), (6, o_aload 0 1), (7, o_get 137), (10, o_cv [(26, 255)] 1 5 false none), (15, o_ret 1)] := lkp_c (P := OkP 250) ⟨(PuOK.ok (ok_aload_n dX18_discount_0 rfl)), m_aload⟩ (
  lkp_c (P := OkP 250) ⟨ok_get ⟨"TollRoad$Bill", q2645, Or.inl rfl⟩ dX18_discount_1, m_get⟩ (
  lkp_c (P := OkP 250) ⟨(PuOK.ok (ok_astore_n dX18_discount_4 rfl)), m_astore⟩ (
  lkp_c (P := OkP 250) ⟨(PuOK.ok (ok_aload_n dX18_discount_5 rfl)), m_aload⟩ (
  lkp_c (P := OkP 250) ⟨(PuOK.ok (ok_aload_n dX18_discount_6 rfl)), m_aload⟩ (
  lkp_c (P := OkP 250) ⟨ok_get ⟨"TollRoad$Bill", q2640, Or.inl rfl⟩ dX18_discount_7, m_get⟩ (
  lkp_c (P := OkP 250) ⟨ok_cv (List.forall_mem_cons.mpr ⟨tg_D (ci := 26) (r := CLr 26) (y := 255) rfl ⟨rfl, by decide⟩ q2871 (by decide +kernel) rfl q2625 q175 q2627 q2623 q2622 q2626 q2624 q2616 ⟨cn_49.1, cn_49.2, pd_48⟩ dX18_discount_10, (List.forall_mem_nil _)⟩) hd_no, m_cv⟩ (
  lkp_c (P := OkP 250) ⟨ok_iret rfl rfl (by decide) dX18_discount_15, m_ret⟩ (
  trivial))))))))
theorem mt_250 : MtOK TB NT IT 250 := ⟨by decide +kernel, rfl, (fun h => by cases h), Or.inl ⟨rfl, rfl⟩, rfl, by decide, lk2_all (P := OkP 250) ⟨c_250_0, trivial⟩⟩
def dkwX18_imageReads_0 : List UInt8 := [42, 180, 0, 18, 182, 0, 60, 172]
abbrev dktX18_imageReads_0 : List UInt8 := dkwX18_imageReads_0 ++ []
theorem dksX18_imageReads_0 : cX18_imageReads.data.toList.drop 0 = dktX18_imageReads_0 := by decide +kernel
theorem dX18_imageReads_0 : decode cX18_imageReads 0 = .ok (.aload_n 0, 1) := dk_42 (dk_at dksX18_imageReads_0 0 rfl rfl)
theorem dX18_imageReads_1 : decode cX18_imageReads 1 = .ok (.getfield 18, 3) := dk_180 0 18 (dk_at dksX18_imageReads_0 1 rfl rfl)
theorem dX18_imageReads_4 : decode cX18_imageReads 4 = .ok (.invokevirtual 60, 3) := dk_182 0 60 (dk_at dksX18_imageReads_0 4 rfl rfl)
theorem dX18_imageReads_7 : decode cX18_imageReads 7 = .ok (.ireturn, 1) := dk_172 (dk_at dksX18_imageReads_0 7 rfl rfl)
theorem c_251_0 : LkP (OkP 251) [(0, o_aload 0 1), (1, o_get 140), (4, o_cv [(26, 247)] 0 3 false none), (7, o_ret 1)] := lkp_c (P := OkP 251) ⟨(PuOK.ok (ok_aload_n dX18_imageReads_0 rfl)), m_aload⟩ (
  lkp_c (P := OkP 251) ⟨ok_get ⟨"TollRoad$Bill", q2645, Or.inl rfl⟩ dX18_imageReads_1, m_get⟩ (
  lkp_c (P := OkP 251) ⟨ok_cv (List.forall_mem_cons.mpr ⟨tg_V (ci := 26) (r := CLr 26) (y := 247) rfl ⟨rfl, by decide⟩ rfl q2904 q2550 q2551 q173 q2552 ⟨cn_46.1, cn_46.2, pd_13⟩ dX18_imageReads_4, (List.forall_mem_nil _)⟩) hd_no, m_cv⟩ (
  lkp_c (P := OkP 251) ⟨ok_iret rfl rfl (by decide) dX18_imageReads_7, m_ret⟩ (
  trivial))))
theorem mt_251 : MtOK TB NT IT 251 := ⟨by decide +kernel, rfl, (fun h => by cases h), Or.inl ⟨rfl, rfl⟩, rfl, by decide, lk2_all (P := OkP 251) ⟨c_251_0, trivial⟩⟩
def dkwX18_amountWith_0 : List UInt8 := [27, 27, 42, 180, 0, 22, 104, 16, 100, 108, 100, 42, 180, 0, 25, 96, 42, 180, 0, 28, 96, 172]
abbrev dktX18_amountWith_0 : List UInt8 := dkwX18_amountWith_0 ++ []
theorem dksX18_amountWith_0 : cX18_amountWith.data.toList.drop 0 = dktX18_amountWith_0 := by decide +kernel
theorem dX18_amountWith_0 : decode cX18_amountWith 0 = .ok (.iload_n 1, 1) := dk_27 (dk_at dksX18_amountWith_0 0 rfl rfl)
theorem dX18_amountWith_1 : decode cX18_amountWith 1 = .ok (.iload_n 1, 1) := dk_27 (dk_at dksX18_amountWith_0 1 rfl rfl)
theorem dX18_amountWith_2 : decode cX18_amountWith 2 = .ok (.aload_n 0, 1) := dk_42 (dk_at dksX18_amountWith_0 2 rfl rfl)
theorem dX18_amountWith_3 : decode cX18_amountWith 3 = .ok (.getfield 22, 3) := dk_180 0 22 (dk_at dksX18_amountWith_0 3 rfl rfl)
theorem dX18_amountWith_6 : decode cX18_amountWith 6 = .ok (.imul, 1) := dk_104 (dk_at dksX18_amountWith_0 6 rfl rfl)
theorem dX18_amountWith_7 : decode cX18_amountWith 7 = .ok (.bipush 100, 2) := dk_16 100 (dk_at dksX18_amountWith_0 7 rfl rfl)
theorem dX18_amountWith_9 : decode cX18_amountWith 9 = .ok (.idiv, 1) := dk_108 (dk_at dksX18_amountWith_0 9 rfl rfl)
theorem dX18_amountWith_10 : decode cX18_amountWith 10 = .ok (.isub, 1) := dk_100 (dk_at dksX18_amountWith_0 10 rfl rfl)
theorem dX18_amountWith_11 : decode cX18_amountWith 11 = .ok (.aload_n 0, 1) := dk_42 (dk_at dksX18_amountWith_0 11 rfl rfl)
theorem dX18_amountWith_12 : decode cX18_amountWith 12 = .ok (.getfield 25, 3) := dk_180 0 25 (dk_at dksX18_amountWith_0 12 rfl rfl)
theorem dX18_amountWith_15 : decode cX18_amountWith 15 = .ok (.iadd, 1) := dk_96 (dk_at dksX18_amountWith_0 15 rfl rfl)
theorem dX18_amountWith_16 : decode cX18_amountWith 16 = .ok (.aload_n 0, 1) := dk_42 (dk_at dksX18_amountWith_0 16 rfl rfl)
theorem dX18_amountWith_17 : decode cX18_amountWith 17 = .ok (.getfield 28, 3) := dk_180 0 28 (dk_at dksX18_amountWith_0 17 rfl rfl)
theorem dX18_amountWith_20 : decode cX18_amountWith 20 = .ok (.iadd, 1) := dk_96 (dk_at dksX18_amountWith_0 20 rfl rfl)
theorem dX18_amountWith_21 : decode cX18_amountWith 21 = .ok (.ireturn, 1) := dk_172 (dk_at dksX18_amountWith_0 21 rfl rfl)
theorem c_252_0 : LkP (OkP 252) [(0, o_iload 1 1), (1, o_iload 1 1), (2, o_aload 0 1), (3, o_get 137), (6, o_iop (fun x y => x * y)), (7, o_push 2 (.int 100)), (9, o_iopz (fun x y => x / y)), (10, o_iop (fun x y => x - y)), (11, o_aload 0 1), (12, o_get 138), (15, o_iop (fun x y => x + y)), (16, o_aload 0 1), (17, o_get 139), (20, o_iop (fun x y => x + y)), (21, o_ret 1)] := lkp_c (P := OkP 252) ⟨(PuOK.ok (ok_iload_n dX18_amountWith_0 rfl)), m_iload⟩ (
  lkp_c (P := OkP 252) ⟨(PuOK.ok (ok_iload_n dX18_amountWith_1 rfl)), m_iload⟩ (
  lkp_c (P := OkP 252) ⟨(PuOK.ok (ok_aload_n dX18_amountWith_2 rfl)), m_aload⟩ (
  lkp_c (P := OkP 252) ⟨ok_get ⟨"TollRoad$Bill", q2640, Or.inl rfl⟩ dX18_amountWith_3, m_get⟩ (
  lkp_c (P := OkP 252) ⟨(PuOK.ok (ok_imul dX18_amountWith_6)), m_iop⟩ (
  lkp_c (P := OkP 252) ⟨(PuOK.ok (ok_bipush dX18_amountWith_7 rfl)), m_push⟩ (
  lkp_c (P := OkP 252) ⟨(PuOK.ok (ok_idiv dX18_amountWith_9)), m_iopz⟩ (
  lkp_c (P := OkP 252) ⟨(PuOK.ok (ok_isub dX18_amountWith_10)), m_iop⟩ (
  lkp_c (P := OkP 252) ⟨(PuOK.ok (ok_aload_n dX18_amountWith_11 rfl)), m_aload⟩ (
  lkp_c (P := OkP 252) ⟨ok_get ⟨"TollRoad$Bill", q2641, Or.inl rfl⟩ dX18_amountWith_12, m_get⟩ (
  lkp_c (P := OkP 252) ⟨(PuOK.ok (ok_iadd dX18_amountWith_15)), m_iop⟩ (
  lkp_c (P := OkP 252) ⟨(PuOK.ok (ok_aload_n dX18_amountWith_16 rfl)), m_aload⟩ (
  lkp_c (P := OkP 252) ⟨ok_get ⟨"TollRoad$Bill", q2644, Or.inl rfl⟩ dX18_amountWith_17, m_get⟩ (
  lkp_c (P := OkP 252) ⟨(PuOK.ok (ok_iadd dX18_amountWith_20)), m_iop⟩ (
  lkp_c (P := OkP 252) ⟨ok_iret rfl rfl (by decide) dX18_amountWith_21, m_ret⟩ (
  trivial)))))))))))))))
theorem mt_252 : MtOK TB NT IT 252 := ⟨by decide +kernel, rfl, (fun h => by cases h), Or.inl ⟨rfl, rfl⟩, rfl, by decide, lk2_all (P := OkP 252) ⟨c_252_0, trivial⟩⟩
def dkwX18_copy_2 : List UInt8 := [43, 176]
abbrev dktX18_copy_2 : List UInt8 := dkwX18_copy_2 ++ []
def dkwX18_copy_1 : List UInt8 := [42, 180, 0, 28, 183, 0, 47, 76, 43, 42, 180, 0, 50, 181, 0, 50, 43, 42, 180, 0, 53, 181, 0, 53]
abbrev dktX18_copy_1 : List UInt8 := dkwX18_copy_1 ++ dktX18_copy_2
def dkwX18_copy_0 : List UInt8 := [187, 0, 10, 89, 42, 180, 0, 9, 42, 180, 0, 15, 42, 180, 0, 18, 42, 180, 0, 22, 42, 180, 0, 25]
abbrev dktX18_copy_0 : List UInt8 := dkwX18_copy_0 ++ dktX18_copy_1
theorem dksX18_copy_0 : cX18_copy.data.toList.drop 0 = dktX18_copy_0 := by decide +kernel
theorem dksX18_copy_1 : cX18_copy.data.toList.drop 24 = dktX18_copy_1 := dk_seg dksX18_copy_0 24 rfl rfl
theorem dksX18_copy_2 : cX18_copy.data.toList.drop 48 = dktX18_copy_2 := dk_seg dksX18_copy_1 24 rfl rfl
theorem dX18_copy_0 : decode cX18_copy 0 = .ok (.new 10, 3) := dk_187 0 10 (dk_at dksX18_copy_0 0 rfl rfl)
theorem dX18_copy_3 : decode cX18_copy 3 = .ok (.dup, 1) := dk_89 (dk_at dksX18_copy_0 3 rfl rfl)
theorem dX18_copy_4 : decode cX18_copy 4 = .ok (.aload_n 0, 1) := dk_42 (dk_at dksX18_copy_0 4 rfl rfl)
theorem dX18_copy_5 : decode cX18_copy 5 = .ok (.getfield 9, 3) := dk_180 0 9 (dk_at dksX18_copy_0 5 rfl rfl)
theorem dX18_copy_8 : decode cX18_copy 8 = .ok (.aload_n 0, 1) := dk_42 (dk_at dksX18_copy_0 8 rfl rfl)
theorem dX18_copy_9 : decode cX18_copy 9 = .ok (.getfield 15, 3) := dk_180 0 15 (dk_at dksX18_copy_0 9 rfl rfl)
theorem dX18_copy_12 : decode cX18_copy 12 = .ok (.aload_n 0, 1) := dk_42 (dk_at dksX18_copy_0 12 rfl rfl)
theorem dX18_copy_13 : decode cX18_copy 13 = .ok (.getfield 18, 3) := dk_180 0 18 (dk_at dksX18_copy_0 13 rfl rfl)
theorem dX18_copy_16 : decode cX18_copy 16 = .ok (.aload_n 0, 1) := dk_42 (dk_at dksX18_copy_0 16 rfl rfl)
theorem dX18_copy_17 : decode cX18_copy 17 = .ok (.getfield 22, 3) := dk_180 0 22 (dk_at dksX18_copy_0 17 rfl rfl)
theorem dX18_copy_20 : decode cX18_copy 20 = .ok (.aload_n 0, 1) := dk_42 (dk_at dksX18_copy_0 20 rfl rfl)
theorem dX18_copy_21 : decode cX18_copy 21 = .ok (.getfield 25, 3) := dk_180 0 25 (dk_at dksX18_copy_0 21 rfl rfl)
theorem dX18_copy_24 : decode cX18_copy 24 = .ok (.aload_n 0, 1) := dk_42 (dk_at dksX18_copy_1 0 rfl rfl)
theorem dX18_copy_25 : decode cX18_copy 25 = .ok (.getfield 28, 3) := dk_180 0 28 (dk_at dksX18_copy_1 1 rfl rfl)
theorem dX18_copy_28 : decode cX18_copy 28 = .ok (.invokespecial 47, 3) := dk_183 0 47 (dk_at dksX18_copy_1 4 rfl rfl)
theorem dX18_copy_31 : decode cX18_copy 31 = .ok (.astore_n 1, 1) := dk_76 (dk_at dksX18_copy_1 7 rfl rfl)
theorem dX18_copy_32 : decode cX18_copy 32 = .ok (.aload_n 1, 1) := dk_43 (dk_at dksX18_copy_1 8 rfl rfl)
theorem dX18_copy_33 : decode cX18_copy 33 = .ok (.aload_n 0, 1) := dk_42 (dk_at dksX18_copy_1 9 rfl rfl)
theorem dX18_copy_34 : decode cX18_copy 34 = .ok (.getfield 50, 3) := dk_180 0 50 (dk_at dksX18_copy_1 10 rfl rfl)
theorem dX18_copy_37 : decode cX18_copy 37 = .ok (.putfield 50, 3) := dk_181 0 50 (dk_at dksX18_copy_1 13 rfl rfl)
theorem dX18_copy_40 : decode cX18_copy 40 = .ok (.aload_n 1, 1) := dk_43 (dk_at dksX18_copy_1 16 rfl rfl)
theorem dX18_copy_41 : decode cX18_copy 41 = .ok (.aload_n 0, 1) := dk_42 (dk_at dksX18_copy_1 17 rfl rfl)
theorem dX18_copy_42 : decode cX18_copy 42 = .ok (.getfield 53, 3) := dk_180 0 53 (dk_at dksX18_copy_1 18 rfl rfl)
theorem dX18_copy_45 : decode cX18_copy 45 = .ok (.putfield 53, 3) := dk_181 0 53 (dk_at dksX18_copy_1 21 rfl rfl)
theorem dX18_copy_48 : decode cX18_copy 48 = .ok (.aload_n 1, 1) := dk_43 (dk_at dksX18_copy_2 0 rfl rfl)
theorem dX18_copy_49 : decode cX18_copy 49 = .ok (.areturn, 1) := dk_176 (dk_at dksX18_copy_2 1 rfl rfl)
theorem c_253_0 : LkP (OkP 253) [(0, o_new 27 10 dv27), (3, o_dup), (4, o_aload 0 1), (5, o_get 133), (8, o_aload 0 1), (9, o_get 134), (12, o_aload 0 1), (13, o_get 140), (16, o_aload 0 1), (17, o_get 137), (20, o_aload 0 1), (21, o_get 138), (24, o_aload 0 1), (25, o_get 139), (28, o_ci 249 6), (31, o_astore 1 1), (32, o_aload 1 1), (33, o_aload 0 1), (34, o_get 141), (37, o_put 141 1), (40, o_aload 1 1), (41, o_aload 0 1), (42, o_get 142), (45, o_put 142 1), (48, o_aload 1 1), (49, o_ret 0)] := lkp_c (P := OkP 253) ⟨ok_new (ci := 27) (r := CLr 27) rfl dvok_27 q3002 q2603 q174 dX18_copy_0, m_new⟩ (
  lkp_c (P := OkP 253) ⟨(PuOK.ok (ok_dup dX18_copy_3)), m_dup⟩ (
  lkp_c (P := OkP 253) ⟨(PuOK.ok (ok_aload_n dX18_copy_4 rfl)), m_aload⟩ (
  lkp_c (P := OkP 253) ⟨ok_get ⟨"TollRoad$Bill", q2628, Or.inl rfl⟩ dX18_copy_5, m_get⟩ (
  lkp_c (P := OkP 253) ⟨(PuOK.ok (ok_aload_n dX18_copy_8 rfl)), m_aload⟩ (
  lkp_c (P := OkP 253) ⟨ok_get ⟨"TollRoad$Bill", q2631, Or.inl rfl⟩ dX18_copy_9, m_get⟩ (
  lkp_c (P := OkP 253) ⟨(PuOK.ok (ok_aload_n dX18_copy_12 rfl)), m_aload⟩ (
  lkp_c (P := OkP 253) ⟨ok_get ⟨"TollRoad$Bill", q2645, Or.inl rfl⟩ dX18_copy_13, m_get⟩ (
  lkp_c (P := OkP 253) ⟨(PuOK.ok (ok_aload_n dX18_copy_16 rfl)), m_aload⟩ (
  lkp_c (P := OkP 253) ⟨ok_get ⟨"TollRoad$Bill", q2640, Or.inl rfl⟩ dX18_copy_17, m_get⟩ (
  lkp_c (P := OkP 253) ⟨(PuOK.ok (ok_aload_n dX18_copy_20 rfl)), m_aload⟩ (
  lkp_c (P := OkP 253) ⟨ok_get ⟨"TollRoad$Bill", q2641, Or.inl rfl⟩ dX18_copy_21, m_get⟩ (
  lkp_c (P := OkP 253) ⟨(PuOK.ok (ok_aload_n dX18_copy_24 rfl)), m_aload⟩ (
  lkp_c (P := OkP 253) ⟨ok_get ⟨"TollRoad$Bill", q2644, Or.inl rfl⟩ dX18_copy_25, m_get⟩ (
  lkp_c (P := OkP 253) ⟨ok_ci (tg_I (rt := none) ⟨rfl, by decide⟩ rfl q3003 q2605 q174 q2606 ⟨cn_47.1, cn_47.2, pd_103⟩ dX18_copy_28) hd_no, m_ci⟩ (
  lkp_c (P := OkP 253) ⟨(PuOK.ok (ok_astore_n dX18_copy_31 rfl)), m_astore⟩ (
  lkp_c (P := OkP 253) ⟨(PuOK.ok (ok_aload_n dX18_copy_32 rfl)), m_aload⟩ (
  lkp_c (P := OkP 253) ⟨(PuOK.ok (ok_aload_n dX18_copy_33 rfl)), m_aload⟩ (
  lkp_c (P := OkP 253) ⟨ok_get ⟨"TollRoad$Bill", q2648, Or.inl rfl⟩ dX18_copy_34, m_get⟩ (
  lkp_c (P := OkP 253) ⟨ok_put ⟨"TollRoad$Bill", q2648, Or.inl rfl⟩ rfl fd_141 rfl dX18_copy_37, m_put⟩ (
  lkp_c (P := OkP 253) ⟨(PuOK.ok (ok_aload_n dX18_copy_40 rfl)), m_aload⟩ (
  lkp_c (P := OkP 253) ⟨(PuOK.ok (ok_aload_n dX18_copy_41 rfl)), m_aload⟩ (
  lkp_c (P := OkP 253) ⟨ok_get ⟨"TollRoad$Bill", q2651, Or.inl rfl⟩ dX18_copy_42, m_get⟩ (
  lkp_c (P := OkP 253) ⟨ok_put ⟨"TollRoad$Bill", q2651, Or.inl rfl⟩ rfl fd_142 rfl dX18_copy_45, m_put⟩ (
  lkp_c (P := OkP 253) ⟨(PuOK.ok (ok_aload_n dX18_copy_48 rfl)), m_aload⟩ (
  lkp_c (P := OkP 253) ⟨ok_aret rfl (Or.inl ⟨_, rfl⟩) dX18_copy_49, m_ret⟩ (
  trivial))))))))))))))))))))))))))
theorem mt_253 : MtOK TB NT IT 253 := ⟨by decide +kernel, rfl, (fun h => by cases h), Or.inl ⟨rfl, rfl⟩, rfl, by decide, lk2_all (P := OkP 253) ⟨c_253_0, trivial⟩⟩
def dkwX19_amount_0 : List UInt8 := [42, 185, 0, 3, 1, 0, 42, 27, 185, 0, 9, 2, 0, 100, 28, 96, 29, 96, 172]
abbrev dktX19_amount_0 : List UInt8 := dkwX19_amount_0 ++ []
theorem dksX19_amount_0 : cX19_amount.data.toList.drop 0 = dktX19_amount_0 := by decide +kernel
theorem dX19_amount_0 : decode cX19_amount 0 = .ok (.aload_n 0, 1) := dk_42 (dk_at dksX19_amount_0 0 rfl rfl)
theorem dX19_amount_1 : decode cX19_amount 1 = .ok (.invokeinterface 3 1, 5) := by decide +kernel
theorem dX19_amount_6 : decode cX19_amount 6 = .ok (.aload_n 0, 1) := dk_42 (dk_at dksX19_amount_0 6 rfl rfl)
theorem dX19_amount_7 : decode cX19_amount 7 = .ok (.iload_n 1, 1) := dk_27 (dk_at dksX19_amount_0 7 rfl rfl)
theorem dX19_amount_8 : decode cX19_amount 8 = .ok (.invokeinterface 9 2, 5) := by decide +kernel
theorem dX19_amount_13 : decode cX19_amount 13 = .ok (.isub, 1) := dk_100 (dk_at dksX19_amount_0 13 rfl rfl)
theorem dX19_amount_14 : decode cX19_amount 14 = .ok (.iload_n 2, 1) := dk_28 (dk_at dksX19_amount_0 14 rfl rfl)
theorem dX19_amount_15 : decode cX19_amount 15 = .ok (.iadd, 1) := dk_96 (dk_at dksX19_amount_0 15 rfl rfl)
theorem dX19_amount_16 : decode cX19_amount 16 = .ok (.iload_n 3, 1) := dk_29 (dk_at dksX19_amount_0 16 rfl rfl)
theorem dX19_amount_17 : decode cX19_amount 17 = .ok (.iadd, 1) := dk_96 (dk_at dksX19_amount_0 17 rfl rfl)
theorem dX19_amount_18 : decode cX19_amount 18 = .ok (.ireturn, 1) := dk_172 (dk_at dksX19_amount_0 18 rfl rfl)
theorem c_254_0 : LkP (OkP 254) [(0, o_aload 0 1), (1, o_cv [(26, 246)] 0 5 false none), (6, o_aload 0 1), (7, o_iload 1 1), (8, o_cv [(26, 255)] 1 5 false none), (13, o_iop (fun x y => x - y)), (14, o_iload 2 1), (15, o_iop (fun x y => x + y)), (16, o_iload 3 1), (17, o_iop (fun x y => x + y)), (18, o_ret 1)] := lkp_c (P := OkP 254) ⟨(PuOK.ok (ok_aload_n dX19_amount_0 rfl)), m_aload⟩ (
  lkp_c (P := OkP 254) ⟨ok_cv (List.forall_mem_cons.mpr ⟨tg_F (ci := 26) (r := CLr 26) (y := 246) rfl ⟨rfl, by decide⟩ q2613 q2617 q2546 q173 q2548 q2615 q2614 q2619 q2618 q2616 ⟨cn_49.1, cn_49.2, pd_13⟩ dX19_amount_1, (List.forall_mem_nil _)⟩) hd_no, m_cv⟩ (
  lkp_c (P := OkP 254) ⟨(PuOK.ok (ok_aload_n dX19_amount_6 rfl)), m_aload⟩ (
  lkp_c (P := OkP 254) ⟨(PuOK.ok (ok_iload_n dX19_amount_7 rfl)), m_iload⟩ (
  lkp_c (P := OkP 254) ⟨ok_cv (List.forall_mem_cons.mpr ⟨tg_D (ci := 26) (r := CLr 26) (y := 255) rfl ⟨rfl, by decide⟩ q2621 (by decide +kernel) rfl q2625 q175 q2627 q2623 q2622 q2626 q2624 q2616 ⟨cn_49.1, cn_49.2, pd_48⟩ dX19_amount_8, (List.forall_mem_nil _)⟩) hd_no, m_cv⟩ (
  lkp_c (P := OkP 254) ⟨(PuOK.ok (ok_isub dX19_amount_13)), m_iop⟩ (
  lkp_c (P := OkP 254) ⟨(PuOK.ok (ok_iload_n dX19_amount_14 rfl)), m_iload⟩ (
  lkp_c (P := OkP 254) ⟨(PuOK.ok (ok_iadd dX19_amount_15)), m_iop⟩ (
  lkp_c (P := OkP 254) ⟨(PuOK.ok (ok_iload_n dX19_amount_16 rfl)), m_iload⟩ (
  lkp_c (P := OkP 254) ⟨(PuOK.ok (ok_iadd dX19_amount_17)), m_iop⟩ (
  lkp_c (P := OkP 254) ⟨ok_iret rfl rfl (by decide) dX19_amount_18, m_ret⟩ (
  trivial)))))))))))
theorem mt_254 : MtOK TB NT IT 254 := ⟨by decide +kernel, rfl, (fun h => by cases h), Or.inl ⟨rfl, rfl⟩, rfl, by decide, lk2_all (P := OkP 254) ⟨c_254_0, trivial⟩⟩
def dkwX19_discount_0 : List UInt8 := [42, 185, 0, 3, 1, 0, 27, 104, 16, 100, 108, 172]
abbrev dktX19_discount_0 : List UInt8 := dkwX19_discount_0 ++ []
theorem dksX19_discount_0 : cX19_discount.data.toList.drop 0 = dktX19_discount_0 := by decide +kernel
theorem dX19_discount_0 : decode cX19_discount 0 = .ok (.aload_n 0, 1) := dk_42 (dk_at dksX19_discount_0 0 rfl rfl)
theorem dX19_discount_1 : decode cX19_discount 1 = .ok (.invokeinterface 3 1, 5) := by decide +kernel
theorem dX19_discount_6 : decode cX19_discount 6 = .ok (.iload_n 1, 1) := dk_27 (dk_at dksX19_discount_0 6 rfl rfl)
theorem dX19_discount_7 : decode cX19_discount 7 = .ok (.imul, 1) := dk_104 (dk_at dksX19_discount_0 7 rfl rfl)
theorem dX19_discount_8 : decode cX19_discount 8 = .ok (.bipush 100, 2) := dk_16 100 (dk_at dksX19_discount_0 8 rfl rfl)
theorem dX19_discount_10 : decode cX19_discount 10 = .ok (.idiv, 1) := dk_108 (dk_at dksX19_discount_0 10 rfl rfl)
theorem dX19_discount_11 : decode cX19_discount 11 = .ok (.ireturn, 1) := dk_172 (dk_at dksX19_discount_0 11 rfl rfl)
theorem c_255_0 : LkP (OkP 255) [(0, o_aload 0 1), (1, o_cv [(26, 246)] 0 5 false none), (6, o_iload 1 1), (7, o_iop (fun x y => x * y)), (8, o_push 2 (.int 100)), (10, o_iopz (fun x y => x / y)), (11, o_ret 1)] := lkp_c (P := OkP 255) ⟨(PuOK.ok (ok_aload_n dX19_discount_0 rfl)), m_aload⟩ (
  lkp_c (P := OkP 255) ⟨ok_cv (List.forall_mem_cons.mpr ⟨tg_F (ci := 26) (r := CLr 26) (y := 246) rfl ⟨rfl, by decide⟩ q2613 q2617 q2546 q173 q2548 q2615 q2614 q2619 q2618 q2616 ⟨cn_49.1, cn_49.2, pd_13⟩ dX19_discount_1, (List.forall_mem_nil _)⟩) hd_no, m_cv⟩ (
  lkp_c (P := OkP 255) ⟨(PuOK.ok (ok_iload_n dX19_discount_6 rfl)), m_iload⟩ (
  lkp_c (P := OkP 255) ⟨(PuOK.ok (ok_imul dX19_discount_7)), m_iop⟩ (
  lkp_c (P := OkP 255) ⟨(PuOK.ok (ok_bipush dX19_discount_8 rfl)), m_push⟩ (
  lkp_c (P := OkP 255) ⟨(PuOK.ok (ok_idiv dX19_discount_10)), m_iopz⟩ (
  lkp_c (P := OkP 255) ⟨ok_iret rfl rfl (by decide) dX19_discount_11, m_ret⟩ (
  trivial)))))))
theorem mt_255 : MtOK TB NT IT 255 := ⟨by decide +kernel, rfl, (fun h => by cases h), Or.inl ⟨rfl, rfl⟩, rfl, by decide, lk2_all (P := OkP 255) ⟨c_255_0, trivial⟩⟩
def dkwX2_init_5 : List UInt8 := [181, 0, 46, 177]
abbrev dktX2_init_5 : List UInt8 := dkwX2_init_5 ++ []
def dkwX2_init_4 : List UInt8 := [181, 0, 37, 42, 187, 0, 28, 89, 7, 183, 0, 30, 181, 0, 40, 42, 187, 0, 43, 89, 183, 0, 45]
abbrev dktX2_init_4 : List UInt8 := dkwX2_init_4 ++ dktX2_init_5
def dkwX2_init_3 : List UInt8 := [181, 0, 24, 42, 187, 0, 28, 89, 7, 183, 0, 30, 181, 0, 33, 42, 187, 0, 28, 89, 7, 183, 0, 30]
abbrev dktX2_init_3 : List UInt8 := dkwX2_init_3 ++ dktX2_init_4
def dkwX2_init_2 : List UInt8 := [89, 16, 6, 16, 25, 79, 89, 16, 7, 17, 0, 150, 79, 181, 0, 18, 42, 16, 8, 189, 0, 22]
abbrev dktX2_init_2 : List UInt8 := dkwX2_init_2 ++ dktX2_init_3
def dkwX2_init_1 : List UInt8 := [79, 89, 4, 8, 79, 89, 5, 5, 79, 89, 6, 16, 80, 79, 89, 7, 16, 70, 79, 89, 8, 16, 90, 79]
abbrev dktX2_init_1 : List UInt8 := dkwX2_init_1 ++ dktX2_init_2
def dkwX2_init_0 : List UInt8 := [42, 183, 0, 3, 42, 187, 0, 9, 89, 183, 0, 11, 181, 0, 12, 42, 16, 8, 188, 10, 89, 3, 16, 120]
abbrev dktX2_init_0 : List UInt8 := dkwX2_init_0 ++ dktX2_init_1
theorem dksX2_init_0 : cX2_init.data.toList.drop 0 = dktX2_init_0 := by decide +kernel
theorem dksX2_init_1 : cX2_init.data.toList.drop 24 = dktX2_init_1 := dk_seg dksX2_init_0 24 rfl rfl
theorem dksX2_init_2 : cX2_init.data.toList.drop 48 = dktX2_init_2 := dk_seg dksX2_init_1 24 rfl rfl
theorem dksX2_init_3 : cX2_init.data.toList.drop 70 = dktX2_init_3 := dk_seg dksX2_init_2 22 rfl rfl
theorem dksX2_init_4 : cX2_init.data.toList.drop 94 = dktX2_init_4 := dk_seg dksX2_init_3 24 rfl rfl
theorem dksX2_init_5 : cX2_init.data.toList.drop 117 = dktX2_init_5 := dk_seg dksX2_init_4 23 rfl rfl
theorem dX2_init_0 : decode cX2_init 0 = .ok (.aload_n 0, 1) := dk_42 (dk_at dksX2_init_0 0 rfl rfl)
theorem dX2_init_1 : decode cX2_init 1 = .ok (.invokespecial 3, 3) := dk_183 0 3 (dk_at dksX2_init_0 1 rfl rfl)
theorem dX2_init_4 : decode cX2_init 4 = .ok (.aload_n 0, 1) := dk_42 (dk_at dksX2_init_0 4 rfl rfl)
theorem dX2_init_5 : decode cX2_init 5 = .ok (.new 9, 3) := dk_187 0 9 (dk_at dksX2_init_0 5 rfl rfl)
theorem dX2_init_8 : decode cX2_init 8 = .ok (.dup, 1) := dk_89 (dk_at dksX2_init_0 8 rfl rfl)
theorem dX2_init_9 : decode cX2_init 9 = .ok (.invokespecial 11, 3) := dk_183 0 11 (dk_at dksX2_init_0 9 rfl rfl)
theorem dX2_init_12 : decode cX2_init 12 = .ok (.putfield 12, 3) := dk_181 0 12 (dk_at dksX2_init_0 12 rfl rfl)
theorem dX2_init_15 : decode cX2_init 15 = .ok (.aload_n 0, 1) := dk_42 (dk_at dksX2_init_0 15 rfl rfl)
theorem dX2_init_16 : decode cX2_init 16 = .ok (.bipush 8, 2) := dk_16 8 (dk_at dksX2_init_0 16 rfl rfl)
theorem dX2_init_18 : decode cX2_init 18 = .ok (.newarray .int, 2) := dk_188_10 (dk_at dksX2_init_0 18 rfl rfl)
theorem dX2_init_20 : decode cX2_init 20 = .ok (.dup, 1) := dk_89 (dk_at dksX2_init_0 20 rfl rfl)
theorem dX2_init_21 : decode cX2_init 21 = .ok (.iconst 0, 1) := dk_3 (dk_at dksX2_init_0 21 rfl rfl)
theorem dX2_init_22 : decode cX2_init 22 = .ok (.bipush 120, 2) := dk_16 120 (dk_at dksX2_init_0 22 rfl rfl)
theorem dX2_init_24 : decode cX2_init 24 = .ok (.iastore, 1) := dk_79 (dk_at dksX2_init_1 0 rfl rfl)
theorem dX2_init_25 : decode cX2_init 25 = .ok (.dup, 1) := dk_89 (dk_at dksX2_init_1 1 rfl rfl)
theorem dX2_init_26 : decode cX2_init 26 = .ok (.iconst 1, 1) := dk_4 (dk_at dksX2_init_1 2 rfl rfl)
theorem dX2_init_27 : decode cX2_init 27 = .ok (.iconst 5, 1) := dk_8 (dk_at dksX2_init_1 3 rfl rfl)
theorem dX2_init_28 : decode cX2_init 28 = .ok (.iastore, 1) := dk_79 (dk_at dksX2_init_1 4 rfl rfl)
theorem dX2_init_29 : decode cX2_init 29 = .ok (.dup, 1) := dk_89 (dk_at dksX2_init_1 5 rfl rfl)
theorem dX2_init_30 : decode cX2_init 30 = .ok (.iconst 2, 1) := dk_5 (dk_at dksX2_init_1 6 rfl rfl)
theorem dX2_init_31 : decode cX2_init 31 = .ok (.iconst 2, 1) := dk_5 (dk_at dksX2_init_1 7 rfl rfl)
theorem dX2_init_32 : decode cX2_init 32 = .ok (.iastore, 1) := dk_79 (dk_at dksX2_init_1 8 rfl rfl)
theorem dX2_init_33 : decode cX2_init 33 = .ok (.dup, 1) := dk_89 (dk_at dksX2_init_1 9 rfl rfl)
theorem dX2_init_34 : decode cX2_init 34 = .ok (.iconst 3, 1) := dk_6 (dk_at dksX2_init_1 10 rfl rfl)
theorem dX2_init_35 : decode cX2_init 35 = .ok (.bipush 80, 2) := dk_16 80 (dk_at dksX2_init_1 11 rfl rfl)
theorem dX2_init_37 : decode cX2_init 37 = .ok (.iastore, 1) := dk_79 (dk_at dksX2_init_1 13 rfl rfl)
theorem dX2_init_38 : decode cX2_init 38 = .ok (.dup, 1) := dk_89 (dk_at dksX2_init_1 14 rfl rfl)
theorem dX2_init_39 : decode cX2_init 39 = .ok (.iconst 4, 1) := dk_7 (dk_at dksX2_init_1 15 rfl rfl)
theorem dX2_init_40 : decode cX2_init 40 = .ok (.bipush 70, 2) := dk_16 70 (dk_at dksX2_init_1 16 rfl rfl)
theorem dX2_init_42 : decode cX2_init 42 = .ok (.iastore, 1) := dk_79 (dk_at dksX2_init_1 18 rfl rfl)
theorem dX2_init_43 : decode cX2_init 43 = .ok (.dup, 1) := dk_89 (dk_at dksX2_init_1 19 rfl rfl)
theorem dX2_init_44 : decode cX2_init 44 = .ok (.iconst 5, 1) := dk_8 (dk_at dksX2_init_1 20 rfl rfl)
theorem dX2_init_45 : decode cX2_init 45 = .ok (.bipush 90, 2) := dk_16 90 (dk_at dksX2_init_1 21 rfl rfl)
theorem dX2_init_47 : decode cX2_init 47 = .ok (.iastore, 1) := dk_79 (dk_at dksX2_init_1 23 rfl rfl)
theorem dX2_init_48 : decode cX2_init 48 = .ok (.dup, 1) := dk_89 (dk_at dksX2_init_2 0 rfl rfl)
theorem dX2_init_49 : decode cX2_init 49 = .ok (.bipush 6, 2) := dk_16 6 (dk_at dksX2_init_2 1 rfl rfl)
theorem dX2_init_51 : decode cX2_init 51 = .ok (.bipush 25, 2) := dk_16 25 (dk_at dksX2_init_2 3 rfl rfl)
theorem dX2_init_53 : decode cX2_init 53 = .ok (.iastore, 1) := dk_79 (dk_at dksX2_init_2 5 rfl rfl)
theorem dX2_init_54 : decode cX2_init 54 = .ok (.dup, 1) := dk_89 (dk_at dksX2_init_2 6 rfl rfl)
theorem dX2_init_55 : decode cX2_init 55 = .ok (.bipush 7, 2) := dk_16 7 (dk_at dksX2_init_2 7 rfl rfl)
theorem dX2_init_57 : decode cX2_init 57 = .ok (.sipush 150, 3) := dk_17 0 150 (dk_at dksX2_init_2 9 rfl rfl)
theorem dX2_init_60 : decode cX2_init 60 = .ok (.iastore, 1) := dk_79 (dk_at dksX2_init_2 12 rfl rfl)
theorem dX2_init_61 : decode cX2_init 61 = .ok (.putfield 18, 3) := dk_181 0 18 (dk_at dksX2_init_2 13 rfl rfl)
theorem dX2_init_64 : decode cX2_init 64 = .ok (.aload_n 0, 1) := dk_42 (dk_at dksX2_init_2 16 rfl rfl)
theorem dX2_init_65 : decode cX2_init 65 = .ok (.bipush 8, 2) := dk_16 8 (dk_at dksX2_init_2 17 rfl rfl)
theorem dX2_init_67 : decode cX2_init 67 = .ok (.anewarray 22, 3) := dk_189 0 22 (dk_at dksX2_init_2 19 rfl rfl)
theorem dX2_init_70 : decode cX2_init 70 = .ok (.putfield 24, 3) := dk_181 0 24 (dk_at dksX2_init_3 0 rfl rfl)
theorem dX2_init_73 : decode cX2_init 73 = .ok (.aload_n 0, 1) := dk_42 (dk_at dksX2_init_3 3 rfl rfl)
theorem dX2_init_74 : decode cX2_init 74 = .ok (.new 28, 3) := dk_187 0 28 (dk_at dksX2_init_3 4 rfl rfl)
theorem dX2_init_77 : decode cX2_init 77 = .ok (.dup, 1) := dk_89 (dk_at dksX2_init_3 7 rfl rfl)
theorem dX2_init_78 : decode cX2_init 78 = .ok (.iconst 4, 1) := dk_7 (dk_at dksX2_init_3 8 rfl rfl)
theorem dX2_init_79 : decode cX2_init 79 = .ok (.invokespecial 30, 3) := dk_183 0 30 (dk_at dksX2_init_3 9 rfl rfl)
theorem dX2_init_82 : decode cX2_init 82 = .ok (.putfield 33, 3) := dk_181 0 33 (dk_at dksX2_init_3 12 rfl rfl)
theorem dX2_init_85 : decode cX2_init 85 = .ok (.aload_n 0, 1) := dk_42 (dk_at dksX2_init_3 15 rfl rfl)
theorem dX2_init_86 : decode cX2_init 86 = .ok (.new 28, 3) := dk_187 0 28 (dk_at dksX2_init_3 16 rfl rfl)
theorem dX2_init_89 : decode cX2_init 89 = .ok (.dup, 1) := dk_89 (dk_at dksX2_init_3 19 rfl rfl)
theorem dX2_init_90 : decode cX2_init 90 = .ok (.iconst 4, 1) := dk_7 (dk_at dksX2_init_3 20 rfl rfl)
theorem dX2_init_91 : decode cX2_init 91 = .ok (.invokespecial 30, 3) := dk_183 0 30 (dk_at dksX2_init_3 21 rfl rfl)
theorem dX2_init_94 : decode cX2_init 94 = .ok (.putfield 37, 3) := dk_181 0 37 (dk_at dksX2_init_4 0 rfl rfl)
theorem dX2_init_97 : decode cX2_init 97 = .ok (.aload_n 0, 1) := dk_42 (dk_at dksX2_init_4 3 rfl rfl)
theorem dX2_init_98 : decode cX2_init 98 = .ok (.new 28, 3) := dk_187 0 28 (dk_at dksX2_init_4 4 rfl rfl)
theorem dX2_init_101 : decode cX2_init 101 = .ok (.dup, 1) := dk_89 (dk_at dksX2_init_4 7 rfl rfl)
theorem dX2_init_102 : decode cX2_init 102 = .ok (.iconst 4, 1) := dk_7 (dk_at dksX2_init_4 8 rfl rfl)
theorem dX2_init_103 : decode cX2_init 103 = .ok (.invokespecial 30, 3) := dk_183 0 30 (dk_at dksX2_init_4 9 rfl rfl)
theorem dX2_init_106 : decode cX2_init 106 = .ok (.putfield 40, 3) := dk_181 0 40 (dk_at dksX2_init_4 12 rfl rfl)
theorem dX2_init_109 : decode cX2_init 109 = .ok (.aload_n 0, 1) := dk_42 (dk_at dksX2_init_4 15 rfl rfl)
theorem dX2_init_110 : decode cX2_init 110 = .ok (.new 43, 3) := dk_187 0 43 (dk_at dksX2_init_4 16 rfl rfl)
theorem dX2_init_113 : decode cX2_init 113 = .ok (.dup, 1) := dk_89 (dk_at dksX2_init_4 19 rfl rfl)
theorem dX2_init_114 : decode cX2_init 114 = .ok (.invokespecial 45, 3) := dk_183 0 45 (dk_at dksX2_init_4 20 rfl rfl)
theorem dX2_init_117 : decode cX2_init 117 = .ok (.putfield 46, 3) := dk_181 0 46 (dk_at dksX2_init_5 0 rfl rfl)
theorem dX2_init_120 : decode cX2_init 120 = .ok (.return_, 1) := dk_177 (dk_at dksX2_init_5 3 rfl rfl)
theorem c_256_0 : LkP (OkP 256) [(0, o_aload 0 1), (1, o_oi), (4, o_aload 0 1), (5, o_new 2 4 dv2), (8, o_dup), (9, o_ci 282 0), (12, o_put 6 0), (15, o_aload 0 1), (16, o_push 2 (.int 8)), (18, o_newa 0 2), (20, o_dup), (21, o_push 1 (.int 0)), (22, o_push 2 (.int 120)), (24, o_wrI 0), (25, o_dup), (26, o_push 1 (.int 1)), (27, o_push 1 (.int 5)), (28, o_wrI 0), (29, o_dup), (30, o_push 1 (.int 2)), (31, o_push 1 (.int 2)), (32, o_wrI 0), (33, o_dup), (34, o_push 1 (.int 3)), (35, o_push 2 (.int 80)), (37, o_wrI 0), (38, o_dup), (39, o_push 1 (.int 4)), (40, o_push 2 (.int 70)), (42, o_wrI 0), (43, o_dup), (44, o_push 1 (.int 5)), (45, o_push 2 (.int 90)), (47, o_wrI 0), (48, o_dup), (49, o_push 2 (.int 6)), (51, o_push 2 (.int 25)), (53, o_wrI 0), (54, o_dup), (55, o_push 2 (.int 7)), (57, o_push 3 (.int 150)), (60, o_wrI 0), (61, o_put 7 0)] := lkp_c (P := OkP 256) ⟨(PuOK.ok (ok_aload_n dX2_init_0 rfl)), m_aload⟩ (
  lkp_c (P := OkP 256) ⟨ok_oi q195 q188 q_oi dX2_init_1, m_oi⟩ (
  lkp_c (P := OkP 256) ⟨(PuOK.ok (ok_aload_n dX2_init_4 rfl)), m_aload⟩ (
  lkp_c (P := OkP 256) ⟨ok_new (ci := 2) (r := CLr 2) rfl dvok_2 q196 q197 q117 dX2_init_5, m_new⟩ (
  lkp_c (P := OkP 256) ⟨(PuOK.ok (ok_dup dX2_init_8)), m_dup⟩ (
  lkp_c (P := OkP 256) ⟨ok_ci (tg_IN (rt := none) ⟨rfl, by decide⟩ rfl q198 q199 q117 q200 ⟨cn_40.1, cn_40.2, pd_0⟩ dX2_init_9) hd_no, m_ci⟩ (
  lkp_c (P := OkP 256) ⟨ok_put ⟨"TollRoad$World", q626, Or.inl rfl⟩ rfl fd_6 rfl dX2_init_12, m_put⟩ (
  lkp_c (P := OkP 256) ⟨(PuOK.ok (ok_aload_n dX2_init_15 rfl)), m_aload⟩ (
  lkp_c (P := OkP 256) ⟨(PuOK.ok (ok_bipush dX2_init_16 rfl)), m_push⟩ (
  lkp_c (P := OkP 256) ⟨ok_newa (by decide) rfl q224 dX2_init_18, m_newa⟩ (
  lkp_c (P := OkP 256) ⟨(PuOK.ok (ok_dup dX2_init_20)), m_dup⟩ (
  lkp_c (P := OkP 256) ⟨(PuOK.ok (ok_iconst dX2_init_21 rfl)), m_push⟩ (
  lkp_c (P := OkP 256) ⟨(PuOK.ok (ok_bipush dX2_init_22 rfl)), m_push⟩ (
  lkp_c (P := OkP 256) ⟨ok_iast dX2_init_24, m_wrI⟩ (
  lkp_c (P := OkP 256) ⟨(PuOK.ok (ok_dup dX2_init_25)), m_dup⟩ (
  lkp_c (P := OkP 256) ⟨(PuOK.ok (ok_iconst dX2_init_26 rfl)), m_push⟩ (
  lkp_c (P := OkP 256) ⟨(PuOK.ok (ok_iconst dX2_init_27 rfl)), m_push⟩ (
  lkp_c (P := OkP 256) ⟨ok_iast dX2_init_28, m_wrI⟩ (
  lkp_c (P := OkP 256) ⟨(PuOK.ok (ok_dup dX2_init_29)), m_dup⟩ (
  lkp_c (P := OkP 256) ⟨(PuOK.ok (ok_iconst dX2_init_30 rfl)), m_push⟩ (
  lkp_c (P := OkP 256) ⟨(PuOK.ok (ok_iconst dX2_init_31 rfl)), m_push⟩ (
  lkp_c (P := OkP 256) ⟨ok_iast dX2_init_32, m_wrI⟩ (
  lkp_c (P := OkP 256) ⟨(PuOK.ok (ok_dup dX2_init_33)), m_dup⟩ (
  lkp_c (P := OkP 256) ⟨(PuOK.ok (ok_iconst dX2_init_34 rfl)), m_push⟩ (
  lkp_c (P := OkP 256) ⟨(PuOK.ok (ok_bipush dX2_init_35 rfl)), m_push⟩ (
  lkp_c (P := OkP 256) ⟨ok_iast dX2_init_37, m_wrI⟩ (
  lkp_c (P := OkP 256) ⟨(PuOK.ok (ok_dup dX2_init_38)), m_dup⟩ (
  lkp_c (P := OkP 256) ⟨(PuOK.ok (ok_iconst dX2_init_39 rfl)), m_push⟩ (
  lkp_c (P := OkP 256) ⟨(PuOK.ok (ok_bipush dX2_init_40 rfl)), m_push⟩ (
  lkp_c (P := OkP 256) ⟨ok_iast dX2_init_42, m_wrI⟩ (
  lkp_c (P := OkP 256) ⟨(PuOK.ok (ok_dup dX2_init_43)), m_dup⟩ (
  lkp_c (P := OkP 256) ⟨(PuOK.ok (ok_iconst dX2_init_44 rfl)), m_push⟩ (
  lkp_c (P := OkP 256) ⟨(PuOK.ok (ok_bipush dX2_init_45 rfl)), m_push⟩ (
  lkp_c (P := OkP 256) ⟨ok_iast dX2_init_47, m_wrI⟩ (
  lkp_c (P := OkP 256) ⟨(PuOK.ok (ok_dup dX2_init_48)), m_dup⟩ (
  lkp_c (P := OkP 256) ⟨(PuOK.ok (ok_bipush dX2_init_49 rfl)), m_push⟩ (
  lkp_c (P := OkP 256) ⟨(PuOK.ok (ok_bipush dX2_init_51 rfl)), m_push⟩ (
  lkp_c (P := OkP 256) ⟨ok_iast dX2_init_53, m_wrI⟩ (
  lkp_c (P := OkP 256) ⟨(PuOK.ok (ok_dup dX2_init_54)), m_dup⟩ (
  lkp_c (P := OkP 256) ⟨(PuOK.ok (ok_bipush dX2_init_55 rfl)), m_push⟩ (
  lkp_c (P := OkP 256) ⟨(PuOK.ok (ok_sipush dX2_init_57 rfl)), m_push⟩ (
  lkp_c (P := OkP 256) ⟨ok_iast dX2_init_60, m_wrI⟩ (
  lkp_c (P := OkP 256) ⟨ok_put ⟨"TollRoad$World", q629, Or.inl rfl⟩ rfl fd_7 rfl dX2_init_61, m_put⟩ (
  trivial)))))))))))))))))))))))))))))))))))))))))))
theorem c_256_1 : LkP (OkP 256) [(64, o_aload 0 1), (65, o_push 2 (.int 8)), (67, o_newa 7 3), (70, o_put 8 0), (73, o_aload 0 1), (74, o_new 3 3 dv3), (77, o_dup), (78, o_push 1 (.int 4)), (79, o_ci 39 1), (82, o_put 10 0), (85, o_aload 0 1), (86, o_new 3 3 dv3), (89, o_dup), (90, o_push 1 (.int 4)), (91, o_ci 39 1), (94, o_put 11 0), (97, o_aload 0 1), (98, o_new 3 3 dv3), (101, o_dup), (102, o_push 1 (.int 4)), (103, o_ci 39 1), (106, o_put 12 0), (109, o_aload 0 1), (110, o_new 6 8 dv6), (113, o_dup), (114, o_ci 28 0), (117, o_put 13 0), (120, o_vret)] := lkp_c (P := OkP 256) ⟨(PuOK.ok (ok_aload_n dX2_init_64 rfl)), m_aload⟩ (
  lkp_c (P := OkP 256) ⟨(PuOK.ok (ok_bipush dX2_init_65 rfl)), m_push⟩ (
  lkp_c (P := OkP 256) ⟨ok_anew (by decide) (by decide) rfl q225 q226 dX2_init_67, m_newa⟩ (
  lkp_c (P := OkP 256) ⟨ok_putF q632 rfl rfl rfl fd_8 rfl dX2_init_70, m_put⟩ (
  lkp_c (P := OkP 256) ⟨(PuOK.ok (ok_aload_n dX2_init_73 rfl)), m_aload⟩ (
  lkp_c (P := OkP 256) ⟨ok_new (ci := 3) (r := CLr 3) rfl dvok_3 q227 q228 q120 dX2_init_74, m_new⟩ (
  lkp_c (P := OkP 256) ⟨(PuOK.ok (ok_dup dX2_init_77)), m_dup⟩ (
  lkp_c (P := OkP 256) ⟨(PuOK.ok (ok_iconst dX2_init_78 rfl)), m_push⟩ (
  lkp_c (P := OkP 256) ⟨ok_ci (tg_I (rt := none) ⟨rfl, by decide⟩ rfl q229 q230 q120 q231 ⟨cn_15.1, cn_15.2, pd_9⟩ dX2_init_79) hd_no, m_ci⟩ (
  lkp_c (P := OkP 256) ⟨ok_putF q637 rfl rfl rfl fd_10 rfl dX2_init_82, m_put⟩ (
  lkp_c (P := OkP 256) ⟨(PuOK.ok (ok_aload_n dX2_init_85 rfl)), m_aload⟩ (
  lkp_c (P := OkP 256) ⟨ok_new (ci := 3) (r := CLr 3) rfl dvok_3 q227 q228 q120 dX2_init_86, m_new⟩ (
  lkp_c (P := OkP 256) ⟨(PuOK.ok (ok_dup dX2_init_89)), m_dup⟩ (
  lkp_c (P := OkP 256) ⟨(PuOK.ok (ok_iconst dX2_init_90 rfl)), m_push⟩ (
  lkp_c (P := OkP 256) ⟨ok_ci (tg_I (rt := none) ⟨rfl, by decide⟩ rfl q229 q230 q120 q231 ⟨cn_15.1, cn_15.2, pd_9⟩ dX2_init_91) hd_no, m_ci⟩ (
  lkp_c (P := OkP 256) ⟨ok_putF q641 rfl rfl rfl fd_11 rfl dX2_init_94, m_put⟩ (
  lkp_c (P := OkP 256) ⟨(PuOK.ok (ok_aload_n dX2_init_97 rfl)), m_aload⟩ (
  lkp_c (P := OkP 256) ⟨ok_new (ci := 3) (r := CLr 3) rfl dvok_3 q227 q228 q120 dX2_init_98, m_new⟩ (
  lkp_c (P := OkP 256) ⟨(PuOK.ok (ok_dup dX2_init_101)), m_dup⟩ (
  lkp_c (P := OkP 256) ⟨(PuOK.ok (ok_iconst dX2_init_102 rfl)), m_push⟩ (
  lkp_c (P := OkP 256) ⟨ok_ci (tg_I (rt := none) ⟨rfl, by decide⟩ rfl q229 q230 q120 q231 ⟨cn_15.1, cn_15.2, pd_9⟩ dX2_init_103) hd_no, m_ci⟩ (
  lkp_c (P := OkP 256) ⟨ok_putF q643 rfl rfl rfl fd_12 rfl dX2_init_106, m_put⟩ (
  lkp_c (P := OkP 256) ⟨(PuOK.ok (ok_aload_n dX2_init_109 rfl)), m_aload⟩ (
  lkp_c (P := OkP 256) ⟨ok_new (ci := 6) (r := CLr 6) rfl dvok_6 q588 q589 q138 dX2_init_110, m_new⟩ (
  lkp_c (P := OkP 256) ⟨(PuOK.ok (ok_dup dX2_init_113)), m_dup⟩ (
  lkp_c (P := OkP 256) ⟨ok_ci (tg_I (rt := none) ⟨rfl, by decide⟩ rfl q590 q591 q138 q592 ⟨cn_9.1, cn_9.2, pd_0⟩ dX2_init_114) hd_no, m_ci⟩ (
  lkp_c (P := OkP 256) ⟨ok_putF q645 rfl rfl rfl fd_13 rfl dX2_init_117, m_put⟩ (
  lkp_c (P := OkP 256) ⟨ok_vret rfl dX2_init_120, m_vret⟩ (
  trivial))))))))))))))))))))))))))))
theorem mt_256 : MtOK TB NT IT 256 := ⟨by decide +kernel, rfl, fun _ => rfl, Or.inl ⟨rfl, rfl⟩, rfl, by decide, lk2_all (P := OkP 256) ⟨c_256_0, c_256_1, trivial⟩⟩
