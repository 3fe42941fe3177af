set_option maxRecDepth 100000
/-! each op is what its instruction does -/
def dkwX4_leastToll_1 : List UInt8 := [182, 1, 46, 167, 0, 8, 42, 4, 182, 0, 87, 172]
abbrev dktX4_leastToll_1 : List UInt8 := dkwX4_leastToll_1 ++ []
def dkwX4_leastToll_0 : List UInt8 := [42, 3, 181, 0, 81, 42, 27, 182, 0, 221, 153, 0, 20, 42, 28, 182, 0, 221, 153, 0, 12, 42, 27, 28]
abbrev dktX4_leastToll_0 : List UInt8 := dkwX4_leastToll_0 ++ dktX4_leastToll_1
theorem dksX4_leastToll_0 : cX4_leastToll.data.toList.drop 0 = dktX4_leastToll_0 := by decide +kernel
theorem dksX4_leastToll_1 : cX4_leastToll.data.toList.drop 24 = dktX4_leastToll_1 := dk_seg dksX4_leastToll_0 24 rfl rfl
theorem dX4_leastToll_0 : decode cX4_leastToll 0 = .ok (.aload_n 0, 1) := dk_42 (dk_at dksX4_leastToll_0 0 rfl rfl)
theorem dX4_leastToll_1 : decode cX4_leastToll 1 = .ok (.iconst 0, 1) := dk_3 (dk_at dksX4_leastToll_0 1 rfl rfl)
theorem dX4_leastToll_2 : decode cX4_leastToll 2 = .ok (.putfield 81, 3) := dk_181 0 81 (dk_at dksX4_leastToll_0 2 rfl rfl)
theorem dX4_leastToll_5 : decode cX4_leastToll 5 = .ok (.aload_n 0, 1) := dk_42 (dk_at dksX4_leastToll_0 5 rfl rfl)
theorem dX4_leastToll_6 : decode cX4_leastToll 6 = .ok (.iload_n 1, 1) := dk_27 (dk_at dksX4_leastToll_0 6 rfl rfl)
theorem dX4_leastToll_7 : decode cX4_leastToll 7 = .ok (.invokevirtual 221, 3) := dk_182 0 221 (dk_at dksX4_leastToll_0 7 rfl rfl)
theorem dX4_leastToll_10 : decode cX4_leastToll 10 = .ok (.ifCond .eq 20, 3) := dk_153 0 20 (dk_at dksX4_leastToll_0 10 rfl rfl)
theorem dX4_leastToll_13 : decode cX4_leastToll 13 = .ok (.aload_n 0, 1) := dk_42 (dk_at dksX4_leastToll_0 13 rfl rfl)
theorem dX4_leastToll_14 : decode cX4_leastToll 14 = .ok (.iload_n 2, 1) := dk_28 (dk_at dksX4_leastToll_0 14 rfl rfl)
theorem dX4_leastToll_15 : decode cX4_leastToll 15 = .ok (.invokevirtual 221, 3) := dk_182 0 221 (dk_at dksX4_leastToll_0 15 rfl rfl)
theorem dX4_leastToll_18 : decode cX4_leastToll 18 = .ok (.ifCond .eq 12, 3) := dk_153 0 12 (dk_at dksX4_leastToll_0 18 rfl rfl)
theorem dX4_leastToll_21 : decode cX4_leastToll 21 = .ok (.aload_n 0, 1) := dk_42 (dk_at dksX4_leastToll_0 21 rfl rfl)
theorem dX4_leastToll_22 : decode cX4_leastToll 22 = .ok (.iload_n 1, 1) := dk_27 (dk_at dksX4_leastToll_0 22 rfl rfl)
theorem dX4_leastToll_23 : decode cX4_leastToll 23 = .ok (.iload_n 2, 1) := dk_28 (dk_at dksX4_leastToll_0 23 rfl rfl)
theorem dX4_leastToll_24 : decode cX4_leastToll 24 = .ok (.invokevirtual 302, 3) := dk_182 1 46 (dk_at dksX4_leastToll_1 0 rfl rfl)
theorem dX4_leastToll_27 : decode cX4_leastToll 27 = .ok (.goto 8, 3) := dk_167 0 8 (dk_at dksX4_leastToll_1 3 rfl rfl)
theorem dX4_leastToll_30 : decode cX4_leastToll 30 = .ok (.aload_n 0, 1) := dk_42 (dk_at dksX4_leastToll_1 6 rfl rfl)
theorem dX4_leastToll_31 : decode cX4_leastToll 31 = .ok (.iconst 1, 1) := dk_4 (dk_at dksX4_leastToll_1 7 rfl rfl)
theorem dX4_leastToll_32 : decode cX4_leastToll 32 = .ok (.invokevirtual 87, 3) := dk_182 0 87 (dk_at dksX4_leastToll_1 8 rfl rfl)
theorem dX4_leastToll_35 : decode cX4_leastToll 35 = .ok (.ireturn, 1) := dk_172 (dk_at dksX4_leastToll_1 11 rfl rfl)
theorem c_349_0 : LkP (OkP 349) [(0, o_aload 0 1), (1, o_push 1 (.int 0)), (2, o_put 155 1), (5, o_aload 0 1), (6, o_iload 1 1), (7, o_cv [(30, 323)] 1 3 false none), (10, o_if (fun x => decide (x = 0)) 30), (13, o_aload 0 1), (14, o_iload 2 1), (15, o_cv [(30, 323)] 1 3 false none), (18, o_if (fun x => decide (x = 0)) 30), (21, o_aload 0 1), (22, o_iload 1 1), (23, o_iload 2 1), (24, o_cv [(30, 350)] 2 3 false none), (27, o_goto 35), (30, o_aload 0 1), (31, o_push 1 (.int 1)), (32, o_cv [(30, 291)] 1 3 false none), (35, o_ret 1)] := lkp_c (P := OkP 349) ⟨(PuOK.ok (ok_aload_n dX4_leastToll_0 rfl)), m_aload⟩ (
  lkp_c (P := OkP 349) ⟨(PuOK.ok (ok_iconst dX4_leastToll_1 rfl)), m_push⟩ (
  lkp_c (P := OkP 349) ⟨ok_put ⟨"TollRoadModel", q3087, Or.inl rfl⟩ rfl fd_155 rfl dX4_leastToll_2, m_put⟩ (
  lkp_c (P := OkP 349) ⟨(PuOK.ok (ok_aload_n dX4_leastToll_5 rfl)), m_aload⟩ (
  lkp_c (P := OkP 349) ⟨(PuOK.ok (ok_iload_n dX4_leastToll_6 rfl)), m_iload⟩ (
  lkp_c (P := OkP 349) ⟨ok_cv (List.forall_mem_cons.mpr ⟨tg_V (ci := 30) (r := CLr 30) (y := 323) rfl ⟨rfl, by decide⟩ rfl q3351 q3353 qs64 q139 q3354 ⟨cn_34.1, cn_34.2, pd_77⟩ dX4_leastToll_7, (List.forall_mem_nil _)⟩) hd_no, m_cv⟩ (
  lkp_c (P := OkP 349) ⟨(PuOK.ok (ok_if_eq dX4_leastToll_10 rfl)), m_if⟩ (
  lkp_c (P := OkP 349) ⟨(PuOK.ok (ok_aload_n dX4_leastToll_13 rfl)), m_aload⟩ (
  lkp_c (P := OkP 349) ⟨(PuOK.ok (ok_iload_n dX4_leastToll_14 rfl)), m_iload⟩ (
  lkp_c (P := OkP 349) ⟨ok_cv (List.forall_mem_cons.mpr ⟨tg_V (ci := 30) (r := CLr 30) (y := 323) rfl ⟨rfl, by decide⟩ rfl q3351 q3353 qs64 q139 q3354 ⟨cn_34.1, cn_34.2, pd_77⟩ dX4_leastToll_15, (List.forall_mem_nil _)⟩) hd_no, m_cv⟩ (
  lkp_c (P := OkP 349) ⟨(PuOK.ok (ok_if_eq dX4_leastToll_18 rfl)), m_if⟩ (
  lkp_c (P := OkP 349) ⟨(PuOK.ok (ok_aload_n dX4_leastToll_21 rfl)), m_aload⟩ (
  lkp_c (P := OkP 349) ⟨(PuOK.ok (ok_iload_n dX4_leastToll_22 rfl)), m_iload⟩ (
  lkp_c (P := OkP 349) ⟨(PuOK.ok (ok_iload_n dX4_leastToll_23 rfl)), m_iload⟩ (
  lkp_c (P := OkP 349) ⟨ok_cv (List.forall_mem_cons.mpr ⟨tg_V (ci := 30) (r := CLr 30) (y := 350) rfl ⟨rfl, by decide⟩ rfl q3463 q3465 qs80 q139 q3466 ⟨cn_34.1, cn_34.2, pd_1⟩ dX4_leastToll_24, (List.forall_mem_nil _)⟩) hd_no, m_cv⟩ (
  lkp_c (P := OkP 349) ⟨(PuOK.ok (ok_goto dX4_leastToll_27 rfl)), m_goto⟩ (
  lkp_c (P := OkP 349) ⟨(PuOK.ok (ok_aload_n dX4_leastToll_30 rfl)), m_aload⟩ (
  lkp_c (P := OkP 349) ⟨(PuOK.ok (ok_iconst dX4_leastToll_31 rfl)), m_push⟩ (
  lkp_c (P := OkP 349) ⟨ok_cv (List.forall_mem_cons.mpr ⟨tg_V (ci := 30) (r := CLr 30) (y := 291) rfl ⟨rfl, by decide⟩ rfl q3206 q3208 qs42 q139 q3209 ⟨cn_34.1, cn_34.2, pd_48⟩ dX4_leastToll_32, (List.forall_mem_nil _)⟩) hd_no, m_cv⟩ (
  lkp_c (P := OkP 349) ⟨ok_iret rfl rfl (by decide) dX4_leastToll_35, m_ret⟩ (
  trivial))))))))))))))))))))
theorem mt_349 : MtOK TB NT IT 349 := ⟨by decide +kernel, rfl, (fun h => by cases h), Or.inl ⟨rfl, rfl⟩, rfl, by decide, lk2_all (P := OkP 349) ⟨c_349_0, trivial⟩⟩
def dkwX4_leastTollOf_1 : List UInt8 := [2, 167, 0, 7, 42, 180, 1, 14, 172]
abbrev dktX4_leastTollOf_1 : List UInt8 := dkwX4_leastTollOf_1 ++ []
def dkwX4_leastTollOf_0 : List UInt8 := [27, 28, 160, 0, 5, 3, 172, 42, 27, 28, 3, 182, 1, 43, 42, 180, 1, 14, 19, 1, 35, 160, 0, 7]
abbrev dktX4_leastTollOf_0 : List UInt8 := dkwX4_leastTollOf_0 ++ dktX4_leastTollOf_1
theorem dksX4_leastTollOf_0 : cX4_leastTollOf.data.toList.drop 0 = dktX4_leastTollOf_0 := by decide +kernel
theorem dksX4_leastTollOf_1 : cX4_leastTollOf.data.toList.drop 24 = dktX4_leastTollOf_1 := dk_seg dksX4_leastTollOf_0 24 rfl rfl
theorem dX4_leastTollOf_0 : decode cX4_leastTollOf 0 = .ok (.iload_n 1, 1) := dk_27 (dk_at dksX4_leastTollOf_0 0 rfl rfl)
theorem dX4_leastTollOf_1 : decode cX4_leastTollOf 1 = .ok (.iload_n 2, 1) := dk_28 (dk_at dksX4_leastTollOf_0 1 rfl rfl)
theorem dX4_leastTollOf_2 : decode cX4_leastTollOf 2 = .ok (.if_icmp .ne 5, 3) := dk_160 0 5 (dk_at dksX4_leastTollOf_0 2 rfl rfl)
theorem dX4_leastTollOf_5 : decode cX4_leastTollOf 5 = .ok (.iconst 0, 1) := dk_3 (dk_at dksX4_leastTollOf_0 5 rfl rfl)
theorem dX4_leastTollOf_6 : decode cX4_leastTollOf 6 = .ok (.ireturn, 1) := dk_172 (dk_at dksX4_leastTollOf_0 6 rfl rfl)
theorem dX4_leastTollOf_7 : decode cX4_leastTollOf 7 = .ok (.aload_n 0, 1) := dk_42 (dk_at dksX4_leastTollOf_0 7 rfl rfl)
theorem dX4_leastTollOf_8 : decode cX4_leastTollOf 8 = .ok (.iload_n 1, 1) := dk_27 (dk_at dksX4_leastTollOf_0 8 rfl rfl)
theorem dX4_leastTollOf_9 : decode cX4_leastTollOf 9 = .ok (.iload_n 2, 1) := dk_28 (dk_at dksX4_leastTollOf_0 9 rfl rfl)
theorem dX4_leastTollOf_10 : decode cX4_leastTollOf 10 = .ok (.iconst 0, 1) := dk_3 (dk_at dksX4_leastTollOf_0 10 rfl rfl)
theorem dX4_leastTollOf_11 : decode cX4_leastTollOf 11 = .ok (.invokevirtual 299, 3) := dk_182 1 43 (dk_at dksX4_leastTollOf_0 11 rfl rfl)
theorem dX4_leastTollOf_14 : decode cX4_leastTollOf 14 = .ok (.aload_n 0, 1) := dk_42 (dk_at dksX4_leastTollOf_0 14 rfl rfl)
theorem dX4_leastTollOf_15 : decode cX4_leastTollOf 15 = .ok (.getfield 270, 3) := dk_180 1 14 (dk_at dksX4_leastTollOf_0 15 rfl rfl)
theorem dX4_leastTollOf_18 : decode cX4_leastTollOf 18 = .ok (.ldc_w 291, 3) := dk_19 1 35 (dk_at dksX4_leastTollOf_0 18 rfl rfl)
theorem dX4_leastTollOf_21 : decode cX4_leastTollOf 21 = .ok (.if_icmp .ne 7, 3) := dk_160 0 7 (dk_at dksX4_leastTollOf_0 21 rfl rfl)
theorem dX4_leastTollOf_24 : decode cX4_leastTollOf 24 = .ok (.iconst (-1), 1) := dk_2 (dk_at dksX4_leastTollOf_1 0 rfl rfl)
theorem dX4_leastTollOf_25 : decode cX4_leastTollOf 25 = .ok (.goto 7, 3) := dk_167 0 7 (dk_at dksX4_leastTollOf_1 1 rfl rfl)
theorem dX4_leastTollOf_28 : decode cX4_leastTollOf 28 = .ok (.aload_n 0, 1) := dk_42 (dk_at dksX4_leastTollOf_1 4 rfl rfl)
theorem dX4_leastTollOf_29 : decode cX4_leastTollOf 29 = .ok (.getfield 270, 3) := dk_180 1 14 (dk_at dksX4_leastTollOf_1 5 rfl rfl)
theorem dX4_leastTollOf_32 : decode cX4_leastTollOf 32 = .ok (.ireturn, 1) := dk_172 (dk_at dksX4_leastTollOf_1 8 rfl rfl)
theorem c_350_0 : LkP (OkP 350) [(0, o_iload 1 1), (1, o_iload 2 1), (2, o_icmp (fun x y => decide (¬ x = y)) 7), (5, o_push 1 (.int 0)), (6, o_ret 1), (7, o_aload 0 1), (8, o_iload 1 1), (9, o_iload 2 1), (10, o_push 1 (.int 0)), (11, o_cv [(30, 345)] 3 3 true none), (14, o_aload 0 1), (15, o_get 176), (18, o_push 3 (.int 1000000000)), (21, o_icmp (fun x y => decide (¬ x = y)) 28), (24, o_push 1 (.int (-1))), (25, o_goto 32), (28, o_aload 0 1), (29, o_get 176), (32, o_ret 1)] := lkp_c (P := OkP 350) ⟨(PuOK.ok (ok_iload_n dX4_leastTollOf_0 rfl)), m_iload⟩ (
  lkp_c (P := OkP 350) ⟨(PuOK.ok (ok_iload_n dX4_leastTollOf_1 rfl)), m_iload⟩ (
  lkp_c (P := OkP 350) ⟨(PuOK.ok (ok_icmp_ne dX4_leastTollOf_2 rfl)), m_icmp⟩ (
  lkp_c (P := OkP 350) ⟨(PuOK.ok (ok_iconst dX4_leastTollOf_5 rfl)), m_push⟩ (
  lkp_c (P := OkP 350) ⟨ok_iret rfl rfl (by decide) dX4_leastTollOf_6, m_ret⟩ (
  lkp_c (P := OkP 350) ⟨(PuOK.ok (ok_aload_n dX4_leastTollOf_7 rfl)), m_aload⟩ (
  lkp_c (P := OkP 350) ⟨(PuOK.ok (ok_iload_n dX4_leastTollOf_8 rfl)), m_iload⟩ (
  lkp_c (P := OkP 350) ⟨(PuOK.ok (ok_iload_n dX4_leastTollOf_9 rfl)), m_iload⟩ (
  lkp_c (P := OkP 350) ⟨(PuOK.ok (ok_iconst dX4_leastTollOf_10 rfl)), m_push⟩ (
  lkp_c (P := OkP 350) ⟨ok_cv (List.forall_mem_cons.mpr ⟨tg_V (ci := 30) (r := CLr 30) (y := 345) rfl ⟨rfl, by decide⟩ rfl q3440 q3442 qs77 q139 q3443 ⟨cn_34.1, cn_34.2, pd_105⟩ dX4_leastTollOf_11, (List.forall_mem_nil _)⟩) hd_no, m_cv⟩ (
  lkp_c (P := OkP 350) ⟨(PuOK.ok (ok_aload_n dX4_leastTollOf_14 rfl)), m_aload⟩ (
  lkp_c (P := OkP 350) ⟨ok_get ⟨"TollRoadModel", q3108, Or.inl rfl⟩ dX4_leastTollOf_15, m_get⟩ (
  lkp_c (P := OkP 350) ⟨(PuOK.ok (ok_ldcw q3444 dX4_leastTollOf_18)), m_push⟩ (
  lkp_c (P := OkP 350) ⟨(PuOK.ok (ok_icmp_ne dX4_leastTollOf_21 rfl)), m_icmp⟩ (
  lkp_c (P := OkP 350) ⟨(PuOK.ok (ok_iconst dX4_leastTollOf_24 rfl)), m_push⟩ (
  lkp_c (P := OkP 350) ⟨(PuOK.ok (ok_goto dX4_leastTollOf_25 rfl)), m_goto⟩ (
  lkp_c (P := OkP 350) ⟨(PuOK.ok (ok_aload_n dX4_leastTollOf_28 rfl)), m_aload⟩ (
  lkp_c (P := OkP 350) ⟨ok_get ⟨"TollRoadModel", q3108, Or.inl rfl⟩ dX4_leastTollOf_29, m_get⟩ (
  lkp_c (P := OkP 350) ⟨ok_iret rfl rfl (by decide) dX4_leastTollOf_32, m_ret⟩ (
  trivial)))))))))))))))))))
theorem mt_350 : MtOK TB NT IT 350 := ⟨by decide +kernel, rfl, (fun h => by cases h), Or.inl ⟨rfl, rfl⟩, rfl, by decide, lk2_all (P := OkP 350) ⟨c_350_0, trivial⟩⟩
def dkwX4_tagRead_3 : List UInt8 := [182, 1, 56, 172]
abbrev dktX4_tagRead_3 : List UInt8 := dkwX4_tagRead_3 ++ []
def dkwX4_tagRead_2 : List UInt8 := [16, 12, 46, 16, 120, 160, 0, 11, 42, 6, 182, 0, 87, 167, 0, 13, 42, 27, 28, 29, 3, 16, 100]
abbrev dktX4_tagRead_2 : List UInt8 := dkwX4_tagRead_2 ++ dktX4_tagRead_3
def dkwX4_tagRead_1 : List UInt8 := [182, 0, 87, 172, 29, 3, 18, 178, 184, 0, 91, 154, 0, 9, 42, 5, 182, 0, 87, 172, 42, 180, 0, 7]
abbrev dktX4_tagRead_1 : List UInt8 := dkwX4_tagRead_1 ++ dktX4_tagRead_2
def dkwX4_tagRead_0 : List UInt8 := [42, 3, 181, 0, 81, 42, 27, 182, 0, 255, 153, 0, 11, 42, 28, 182, 0, 221, 154, 0, 9, 42, 4]
abbrev dktX4_tagRead_0 : List UInt8 := dkwX4_tagRead_0 ++ dktX4_tagRead_1
theorem dksX4_tagRead_0 : cX4_tagRead.data.toList.drop 0 = dktX4_tagRead_0 := by decide +kernel
theorem dksX4_tagRead_1 : cX4_tagRead.data.toList.drop 23 = dktX4_tagRead_1 := dk_seg dksX4_tagRead_0 23 rfl rfl
theorem dksX4_tagRead_2 : cX4_tagRead.data.toList.drop 47 = dktX4_tagRead_2 := dk_seg dksX4_tagRead_1 24 rfl rfl
theorem dksX4_tagRead_3 : cX4_tagRead.data.toList.drop 70 = dktX4_tagRead_3 := dk_seg dksX4_tagRead_2 23 rfl rfl
theorem dX4_tagRead_0 : decode cX4_tagRead 0 = .ok (.aload_n 0, 1) := dk_42 (dk_at dksX4_tagRead_0 0 rfl rfl)
theorem dX4_tagRead_1 : decode cX4_tagRead 1 = .ok (.iconst 0, 1) := dk_3 (dk_at dksX4_tagRead_0 1 rfl rfl)
theorem dX4_tagRead_2 : decode cX4_tagRead 2 = .ok (.putfield 81, 3) := dk_181 0 81 (dk_at dksX4_tagRead_0 2 rfl rfl)
theorem dX4_tagRead_5 : decode cX4_tagRead 5 = .ok (.aload_n 0, 1) := dk_42 (dk_at dksX4_tagRead_0 5 rfl rfl)
theorem dX4_tagRead_6 : decode cX4_tagRead 6 = .ok (.iload_n 1, 1) := dk_27 (dk_at dksX4_tagRead_0 6 rfl rfl)
theorem dX4_tagRead_7 : decode cX4_tagRead 7 = .ok (.invokevirtual 255, 3) := dk_182 0 255 (dk_at dksX4_tagRead_0 7 rfl rfl)
theorem dX4_tagRead_10 : decode cX4_tagRead 10 = .ok (.ifCond .eq 11, 3) := dk_153 0 11 (dk_at dksX4_tagRead_0 10 rfl rfl)
theorem dX4_tagRead_13 : decode cX4_tagRead 13 = .ok (.aload_n 0, 1) := dk_42 (dk_at dksX4_tagRead_0 13 rfl rfl)
theorem dX4_tagRead_14 : decode cX4_tagRead 14 = .ok (.iload_n 2, 1) := dk_28 (dk_at dksX4_tagRead_0 14 rfl rfl)
theorem dX4_tagRead_15 : decode cX4_tagRead 15 = .ok (.invokevirtual 221, 3) := dk_182 0 221 (dk_at dksX4_tagRead_0 15 rfl rfl)
theorem dX4_tagRead_18 : decode cX4_tagRead 18 = .ok (.ifCond .ne 9, 3) := dk_154 0 9 (dk_at dksX4_tagRead_0 18 rfl rfl)
theorem dX4_tagRead_21 : decode cX4_tagRead 21 = .ok (.aload_n 0, 1) := dk_42 (dk_at dksX4_tagRead_0 21 rfl rfl)
theorem dX4_tagRead_22 : decode cX4_tagRead 22 = .ok (.iconst 1, 1) := dk_4 (dk_at dksX4_tagRead_0 22 rfl rfl)
theorem dX4_tagRead_23 : decode cX4_tagRead 23 = .ok (.invokevirtual 87, 3) := dk_182 0 87 (dk_at dksX4_tagRead_1 0 rfl rfl)
theorem dX4_tagRead_26 : decode cX4_tagRead 26 = .ok (.ireturn, 1) := dk_172 (dk_at dksX4_tagRead_1 3 rfl rfl)
theorem dX4_tagRead_27 : decode cX4_tagRead 27 = .ok (.iload_n 3, 1) := dk_29 (dk_at dksX4_tagRead_1 4 rfl rfl)
theorem dX4_tagRead_28 : decode cX4_tagRead 28 = .ok (.iconst 0, 1) := dk_3 (dk_at dksX4_tagRead_1 5 rfl rfl)
theorem dX4_tagRead_29 : decode cX4_tagRead 29 = .ok (.ldc 178, 2) := dk_18 178 (dk_at dksX4_tagRead_1 6 rfl rfl)
theorem dX4_tagRead_31 : decode cX4_tagRead 31 = .ok (.invokestatic 91, 3) := dk_184 0 91 (dk_at dksX4_tagRead_1 8 rfl rfl)
theorem dX4_tagRead_34 : decode cX4_tagRead 34 = .ok (.ifCond .ne 9, 3) := dk_154 0 9 (dk_at dksX4_tagRead_1 11 rfl rfl)
theorem dX4_tagRead_37 : decode cX4_tagRead 37 = .ok (.aload_n 0, 1) := dk_42 (dk_at dksX4_tagRead_1 14 rfl rfl)
theorem dX4_tagRead_38 : decode cX4_tagRead 38 = .ok (.iconst 2, 1) := dk_5 (dk_at dksX4_tagRead_1 15 rfl rfl)
theorem dX4_tagRead_39 : decode cX4_tagRead 39 = .ok (.invokevirtual 87, 3) := dk_182 0 87 (dk_at dksX4_tagRead_1 16 rfl rfl)
theorem dX4_tagRead_42 : decode cX4_tagRead 42 = .ok (.ireturn, 1) := dk_172 (dk_at dksX4_tagRead_1 19 rfl rfl)
theorem dX4_tagRead_43 : decode cX4_tagRead 43 = .ok (.aload_n 0, 1) := dk_42 (dk_at dksX4_tagRead_1 20 rfl rfl)
theorem dX4_tagRead_44 : decode cX4_tagRead 44 = .ok (.getfield 7, 3) := dk_180 0 7 (dk_at dksX4_tagRead_1 21 rfl rfl)
theorem dX4_tagRead_47 : decode cX4_tagRead 47 = .ok (.bipush 12, 2) := dk_16 12 (dk_at dksX4_tagRead_2 0 rfl rfl)
theorem dX4_tagRead_49 : decode cX4_tagRead 49 = .ok (.iaload, 1) := dk_46 (dk_at dksX4_tagRead_2 2 rfl rfl)
theorem dX4_tagRead_50 : decode cX4_tagRead 50 = .ok (.bipush 120, 2) := dk_16 120 (dk_at dksX4_tagRead_2 3 rfl rfl)
theorem dX4_tagRead_52 : decode cX4_tagRead 52 = .ok (.if_icmp .ne 11, 3) := dk_160 0 11 (dk_at dksX4_tagRead_2 5 rfl rfl)
theorem dX4_tagRead_55 : decode cX4_tagRead 55 = .ok (.aload_n 0, 1) := dk_42 (dk_at dksX4_tagRead_2 8 rfl rfl)
theorem dX4_tagRead_56 : decode cX4_tagRead 56 = .ok (.iconst 3, 1) := dk_6 (dk_at dksX4_tagRead_2 9 rfl rfl)
theorem dX4_tagRead_57 : decode cX4_tagRead 57 = .ok (.invokevirtual 87, 3) := dk_182 0 87 (dk_at dksX4_tagRead_2 10 rfl rfl)
theorem dX4_tagRead_60 : decode cX4_tagRead 60 = .ok (.goto 13, 3) := dk_167 0 13 (dk_at dksX4_tagRead_2 13 rfl rfl)
theorem dX4_tagRead_63 : decode cX4_tagRead 63 = .ok (.aload_n 0, 1) := dk_42 (dk_at dksX4_tagRead_2 16 rfl rfl)
theorem dX4_tagRead_64 : decode cX4_tagRead 64 = .ok (.iload_n 1, 1) := dk_27 (dk_at dksX4_tagRead_2 17 rfl rfl)
theorem dX4_tagRead_65 : decode cX4_tagRead 65 = .ok (.iload_n 2, 1) := dk_28 (dk_at dksX4_tagRead_2 18 rfl rfl)
theorem dX4_tagRead_66 : decode cX4_tagRead 66 = .ok (.iload_n 3, 1) := dk_29 (dk_at dksX4_tagRead_2 19 rfl rfl)
theorem dX4_tagRead_67 : decode cX4_tagRead 67 = .ok (.iconst 0, 1) := dk_3 (dk_at dksX4_tagRead_2 20 rfl rfl)
theorem dX4_tagRead_68 : decode cX4_tagRead 68 = .ok (.bipush 100, 2) := dk_16 100 (dk_at dksX4_tagRead_2 21 rfl rfl)
theorem dX4_tagRead_70 : decode cX4_tagRead 70 = .ok (.invokevirtual 312, 3) := dk_182 1 56 (dk_at dksX4_tagRead_3 0 rfl rfl)
theorem dX4_tagRead_73 : decode cX4_tagRead 73 = .ok (.ireturn, 1) := dk_172 (dk_at dksX4_tagRead_3 3 rfl rfl)
theorem c_351_0 : LkP (OkP 351) [(0, o_aload 0 1), (1, o_push 1 (.int 0)), (2, o_put 155 1), (5, o_aload 0 1), (6, o_iload 1 1), (7, o_cv [(30, 338)] 1 3 false none), (10, o_if (fun x => decide (x = 0)) 21), (13, o_aload 0 1), (14, o_iload 2 1), (15, o_cv [(30, 323)] 1 3 false none), (18, o_if (fun x => decide (¬ x = 0)) 27), (21, o_aload 0 1), (22, o_push 1 (.int 1)), (23, o_cv [(30, 291)] 1 3 false none), (26, o_ret 1), (27, o_iload 3 1), (28, o_push 1 (.int 0)), (29, o_push 2 (.int 100000)), (31, o_cs 293 3 false none), (34, o_if (fun x => decide (¬ x = 0)) 43), (37, o_aload 0 1), (38, o_push 1 (.int 2)), (39, o_cv [(30, 291)] 1 3 false none), (42, o_ret 1), (43, o_aload 0 1), (44, o_get 148), (47, o_push 2 (.int 12)), (49, o_rdI 0), (50, o_push 2 (.int 120)), (52, o_icmp (fun x y => decide (¬ x = y)) 63), (55, o_aload 0 1), (56, o_push 1 (.int 3)), (57, o_cv [(30, 291)] 1 3 false none), (60, o_goto 73), (63, o_aload 0 1)] := lkp_c (P := OkP 351) ⟨(PuOK.ok (ok_aload_n dX4_tagRead_0 rfl)), m_aload⟩ (
  lkp_c (P := OkP 351) ⟨(PuOK.ok (ok_iconst dX4_tagRead_1 rfl)), m_push⟩ (
  lkp_c (P := OkP 351) ⟨ok_put ⟨"TollRoadModel", q3087, Or.inl rfl⟩ rfl fd_155 rfl dX4_tagRead_2, m_put⟩ (
  lkp_c (P := OkP 351) ⟨(PuOK.ok (ok_aload_n dX4_tagRead_5 rfl)), m_aload⟩ (
  lkp_c (P := OkP 351) ⟨(PuOK.ok (ok_iload_n dX4_tagRead_6 rfl)), m_iload⟩ (
  lkp_c (P := OkP 351) ⟨ok_cv (List.forall_mem_cons.mpr ⟨tg_V (ci := 30) (r := CLr 30) (y := 338) rfl ⟨rfl, by decide⟩ rfl q3411 q3413 qs72 q139 q3414 ⟨cn_34.1, cn_34.2, pd_77⟩ dX4_tagRead_7, (List.forall_mem_nil _)⟩) hd_no, m_cv⟩ (
  lkp_c (P := OkP 351) ⟨(PuOK.ok (ok_if_eq dX4_tagRead_10 rfl)), m_if⟩ (
  lkp_c (P := OkP 351) ⟨(PuOK.ok (ok_aload_n dX4_tagRead_13 rfl)), m_aload⟩ (
  lkp_c (P := OkP 351) ⟨(PuOK.ok (ok_iload_n dX4_tagRead_14 rfl)), m_iload⟩ (
  lkp_c (P := OkP 351) ⟨ok_cv (List.forall_mem_cons.mpr ⟨tg_V (ci := 30) (r := CLr 30) (y := 323) rfl ⟨rfl, by decide⟩ rfl q3351 q3353 qs64 q139 q3354 ⟨cn_34.1, cn_34.2, pd_77⟩ dX4_tagRead_15, (List.forall_mem_nil _)⟩) hd_no, m_cv⟩ (
  lkp_c (P := OkP 351) ⟨(PuOK.ok (ok_if_ne dX4_tagRead_18 rfl)), m_if⟩ (
  lkp_c (P := OkP 351) ⟨(PuOK.ok (ok_aload_n dX4_tagRead_21 rfl)), m_aload⟩ (
  lkp_c (P := OkP 351) ⟨(PuOK.ok (ok_iconst dX4_tagRead_22 rfl)), m_push⟩ (
  lkp_c (P := OkP 351) ⟨ok_cv (List.forall_mem_cons.mpr ⟨tg_V (ci := 30) (r := CLr 30) (y := 291) rfl ⟨rfl, by decide⟩ rfl q3206 q3208 qs42 q139 q3209 ⟨cn_34.1, cn_34.2, pd_48⟩ dX4_tagRead_23, (List.forall_mem_nil _)⟩) hd_no, m_cv⟩ (
  lkp_c (P := OkP 351) ⟨ok_iret rfl rfl (by decide) dX4_tagRead_26, m_ret⟩ (
  lkp_c (P := OkP 351) ⟨(PuOK.ok (ok_iload_n dX4_tagRead_27 rfl)), m_iload⟩ (
  lkp_c (P := OkP 351) ⟨(PuOK.ok (ok_iconst dX4_tagRead_28 rfl)), m_push⟩ (
  lkp_c (P := OkP 351) ⟨(PuOK.ok (ok_ldc q3308 dX4_tagRead_29)), m_push⟩ (
  lkp_c (P := OkP 351) ⟨ok_cs (tg_S ⟨rfl, by decide⟩ q3214 q3215 q139 q3216 ⟨cn_34.1, cn_34.2, pd_121⟩ dX4_tagRead_31) hd_no, m_cs⟩ (
  lkp_c (P := OkP 351) ⟨(PuOK.ok (ok_if_ne dX4_tagRead_34 rfl)), m_if⟩ (
  lkp_c (P := OkP 351) ⟨(PuOK.ok (ok_aload_n dX4_tagRead_37 rfl)), m_aload⟩ (
  lkp_c (P := OkP 351) ⟨(PuOK.ok (ok_iconst dX4_tagRead_38 rfl)), m_push⟩ (
  lkp_c (P := OkP 351) ⟨ok_cv (List.forall_mem_cons.mpr ⟨tg_V (ci := 30) (r := CLr 30) (y := 291) rfl ⟨rfl, by decide⟩ rfl q3206 q3208 qs42 q139 q3209 ⟨cn_34.1, cn_34.2, pd_48⟩ dX4_tagRead_39, (List.forall_mem_nil _)⟩) hd_no, m_cv⟩ (
  lkp_c (P := OkP 351) ⟨ok_iret rfl rfl (by decide) dX4_tagRead_42, m_ret⟩ (
  lkp_c (P := OkP 351) ⟨(PuOK.ok (ok_aload_n dX4_tagRead_43 rfl)), m_aload⟩ (
  lkp_c (P := OkP 351) ⟨ok_get ⟨"TollRoadModel", q3080, Or.inl rfl⟩ dX4_tagRead_44, m_get⟩ (
  lkp_c (P := OkP 351) ⟨(PuOK.ok (ok_bipush dX4_tagRead_47 rfl)), m_push⟩ (
  lkp_c (P := OkP 351) ⟨ok_iald dX4_tagRead_49, m_rdI⟩ (
  lkp_c (P := OkP 351) ⟨(PuOK.ok (ok_bipush dX4_tagRead_50 rfl)), m_push⟩ (
  lkp_c (P := OkP 351) ⟨(PuOK.ok (ok_icmp_ne dX4_tagRead_52 rfl)), m_icmp⟩ (
  lkp_c (P := OkP 351) ⟨(PuOK.ok (ok_aload_n dX4_tagRead_55 rfl)), m_aload⟩ (
  lkp_c (P := OkP 351) ⟨(PuOK.ok (ok_iconst dX4_tagRead_56 rfl)), m_push⟩ (
  lkp_c (P := OkP 351) ⟨ok_cv (List.forall_mem_cons.mpr ⟨tg_V (ci := 30) (r := CLr 30) (y := 291) rfl ⟨rfl, by decide⟩ rfl q3206 q3208 qs42 q139 q3209 ⟨cn_34.1, cn_34.2, pd_48⟩ dX4_tagRead_57, (List.forall_mem_nil _)⟩) hd_no, m_cv⟩ (
  lkp_c (P := OkP 351) ⟨(PuOK.ok (ok_goto dX4_tagRead_60 rfl)), m_goto⟩ (
  lkp_c (P := OkP 351) ⟨(PuOK.ok (ok_aload_n dX4_tagRead_63 rfl)), m_aload⟩ (
  trivial)))))))))))))))))))))))))))))))))))
theorem c_351_1 : LkP (OkP 351) [(64, o_iload 1 1), (65, o_iload 2 1), (66, o_iload 3 1), (67, o_push 1 (.int 0)), (68, o_push 2 (.int 100)), (70, o_cv [(30, 352)] 5 3 false none), (73, o_ret 1)] := lkp_c (P := OkP 351) ⟨(PuOK.ok (ok_iload_n dX4_tagRead_64 rfl)), m_iload⟩ (
  lkp_c (P := OkP 351) ⟨(PuOK.ok (ok_iload_n dX4_tagRead_65 rfl)), m_iload⟩ (
  lkp_c (P := OkP 351) ⟨(PuOK.ok (ok_iload_n dX4_tagRead_66 rfl)), m_iload⟩ (
  lkp_c (P := OkP 351) ⟨(PuOK.ok (ok_iconst dX4_tagRead_67 rfl)), m_push⟩ (
  lkp_c (P := OkP 351) ⟨(PuOK.ok (ok_bipush dX4_tagRead_68 rfl)), m_push⟩ (
  lkp_c (P := OkP 351) ⟨ok_cv (List.forall_mem_cons.mpr ⟨tg_V (ci := 30) (r := CLr 30) (y := 352) rfl ⟨rfl, by decide⟩ rfl q3471 q3473 qs81 q139 q3474 ⟨cn_34.1, cn_34.2, pd_127⟩ dX4_tagRead_70, (List.forall_mem_nil _)⟩) hd_no, m_cv⟩ (
  lkp_c (P := OkP 351) ⟨ok_iret rfl rfl (by decide) dX4_tagRead_73, m_ret⟩ (
  trivial)))))))
theorem mt_351 : MtOK TB NT IT 351 := ⟨by decide +kernel, rfl, (fun h => by cases h), Or.inl ⟨rfl, rfl⟩, rfl, by decide, lk2_all (P := OkP 351) ⟨c_351_0, c_351_1, trivial⟩⟩
def dkwX4_appendRead_4 : List UInt8 := [161, 0, 9, 42, 21, 6, 182, 1, 52, 21, 6, 172]
abbrev dktX4_appendRead_4 : List UInt8 := dkwX4_appendRead_4 ++ []
def dkwX4_appendRead_3 : List UInt8 := [180, 0, 7, 16, 12, 92, 46, 4, 96, 79, 21, 4, 153, 0, 13, 21, 5, 42, 7, 182, 0, 231]
abbrev dktX4_appendRead_3 : List UInt8 := dkwX4_appendRead_3 ++ dktX4_appendRead_4
def dkwX4_appendRead_2 : List UInt8 := [21, 5, 182, 1, 49, 42, 21, 6, 8, 3, 182, 1, 49, 42, 21, 6, 16, 6, 2, 182, 1, 49, 42]
abbrev dktX4_appendRead_2 : List UInt8 := dkwX4_appendRead_2 ++ dktX4_appendRead_3
def dkwX4_appendRead_1 : List UInt8 := [182, 1, 49, 42, 21, 6, 5, 29, 182, 1, 49, 42, 21, 6, 6, 21, 4, 182, 1, 49, 42, 21, 6, 7]
abbrev dktX4_appendRead_1 : List UInt8 := dkwX4_appendRead_1 ++ dktX4_appendRead_2
def dkwX4_appendRead_0 : List UInt8 := [42, 180, 0, 7, 16, 12, 46, 54, 6, 42, 21, 6, 3, 27, 182, 1, 49, 42, 21, 6, 4, 28]
abbrev dktX4_appendRead_0 : List UInt8 := dkwX4_appendRead_0 ++ dktX4_appendRead_1
theorem dksX4_appendRead_0 : cX4_appendRead.data.toList.drop 0 = dktX4_appendRead_0 := by decide +kernel
theorem dksX4_appendRead_1 : cX4_appendRead.data.toList.drop 22 = dktX4_appendRead_1 := dk_seg dksX4_appendRead_0 22 rfl rfl
theorem dksX4_appendRead_2 : cX4_appendRead.data.toList.drop 46 = dktX4_appendRead_2 := dk_seg dksX4_appendRead_1 24 rfl rfl
theorem dksX4_appendRead_3 : cX4_appendRead.data.toList.drop 69 = dktX4_appendRead_3 := dk_seg dksX4_appendRead_2 23 rfl rfl
theorem dksX4_appendRead_4 : cX4_appendRead.data.toList.drop 91 = dktX4_appendRead_4 := dk_seg dksX4_appendRead_3 22 rfl rfl
theorem dX4_appendRead_0 : decode cX4_appendRead 0 = .ok (.aload_n 0, 1) := dk_42 (dk_at dksX4_appendRead_0 0 rfl rfl)
theorem dX4_appendRead_1 : decode cX4_appendRead 1 = .ok (.getfield 7, 3) := dk_180 0 7 (dk_at dksX4_appendRead_0 1 rfl rfl)
theorem dX4_appendRead_4 : decode cX4_appendRead 4 = .ok (.bipush 12, 2) := dk_16 12 (dk_at dksX4_appendRead_0 4 rfl rfl)
theorem dX4_appendRead_6 : decode cX4_appendRead 6 = .ok (.iaload, 1) := dk_46 (dk_at dksX4_appendRead_0 6 rfl rfl)
theorem dX4_appendRead_7 : decode cX4_appendRead 7 = .ok (.istore 6, 2) := dk_54 6 (dk_at dksX4_appendRead_0 7 rfl rfl)
theorem dX4_appendRead_9 : decode cX4_appendRead 9 = .ok (.aload_n 0, 1) := dk_42 (dk_at dksX4_appendRead_0 9 rfl rfl)
theorem dX4_appendRead_10 : decode cX4_appendRead 10 = .ok (.iload 6, 2) := dk_21 6 (dk_at dksX4_appendRead_0 10 rfl rfl)
theorem dX4_appendRead_12 : decode cX4_appendRead 12 = .ok (.iconst 0, 1) := dk_3 (dk_at dksX4_appendRead_0 12 rfl rfl)
theorem dX4_appendRead_13 : decode cX4_appendRead 13 = .ok (.iload_n 1, 1) := dk_27 (dk_at dksX4_appendRead_0 13 rfl rfl)
theorem dX4_appendRead_14 : decode cX4_appendRead 14 = .ok (.invokevirtual 305, 3) := dk_182 1 49 (dk_at dksX4_appendRead_0 14 rfl rfl)
theorem dX4_appendRead_17 : decode cX4_appendRead 17 = .ok (.aload_n 0, 1) := dk_42 (dk_at dksX4_appendRead_0 17 rfl rfl)
theorem dX4_appendRead_18 : decode cX4_appendRead 18 = .ok (.iload 6, 2) := dk_21 6 (dk_at dksX4_appendRead_0 18 rfl rfl)
theorem dX4_appendRead_20 : decode cX4_appendRead 20 = .ok (.iconst 1, 1) := dk_4 (dk_at dksX4_appendRead_0 20 rfl rfl)
theorem dX4_appendRead_21 : decode cX4_appendRead 21 = .ok (.iload_n 2, 1) := dk_28 (dk_at dksX4_appendRead_0 21 rfl rfl)
theorem dX4_appendRead_22 : decode cX4_appendRead 22 = .ok (.invokevirtual 305, 3) := dk_182 1 49 (dk_at dksX4_appendRead_1 0 rfl rfl)
theorem dX4_appendRead_25 : decode cX4_appendRead 25 = .ok (.aload_n 0, 1) := dk_42 (dk_at dksX4_appendRead_1 3 rfl rfl)
theorem dX4_appendRead_26 : decode cX4_appendRead 26 = .ok (.iload 6, 2) := dk_21 6 (dk_at dksX4_appendRead_1 4 rfl rfl)
theorem dX4_appendRead_28 : decode cX4_appendRead 28 = .ok (.iconst 2, 1) := dk_5 (dk_at dksX4_appendRead_1 6 rfl rfl)
theorem dX4_appendRead_29 : decode cX4_appendRead 29 = .ok (.iload_n 3, 1) := dk_29 (dk_at dksX4_appendRead_1 7 rfl rfl)
theorem dX4_appendRead_30 : decode cX4_appendRead 30 = .ok (.invokevirtual 305, 3) := dk_182 1 49 (dk_at dksX4_appendRead_1 8 rfl rfl)
theorem dX4_appendRead_33 : decode cX4_appendRead 33 = .ok (.aload_n 0, 1) := dk_42 (dk_at dksX4_appendRead_1 11 rfl rfl)
theorem dX4_appendRead_34 : decode cX4_appendRead 34 = .ok (.iload 6, 2) := dk_21 6 (dk_at dksX4_appendRead_1 12 rfl rfl)
theorem dX4_appendRead_36 : decode cX4_appendRead 36 = .ok (.iconst 3, 1) := dk_6 (dk_at dksX4_appendRead_1 14 rfl rfl)
theorem dX4_appendRead_37 : decode cX4_appendRead 37 = .ok (.iload 4, 2) := dk_21 4 (dk_at dksX4_appendRead_1 15 rfl rfl)
theorem dX4_appendRead_39 : decode cX4_appendRead 39 = .ok (.invokevirtual 305, 3) := dk_182 1 49 (dk_at dksX4_appendRead_1 17 rfl rfl)
theorem dX4_appendRead_42 : decode cX4_appendRead 42 = .ok (.aload_n 0, 1) := dk_42 (dk_at dksX4_appendRead_1 20 rfl rfl)
theorem dX4_appendRead_43 : decode cX4_appendRead 43 = .ok (.iload 6, 2) := dk_21 6 (dk_at dksX4_appendRead_1 21 rfl rfl)
theorem dX4_appendRead_45 : decode cX4_appendRead 45 = .ok (.iconst 4, 1) := dk_7 (dk_at dksX4_appendRead_1 23 rfl rfl)
theorem dX4_appendRead_46 : decode cX4_appendRead 46 = .ok (.iload 5, 2) := dk_21 5 (dk_at dksX4_appendRead_2 0 rfl rfl)
theorem dX4_appendRead_48 : decode cX4_appendRead 48 = .ok (.invokevirtual 305, 3) := dk_182 1 49 (dk_at dksX4_appendRead_2 2 rfl rfl)
theorem dX4_appendRead_51 : decode cX4_appendRead 51 = .ok (.aload_n 0, 1) := dk_42 (dk_at dksX4_appendRead_2 5 rfl rfl)
theorem dX4_appendRead_52 : decode cX4_appendRead 52 = .ok (.iload 6, 2) := dk_21 6 (dk_at dksX4_appendRead_2 6 rfl rfl)
theorem dX4_appendRead_54 : decode cX4_appendRead 54 = .ok (.iconst 5, 1) := dk_8 (dk_at dksX4_appendRead_2 8 rfl rfl)
theorem dX4_appendRead_55 : decode cX4_appendRead 55 = .ok (.iconst 0, 1) := dk_3 (dk_at dksX4_appendRead_2 9 rfl rfl)
theorem dX4_appendRead_56 : decode cX4_appendRead 56 = .ok (.invokevirtual 305, 3) := dk_182 1 49 (dk_at dksX4_appendRead_2 10 rfl rfl)
theorem dX4_appendRead_59 : decode cX4_appendRead 59 = .ok (.aload_n 0, 1) := dk_42 (dk_at dksX4_appendRead_2 13 rfl rfl)
theorem dX4_appendRead_60 : decode cX4_appendRead 60 = .ok (.iload 6, 2) := dk_21 6 (dk_at dksX4_appendRead_2 14 rfl rfl)
theorem dX4_appendRead_62 : decode cX4_appendRead 62 = .ok (.bipush 6, 2) := dk_16 6 (dk_at dksX4_appendRead_2 16 rfl rfl)
theorem dX4_appendRead_64 : decode cX4_appendRead 64 = .ok (.iconst (-1), 1) := dk_2 (dk_at dksX4_appendRead_2 18 rfl rfl)
theorem dX4_appendRead_65 : decode cX4_appendRead 65 = .ok (.invokevirtual 305, 3) := dk_182 1 49 (dk_at dksX4_appendRead_2 19 rfl rfl)
theorem dX4_appendRead_68 : decode cX4_appendRead 68 = .ok (.aload_n 0, 1) := dk_42 (dk_at dksX4_appendRead_2 22 rfl rfl)
theorem dX4_appendRead_69 : decode cX4_appendRead 69 = .ok (.getfield 7, 3) := dk_180 0 7 (dk_at dksX4_appendRead_3 0 rfl rfl)
theorem dX4_appendRead_72 : decode cX4_appendRead 72 = .ok (.bipush 12, 2) := dk_16 12 (dk_at dksX4_appendRead_3 3 rfl rfl)
theorem dX4_appendRead_74 : decode cX4_appendRead 74 = .ok (.dup2, 1) := dk_92 (dk_at dksX4_appendRead_3 5 rfl rfl)
theorem dX4_appendRead_75 : decode cX4_appendRead 75 = .ok (.iaload, 1) := dk_46 (dk_at dksX4_appendRead_3 6 rfl rfl)
theorem dX4_appendRead_76 : decode cX4_appendRead 76 = .ok (.iconst 1, 1) := dk_4 (dk_at dksX4_appendRead_3 7 rfl rfl)
theorem dX4_appendRead_77 : decode cX4_appendRead 77 = .ok (.iadd, 1) := dk_96 (dk_at dksX4_appendRead_3 8 rfl rfl)
theorem dX4_appendRead_78 : decode cX4_appendRead 78 = .ok (.iastore, 1) := dk_79 (dk_at dksX4_appendRead_3 9 rfl rfl)
theorem dX4_appendRead_79 : decode cX4_appendRead 79 = .ok (.iload 4, 2) := dk_21 4 (dk_at dksX4_appendRead_3 10 rfl rfl)
theorem dX4_appendRead_81 : decode cX4_appendRead 81 = .ok (.ifCond .eq 13, 3) := dk_153 0 13 (dk_at dksX4_appendRead_3 12 rfl rfl)
theorem dX4_appendRead_84 : decode cX4_appendRead 84 = .ok (.iload 5, 2) := dk_21 5 (dk_at dksX4_appendRead_3 15 rfl rfl)
theorem dX4_appendRead_86 : decode cX4_appendRead 86 = .ok (.aload_n 0, 1) := dk_42 (dk_at dksX4_appendRead_3 17 rfl rfl)
theorem dX4_appendRead_87 : decode cX4_appendRead 87 = .ok (.iconst 4, 1) := dk_7 (dk_at dksX4_appendRead_3 18 rfl rfl)
theorem dX4_appendRead_88 : decode cX4_appendRead 88 = .ok (.invokevirtual 231, 3) := dk_182 0 231 (dk_at dksX4_appendRead_3 19 rfl rfl)
theorem dX4_appendRead_91 : decode cX4_appendRead 91 = .ok (.if_icmp .lt 9, 3) := dk_161 0 9 (dk_at dksX4_appendRead_4 0 rfl rfl)
theorem dX4_appendRead_94 : decode cX4_appendRead 94 = .ok (.aload_n 0, 1) := dk_42 (dk_at dksX4_appendRead_4 3 rfl rfl)
theorem dX4_appendRead_95 : decode cX4_appendRead 95 = .ok (.iload 6, 2) := dk_21 6 (dk_at dksX4_appendRead_4 4 rfl rfl)
theorem dX4_appendRead_97 : decode cX4_appendRead 97 = .ok (.invokevirtual 308, 3) := dk_182 1 52 (dk_at dksX4_appendRead_4 6 rfl rfl)
theorem dX4_appendRead_100 : decode cX4_appendRead 100 = .ok (.iload 6, 2) := dk_21 6 (dk_at dksX4_appendRead_4 9 rfl rfl)
theorem dX4_appendRead_102 : decode cX4_appendRead 102 = .ok (.ireturn, 1) := dk_172 (dk_at dksX4_appendRead_4 11 rfl rfl)
theorem c_352_0 : LkP (OkP 352) [(0, o_aload 0 1), (1, o_get 148), (4, o_push 2 (.int 12)), (6, o_rdI 0), (7, o_istore 6 2), (9, o_aload 0 1), (10, o_iload 6 2), (12, o_push 1 (.int 0)), (13, o_iload 1 1), (14, o_cv [(30, 353)] 3 3 true none), (17, o_aload 0 1), (18, o_iload 6 2), (20, o_push 1 (.int 1)), (21, o_iload 2 1), (22, o_cv [(30, 353)] 3 3 true none), (25, o_aload 0 1), (26, o_iload 6 2), (28, o_push 1 (.int 2)), (29, o_iload 3 1), (30, o_cv [(30, 353)] 3 3 true none), (33, o_aload 0 1), (34, o_iload 6 2), (36, o_push 1 (.int 3)), (37, o_iload 4 2), (39, o_cv [(30, 353)] 3 3 true none), (42, o_aload 0 1), (43, o_iload 6 2), (45, o_push 1 (.int 4)), (46, o_iload 5 2), (48, o_cv [(30, 353)] 3 3 true none), (51, o_aload 0 1), (52, o_iload 6 2), (54, o_push 1 (.int 5)), (55, o_push 1 (.int 0)), (56, o_cv [(30, 353)] 3 3 true none), (59, o_aload 0 1), (60, o_iload 6 2), (62, o_push 2 (.int 6))] := lkp_c (P := OkP 352) ⟨(PuOK.ok (ok_aload_n dX4_appendRead_0 rfl)), m_aload⟩ (
  lkp_c (P := OkP 352) ⟨ok_get ⟨"TollRoadModel", q3080, Or.inl rfl⟩ dX4_appendRead_1, m_get⟩ (
  lkp_c (P := OkP 352) ⟨(PuOK.ok (ok_bipush dX4_appendRead_4 rfl)), m_push⟩ (
  lkp_c (P := OkP 352) ⟨ok_iald dX4_appendRead_6, m_rdI⟩ (
  lkp_c (P := OkP 352) ⟨(PuOK.ok (ok_istore dX4_appendRead_7)), m_istore⟩ (
  lkp_c (P := OkP 352) ⟨(PuOK.ok (ok_aload_n dX4_appendRead_9 rfl)), m_aload⟩ (
  lkp_c (P := OkP 352) ⟨(PuOK.ok (ok_iload dX4_appendRead_10)), m_iload⟩ (
  lkp_c (P := OkP 352) ⟨(PuOK.ok (ok_iconst dX4_appendRead_12 rfl)), m_push⟩ (
  lkp_c (P := OkP 352) ⟨(PuOK.ok (ok_iload_n dX4_appendRead_13 rfl)), m_iload⟩ (
  lkp_c (P := OkP 352) ⟨ok_cv (List.forall_mem_cons.mpr ⟨tg_V (ci := 30) (r := CLr 30) (y := 353) rfl ⟨rfl, by decide⟩ rfl q3475 q3477 qs82 q139 q3478 ⟨cn_34.1, cn_34.2, pd_105⟩ dX4_appendRead_14, (List.forall_mem_nil _)⟩) hd_no, m_cv⟩ (
  lkp_c (P := OkP 352) ⟨(PuOK.ok (ok_aload_n dX4_appendRead_17 rfl)), m_aload⟩ (
  lkp_c (P := OkP 352) ⟨(PuOK.ok (ok_iload dX4_appendRead_18)), m_iload⟩ (
  lkp_c (P := OkP 352) ⟨(PuOK.ok (ok_iconst dX4_appendRead_20 rfl)), m_push⟩ (
  lkp_c (P := OkP 352) ⟨(PuOK.ok (ok_iload_n dX4_appendRead_21 rfl)), m_iload⟩ (
  lkp_c (P := OkP 352) ⟨ok_cv (List.forall_mem_cons.mpr ⟨tg_V (ci := 30) (r := CLr 30) (y := 353) rfl ⟨rfl, by decide⟩ rfl q3475 q3477 qs82 q139 q3478 ⟨cn_34.1, cn_34.2, pd_105⟩ dX4_appendRead_22, (List.forall_mem_nil _)⟩) hd_no, m_cv⟩ (
  lkp_c (P := OkP 352) ⟨(PuOK.ok (ok_aload_n dX4_appendRead_25 rfl)), m_aload⟩ (
  lkp_c (P := OkP 352) ⟨(PuOK.ok (ok_iload dX4_appendRead_26)), m_iload⟩ (
  lkp_c (P := OkP 352) ⟨(PuOK.ok (ok_iconst dX4_appendRead_28 rfl)), m_push⟩ (
  lkp_c (P := OkP 352) ⟨(PuOK.ok (ok_iload_n dX4_appendRead_29 rfl)), m_iload⟩ (
  lkp_c (P := OkP 352) ⟨ok_cv (List.forall_mem_cons.mpr ⟨tg_V (ci := 30) (r := CLr 30) (y := 353) rfl ⟨rfl, by decide⟩ rfl q3475 q3477 qs82 q139 q3478 ⟨cn_34.1, cn_34.2, pd_105⟩ dX4_appendRead_30, (List.forall_mem_nil _)⟩) hd_no, m_cv⟩ (
  lkp_c (P := OkP 352) ⟨(PuOK.ok (ok_aload_n dX4_appendRead_33 rfl)), m_aload⟩ (
  lkp_c (P := OkP 352) ⟨(PuOK.ok (ok_iload dX4_appendRead_34)), m_iload⟩ (
  lkp_c (P := OkP 352) ⟨(PuOK.ok (ok_iconst dX4_appendRead_36 rfl)), m_push⟩ (
  lkp_c (P := OkP 352) ⟨(PuOK.ok (ok_iload dX4_appendRead_37)), m_iload⟩ (
  lkp_c (P := OkP 352) ⟨ok_cv (List.forall_mem_cons.mpr ⟨tg_V (ci := 30) (r := CLr 30) (y := 353) rfl ⟨rfl, by decide⟩ rfl q3475 q3477 qs82 q139 q3478 ⟨cn_34.1, cn_34.2, pd_105⟩ dX4_appendRead_39, (List.forall_mem_nil _)⟩) hd_no, m_cv⟩ (
  lkp_c (P := OkP 352) ⟨(PuOK.ok (ok_aload_n dX4_appendRead_42 rfl)), m_aload⟩ (
  lkp_c (P := OkP 352) ⟨(PuOK.ok (ok_iload dX4_appendRead_43)), m_iload⟩ (
  lkp_c (P := OkP 352) ⟨(PuOK.ok (ok_iconst dX4_appendRead_45 rfl)), m_push⟩ (
  lkp_c (P := OkP 352) ⟨(PuOK.ok (ok_iload dX4_appendRead_46)), m_iload⟩ (
  lkp_c (P := OkP 352) ⟨ok_cv (List.forall_mem_cons.mpr ⟨tg_V (ci := 30) (r := CLr 30) (y := 353) rfl ⟨rfl, by decide⟩ rfl q3475 q3477 qs82 q139 q3478 ⟨cn_34.1, cn_34.2, pd_105⟩ dX4_appendRead_48, (List.forall_mem_nil _)⟩) hd_no, m_cv⟩ (
  lkp_c (P := OkP 352) ⟨(PuOK.ok (ok_aload_n dX4_appendRead_51 rfl)), m_aload⟩ (
  lkp_c (P := OkP 352) ⟨(PuOK.ok (ok_iload dX4_appendRead_52)), m_iload⟩ (
  lkp_c (P := OkP 352) ⟨(PuOK.ok (ok_iconst dX4_appendRead_54 rfl)), m_push⟩ (
  lkp_c (P := OkP 352) ⟨(PuOK.ok (ok_iconst dX4_appendRead_55 rfl)), m_push⟩ (
  lkp_c (P := OkP 352) ⟨ok_cv (List.forall_mem_cons.mpr ⟨tg_V (ci := 30) (r := CLr 30) (y := 353) rfl ⟨rfl, by decide⟩ rfl q3475 q3477 qs82 q139 q3478 ⟨cn_34.1, cn_34.2, pd_105⟩ dX4_appendRead_56, (List.forall_mem_nil _)⟩) hd_no, m_cv⟩ (
  lkp_c (P := OkP 352) ⟨(PuOK.ok (ok_aload_n dX4_appendRead_59 rfl)), m_aload⟩ (
  lkp_c (P := OkP 352) ⟨(PuOK.ok (ok_iload dX4_appendRead_60)), m_iload⟩ (
  lkp_c (P := OkP 352) ⟨(PuOK.ok (ok_bipush dX4_appendRead_62 rfl)), m_push⟩ (
  trivial))))))))))))))))))))))))))))))))))))))
theorem c_352_1 : LkP (OkP 352) [(64, o_push 1 (.int (-1))), (65, o_cv [(30, 353)] 3 3 true none), (68, o_aload 0 1), (69, o_get 148), (72, o_push 2 (.int 12)), (74, o_dup2), (75, o_rdI 0), (76, o_push 1 (.int 1)), (77, o_iop (fun x y => x + y)), (78, o_wrI 0), (79, o_iload 4 2), (81, o_if (fun x => decide (x = 0)) 94), (84, o_iload 5 2), (86, o_aload 0 1), (87, o_push 1 (.int 4)), (88, o_cv [(30, 328)] 1 3 false none), (91, o_icmp (fun x y => decide (x < y)) 100), (94, o_aload 0 1), (95, o_iload 6 2), (97, o_cv [(30, 354)] 1 3 true none), (100, o_iload 6 2), (102, o_ret 1)] := lkp_c (P := OkP 352) ⟨(PuOK.ok (ok_iconst dX4_appendRead_64 rfl)), m_push⟩ (
  lkp_c (P := OkP 352) ⟨ok_cv (List.forall_mem_cons.mpr ⟨tg_V (ci := 30) (r := CLr 30) (y := 353) rfl ⟨rfl, by decide⟩ rfl q3475 q3477 qs82 q139 q3478 ⟨cn_34.1, cn_34.2, pd_105⟩ dX4_appendRead_65, (List.forall_mem_nil _)⟩) hd_no, m_cv⟩ (
  lkp_c (P := OkP 352) ⟨(PuOK.ok (ok_aload_n dX4_appendRead_68 rfl)), m_aload⟩ (
  lkp_c (P := OkP 352) ⟨ok_get ⟨"TollRoadModel", q3080, Or.inl rfl⟩ dX4_appendRead_69, m_get⟩ (
  lkp_c (P := OkP 352) ⟨(PuOK.ok (ok_bipush dX4_appendRead_72 rfl)), m_push⟩ (
  lkp_c (P := OkP 352) ⟨(PuOK.ok (ok_dup2 dX4_appendRead_74)), m_dup2⟩ (
  lkp_c (P := OkP 352) ⟨ok_iald dX4_appendRead_75, m_rdI⟩ (
  lkp_c (P := OkP 352) ⟨(PuOK.ok (ok_iconst dX4_appendRead_76 rfl)), m_push⟩ (
  lkp_c (P := OkP 352) ⟨(PuOK.ok (ok_iadd dX4_appendRead_77)), m_iop⟩ (
  lkp_c (P := OkP 352) ⟨ok_iast dX4_appendRead_78, m_wrI⟩ (
  lkp_c (P := OkP 352) ⟨(PuOK.ok (ok_iload dX4_appendRead_79)), m_iload⟩ (
  lkp_c (P := OkP 352) ⟨(PuOK.ok (ok_if_eq dX4_appendRead_81 rfl)), m_if⟩ (
  lkp_c (P := OkP 352) ⟨(PuOK.ok (ok_iload dX4_appendRead_84)), m_iload⟩ (
  lkp_c (P := OkP 352) ⟨(PuOK.ok (ok_aload_n dX4_appendRead_86 rfl)), m_aload⟩ (
  lkp_c (P := OkP 352) ⟨(PuOK.ok (ok_iconst dX4_appendRead_87 rfl)), m_push⟩ (
  lkp_c (P := OkP 352) ⟨ok_cv (List.forall_mem_cons.mpr ⟨tg_V (ci := 30) (r := CLr 30) (y := 328) rfl ⟨rfl, by decide⟩ rfl q3371 q3373 qs66 q139 q3374 ⟨cn_34.1, cn_34.2, pd_48⟩ dX4_appendRead_88, (List.forall_mem_nil _)⟩) hd_no, m_cv⟩ (
  lkp_c (P := OkP 352) ⟨(PuOK.ok (ok_icmp_lt dX4_appendRead_91 rfl)), m_icmp⟩ (
  lkp_c (P := OkP 352) ⟨(PuOK.ok (ok_aload_n dX4_appendRead_94 rfl)), m_aload⟩ (
  lkp_c (P := OkP 352) ⟨(PuOK.ok (ok_iload dX4_appendRead_95)), m_iload⟩ (
  lkp_c (P := OkP 352) ⟨ok_cv (List.forall_mem_cons.mpr ⟨tg_V (ci := 30) (r := CLr 30) (y := 354) rfl ⟨rfl, by decide⟩ rfl q3479 q3481 qs83 q139 q3482 ⟨cn_34.1, cn_34.2, pd_9⟩ dX4_appendRead_97, (List.forall_mem_nil _)⟩) hd_no, m_cv⟩ (
  lkp_c (P := OkP 352) ⟨(PuOK.ok (ok_iload dX4_appendRead_100)), m_iload⟩ (
  lkp_c (P := OkP 352) ⟨ok_iret rfl rfl (by decide) dX4_appendRead_102, m_ret⟩ (
  trivial))))))))))))))))))))))
theorem mt_352 : MtOK TB NT IT 352 := ⟨by decide +kernel, rfl, (fun h => by cases h), Or.inl ⟨rfl, rfl⟩, rfl, by decide, lk2_all (P := OkP 352) ⟨c_352_0, c_352_1, trivial⟩⟩
def dkwX4_putRead_0 : List UInt8 := [42, 180, 0, 7, 17, 1, 24, 16, 7, 27, 104, 96, 28, 96, 29, 79, 177]
abbrev dktX4_putRead_0 : List UInt8 := dkwX4_putRead_0 ++ []
theorem dksX4_putRead_0 : cX4_putRead.data.toList.drop 0 = dktX4_putRead_0 := by decide +kernel
theorem dX4_putRead_0 : decode cX4_putRead 0 = .ok (.aload_n 0, 1) := dk_42 (dk_at dksX4_putRead_0 0 rfl rfl)
theorem dX4_putRead_1 : decode cX4_putRead 1 = .ok (.getfield 7, 3) := dk_180 0 7 (dk_at dksX4_putRead_0 1 rfl rfl)
theorem dX4_putRead_4 : decode cX4_putRead 4 = .ok (.sipush 280, 3) := dk_17 1 24 (dk_at dksX4_putRead_0 4 rfl rfl)
theorem dX4_putRead_7 : decode cX4_putRead 7 = .ok (.bipush 7, 2) := dk_16 7 (dk_at dksX4_putRead_0 7 rfl rfl)
theorem dX4_putRead_9 : decode cX4_putRead 9 = .ok (.iload_n 1, 1) := dk_27 (dk_at dksX4_putRead_0 9 rfl rfl)
theorem dX4_putRead_10 : decode cX4_putRead 10 = .ok (.imul, 1) := dk_104 (dk_at dksX4_putRead_0 10 rfl rfl)
theorem dX4_putRead_11 : decode cX4_putRead 11 = .ok (.iadd, 1) := dk_96 (dk_at dksX4_putRead_0 11 rfl rfl)
theorem dX4_putRead_12 : decode cX4_putRead 12 = .ok (.iload_n 2, 1) := dk_28 (dk_at dksX4_putRead_0 12 rfl rfl)
theorem dX4_putRead_13 : decode cX4_putRead 13 = .ok (.iadd, 1) := dk_96 (dk_at dksX4_putRead_0 13 rfl rfl)
theorem dX4_putRead_14 : decode cX4_putRead 14 = .ok (.iload_n 3, 1) := dk_29 (dk_at dksX4_putRead_0 14 rfl rfl)
theorem dX4_putRead_15 : decode cX4_putRead 15 = .ok (.iastore, 1) := dk_79 (dk_at dksX4_putRead_0 15 rfl rfl)
theorem dX4_putRead_16 : decode cX4_putRead 16 = .ok (.return_, 1) := dk_177 (dk_at dksX4_putRead_0 16 rfl rfl)
theorem c_353_0 : LkP (OkP 353) [(0, o_aload 0 1), (1, o_get 148), (4, o_push 3 (.int 280)), (7, o_push 2 (.int 7)), (9, o_iload 1 1), (10, o_iop (fun x y => x * y)), (11, o_iop (fun x y => x + y)), (12, o_iload 2 1), (13, o_iop (fun x y => x + y)), (14, o_iload 3 1), (15, o_wrI 0), (16, o_vret)] := lkp_c (P := OkP 353) ⟨(PuOK.ok (ok_aload_n dX4_putRead_0 rfl)), m_aload⟩ (
  lkp_c (P := OkP 353) ⟨ok_get ⟨"TollRoadModel", q3080, Or.inl rfl⟩ dX4_putRead_1, m_get⟩ (
  lkp_c (P := OkP 353) ⟨(PuOK.ok (ok_sipush dX4_putRead_4 rfl)), m_push⟩ (
  lkp_c (P := OkP 353) ⟨(PuOK.ok (ok_bipush dX4_putRead_7 rfl)), m_push⟩ (
  lkp_c (P := OkP 353) ⟨(PuOK.ok (ok_iload_n dX4_putRead_9 rfl)), m_iload⟩ (
  lkp_c (P := OkP 353) ⟨(PuOK.ok (ok_imul dX4_putRead_10)), m_iop⟩ (
  lkp_c (P := OkP 353) ⟨(PuOK.ok (ok_iadd dX4_putRead_11)), m_iop⟩ (
  lkp_c (P := OkP 353) ⟨(PuOK.ok (ok_iload_n dX4_putRead_12 rfl)), m_iload⟩ (
  lkp_c (P := OkP 353) ⟨(PuOK.ok (ok_iadd dX4_putRead_13)), m_iop⟩ (
  lkp_c (P := OkP 353) ⟨(PuOK.ok (ok_iload_n dX4_putRead_14 rfl)), m_iload⟩ (
  lkp_c (P := OkP 353) ⟨ok_iast dX4_putRead_15, m_wrI⟩ (
  lkp_c (P := OkP 353) ⟨ok_vret rfl dX4_putRead_16, m_vret⟩ (
  trivial))))))))))))
theorem mt_353 : MtOK TB NT IT 353 := ⟨by decide +kernel, rfl, (fun h => by cases h), Or.inl ⟨rfl, rfl⟩, rfl, by decide, lk2_all (P := OkP 353) ⟨c_353_0, trivial⟩⟩
def dkwX4_comeToCount_1 : List UInt8 := [61, 42, 27, 8, 28, 153, 0, 7, 7, 167, 0, 4, 4, 182, 1, 49, 177]
abbrev dktX4_comeToCount_1 : List UInt8 := dkwX4_comeToCount_1 ++ []
def dkwX4_comeToCount_0 : List UInt8 := [42, 42, 27, 3, 182, 0, 234, 182, 1, 8, 42, 27, 5, 182, 0, 234, 161, 0, 7, 4, 167, 0, 4, 3]
abbrev dktX4_comeToCount_0 : List UInt8 := dkwX4_comeToCount_0 ++ dktX4_comeToCount_1
theorem dksX4_comeToCount_0 : cX4_comeToCount.data.toList.drop 0 = dktX4_comeToCount_0 := by decide +kernel
theorem dksX4_comeToCount_1 : cX4_comeToCount.data.toList.drop 24 = dktX4_comeToCount_1 := dk_seg dksX4_comeToCount_0 24 rfl rfl
theorem dX4_comeToCount_0 : decode cX4_comeToCount 0 = .ok (.aload_n 0, 1) := dk_42 (dk_at dksX4_comeToCount_0 0 rfl rfl)
theorem dX4_comeToCount_1 : decode cX4_comeToCount 1 = .ok (.aload_n 0, 1) := dk_42 (dk_at dksX4_comeToCount_0 1 rfl rfl)
theorem dX4_comeToCount_2 : decode cX4_comeToCount 2 = .ok (.iload_n 1, 1) := dk_27 (dk_at dksX4_comeToCount_0 2 rfl rfl)
theorem dX4_comeToCount_3 : decode cX4_comeToCount 3 = .ok (.iconst 0, 1) := dk_3 (dk_at dksX4_comeToCount_0 3 rfl rfl)
theorem dX4_comeToCount_4 : decode cX4_comeToCount 4 = .ok (.invokevirtual 234, 3) := dk_182 0 234 (dk_at dksX4_comeToCount_0 4 rfl rfl)
theorem dX4_comeToCount_7 : decode cX4_comeToCount 7 = .ok (.invokevirtual 264, 3) := dk_182 1 8 (dk_at dksX4_comeToCount_0 7 rfl rfl)
theorem dX4_comeToCount_10 : decode cX4_comeToCount 10 = .ok (.aload_n 0, 1) := dk_42 (dk_at dksX4_comeToCount_0 10 rfl rfl)
theorem dX4_comeToCount_11 : decode cX4_comeToCount 11 = .ok (.iload_n 1, 1) := dk_27 (dk_at dksX4_comeToCount_0 11 rfl rfl)
theorem dX4_comeToCount_12 : decode cX4_comeToCount 12 = .ok (.iconst 2, 1) := dk_5 (dk_at dksX4_comeToCount_0 12 rfl rfl)
theorem dX4_comeToCount_13 : decode cX4_comeToCount 13 = .ok (.invokevirtual 234, 3) := dk_182 0 234 (dk_at dksX4_comeToCount_0 13 rfl rfl)
theorem dX4_comeToCount_16 : decode cX4_comeToCount 16 = .ok (.if_icmp .lt 7, 3) := dk_161 0 7 (dk_at dksX4_comeToCount_0 16 rfl rfl)
theorem dX4_comeToCount_19 : decode cX4_comeToCount 19 = .ok (.iconst 1, 1) := dk_4 (dk_at dksX4_comeToCount_0 19 rfl rfl)
theorem dX4_comeToCount_20 : decode cX4_comeToCount 20 = .ok (.goto 4, 3) := dk_167 0 4 (dk_at dksX4_comeToCount_0 20 rfl rfl)
theorem dX4_comeToCount_23 : decode cX4_comeToCount 23 = .ok (.iconst 0, 1) := dk_3 (dk_at dksX4_comeToCount_0 23 rfl rfl)
theorem dX4_comeToCount_24 : decode cX4_comeToCount 24 = .ok (.istore_n 2, 1) := dk_61 (dk_at dksX4_comeToCount_1 0 rfl rfl)
theorem dX4_comeToCount_25 : decode cX4_comeToCount 25 = .ok (.aload_n 0, 1) := dk_42 (dk_at dksX4_comeToCount_1 1 rfl rfl)
theorem dX4_comeToCount_26 : decode cX4_comeToCount 26 = .ok (.iload_n 1, 1) := dk_27 (dk_at dksX4_comeToCount_1 2 rfl rfl)
theorem dX4_comeToCount_27 : decode cX4_comeToCount 27 = .ok (.iconst 5, 1) := dk_8 (dk_at dksX4_comeToCount_1 3 rfl rfl)
theorem dX4_comeToCount_28 : decode cX4_comeToCount 28 = .ok (.iload_n 2, 1) := dk_28 (dk_at dksX4_comeToCount_1 4 rfl rfl)
theorem dX4_comeToCount_29 : decode cX4_comeToCount 29 = .ok (.ifCond .eq 7, 3) := dk_153 0 7 (dk_at dksX4_comeToCount_1 5 rfl rfl)
theorem dX4_comeToCount_32 : decode cX4_comeToCount 32 = .ok (.iconst 4, 1) := dk_7 (dk_at dksX4_comeToCount_1 8 rfl rfl)
theorem dX4_comeToCount_33 : decode cX4_comeToCount 33 = .ok (.goto 4, 3) := dk_167 0 4 (dk_at dksX4_comeToCount_1 9 rfl rfl)
theorem dX4_comeToCount_36 : decode cX4_comeToCount 36 = .ok (.iconst 1, 1) := dk_4 (dk_at dksX4_comeToCount_1 12 rfl rfl)
theorem dX4_comeToCount_37 : decode cX4_comeToCount 37 = .ok (.invokevirtual 305, 3) := dk_182 1 49 (dk_at dksX4_comeToCount_1 13 rfl rfl)
theorem dX4_comeToCount_40 : decode cX4_comeToCount 40 = .ok (.return_, 1) := dk_177 (dk_at dksX4_comeToCount_1 16 rfl rfl)
theorem c_354_0 : LkP (OkP 354) [(0, o_aload 0 1), (1, o_aload 0 1), (2, o_iload 1 1), (3, o_push 1 (.int 0)), (4, o_cv [(30, 331)] 2 3 false none), (7, o_cv [(30, 341)] 1 3 false none), (10, o_aload 0 1), (11, o_iload 1 1), (12, o_push 1 (.int 2)), (13, o_cv [(30, 331)] 2 3 false none), (16, o_icmp (fun x y => decide (x < y)) 23), (19, o_push 1 (.int 1)), (20, o_goto 24), (23, o_push 1 (.int 0)), (24, o_istore 2 1), (25, o_aload 0 1), (26, o_iload 1 1), (27, o_push 1 (.int 5)), (28, o_iload 2 1), (29, o_if (fun x => decide (x = 0)) 36), (32, o_push 1 (.int 4)), (33, o_goto 37), (36, o_push 1 (.int 1)), (37, o_cv [(30, 353)] 3 3 true none), (40, o_vret)] := lkp_c (P := OkP 354) ⟨(PuOK.ok (ok_aload_n dX4_comeToCount_0 rfl)), m_aload⟩ (
  lkp_c (P := OkP 354) ⟨(PuOK.ok (ok_aload_n dX4_comeToCount_1 rfl)), m_aload⟩ (
  lkp_c (P := OkP 354) ⟨(PuOK.ok (ok_iload_n dX4_comeToCount_2 rfl)), m_iload⟩ (
  lkp_c (P := OkP 354) ⟨(PuOK.ok (ok_iconst dX4_comeToCount_3 rfl)), m_push⟩ (
  lkp_c (P := OkP 354) ⟨ok_cv (List.forall_mem_cons.mpr ⟨tg_V (ci := 30) (r := CLr 30) (y := 331) rfl ⟨rfl, by decide⟩ rfl q3383 q3385 qs68 q139 q3386 ⟨cn_34.1, cn_34.2, pd_1⟩ dX4_comeToCount_4, (List.forall_mem_nil _)⟩) hd_no, m_cv⟩ (
  lkp_c (P := OkP 354) ⟨ok_cv (List.forall_mem_cons.mpr ⟨tg_V (ci := 30) (r := CLr 30) (y := 341) rfl ⟨rfl, by decide⟩ rfl q3423 q3425 qs75 q139 q3426 ⟨cn_34.1, cn_34.2, pd_48⟩ dX4_comeToCount_7, (List.forall_mem_nil _)⟩) hd_no, m_cv⟩ (
  lkp_c (P := OkP 354) ⟨(PuOK.ok (ok_aload_n dX4_comeToCount_10 rfl)), m_aload⟩ (
  lkp_c (P := OkP 354) ⟨(PuOK.ok (ok_iload_n dX4_comeToCount_11 rfl)), m_iload⟩ (
  lkp_c (P := OkP 354) ⟨(PuOK.ok (ok_iconst dX4_comeToCount_12 rfl)), m_push⟩ (
  lkp_c (P := OkP 354) ⟨ok_cv (List.forall_mem_cons.mpr ⟨tg_V (ci := 30) (r := CLr 30) (y := 331) rfl ⟨rfl, by decide⟩ rfl q3383 q3385 qs68 q139 q3386 ⟨cn_34.1, cn_34.2, pd_1⟩ dX4_comeToCount_13, (List.forall_mem_nil _)⟩) hd_no, m_cv⟩ (
  lkp_c (P := OkP 354) ⟨(PuOK.ok (ok_icmp_lt dX4_comeToCount_16 rfl)), m_icmp⟩ (
  lkp_c (P := OkP 354) ⟨(PuOK.ok (ok_iconst dX4_comeToCount_19 rfl)), m_push⟩ (
  lkp_c (P := OkP 354) ⟨(PuOK.ok (ok_goto dX4_comeToCount_20 rfl)), m_goto⟩ (
  lkp_c (P := OkP 354) ⟨(PuOK.ok (ok_iconst dX4_comeToCount_23 rfl)), m_push⟩ (
  lkp_c (P := OkP 354) ⟨(PuOK.ok (ok_istore_n dX4_comeToCount_24 rfl)), m_istore⟩ (
  lkp_c (P := OkP 354) ⟨(PuOK.ok (ok_aload_n dX4_comeToCount_25 rfl)), m_aload⟩ (
  lkp_c (P := OkP 354) ⟨(PuOK.ok (ok_iload_n dX4_comeToCount_26 rfl)), m_iload⟩ (
  lkp_c (P := OkP 354) ⟨(PuOK.ok (ok_iconst dX4_comeToCount_27 rfl)), m_push⟩ (
  lkp_c (P := OkP 354) ⟨(PuOK.ok (ok_iload_n dX4_comeToCount_28 rfl)), m_iload⟩ (
  lkp_c (P := OkP 354) ⟨(PuOK.ok (ok_if_eq dX4_comeToCount_29 rfl)), m_if⟩ (
  lkp_c (P := OkP 354) ⟨(PuOK.ok (ok_iconst dX4_comeToCount_32 rfl)), m_push⟩ (
  lkp_c (P := OkP 354) ⟨(PuOK.ok (ok_goto dX4_comeToCount_33 rfl)), m_goto⟩ (
  lkp_c (P := OkP 354) ⟨(PuOK.ok (ok_iconst dX4_comeToCount_36 rfl)), m_push⟩ (
  lkp_c (P := OkP 354) ⟨ok_cv (List.forall_mem_cons.mpr ⟨tg_V (ci := 30) (r := CLr 30) (y := 353) rfl ⟨rfl, by decide⟩ rfl q3475 q3477 qs82 q139 q3478 ⟨cn_34.1, cn_34.2, pd_105⟩ dX4_comeToCount_37, (List.forall_mem_nil _)⟩) hd_no, m_cv⟩ (
  lkp_c (P := OkP 354) ⟨ok_vret rfl dX4_comeToCount_40, m_vret⟩ (
  trivial)))))))))))))))))))))))))
theorem mt_354 : MtOK TB NT IT 354 := ⟨by decide +kernel, rfl, (fun h => by cases h), Or.inl ⟨rfl, rfl⟩, rfl, by decide, lk2_all (P := OkP 354) ⟨c_354_0, trivial⟩⟩
def dkwX4_imageRead_3 : List UInt8 := [182, 0, 87, 167, 0, 13, 42, 27, 28, 29, 4, 21, 4, 182, 1, 56, 172]
abbrev dktX4_imageRead_3 : List UInt8 := dkwX4_imageRead_3 ++ []
def dkwX4_imageRead_2 : List UInt8 := [154, 0, 9, 42, 5, 182, 0, 87, 172, 42, 180, 0, 7, 16, 12, 46, 16, 120, 160, 0, 11, 42, 6]
abbrev dktX4_imageRead_2 : List UInt8 := dkwX4_imageRead_2 ++ dktX4_imageRead_3
def dkwX4_imageRead_1 : List UInt8 := [182, 0, 87, 172, 29, 3, 18, 178, 184, 0, 91, 153, 0, 14, 21, 4, 3, 16, 100, 184, 0, 91]
abbrev dktX4_imageRead_1 : List UInt8 := dkwX4_imageRead_1 ++ dktX4_imageRead_2
def dkwX4_imageRead_0 : List UInt8 := [42, 3, 181, 0, 81, 42, 27, 182, 0, 255, 153, 0, 11, 42, 28, 182, 0, 221, 154, 0, 9, 42, 4]
abbrev dktX4_imageRead_0 : List UInt8 := dkwX4_imageRead_0 ++ dktX4_imageRead_1
theorem dksX4_imageRead_0 : cX4_imageRead.data.toList.drop 0 = dktX4_imageRead_0 := by decide +kernel
theorem dksX4_imageRead_1 : cX4_imageRead.data.toList.drop 23 = dktX4_imageRead_1 := dk_seg dksX4_imageRead_0 23 rfl rfl
theorem dksX4_imageRead_2 : cX4_imageRead.data.toList.drop 45 = dktX4_imageRead_2 := dk_seg dksX4_imageRead_1 22 rfl rfl
theorem dksX4_imageRead_3 : cX4_imageRead.data.toList.drop 68 = dktX4_imageRead_3 := dk_seg dksX4_imageRead_2 23 rfl rfl
theorem dX4_imageRead_0 : decode cX4_imageRead 0 = .ok (.aload_n 0, 1) := dk_42 (dk_at dksX4_imageRead_0 0 rfl rfl)
theorem dX4_imageRead_1 : decode cX4_imageRead 1 = .ok (.iconst 0, 1) := dk_3 (dk_at dksX4_imageRead_0 1 rfl rfl)
theorem dX4_imageRead_2 : decode cX4_imageRead 2 = .ok (.putfield 81, 3) := dk_181 0 81 (dk_at dksX4_imageRead_0 2 rfl rfl)
theorem dX4_imageRead_5 : decode cX4_imageRead 5 = .ok (.aload_n 0, 1) := dk_42 (dk_at dksX4_imageRead_0 5 rfl rfl)
theorem dX4_imageRead_6 : decode cX4_imageRead 6 = .ok (.iload_n 1, 1) := dk_27 (dk_at dksX4_imageRead_0 6 rfl rfl)
theorem dX4_imageRead_7 : decode cX4_imageRead 7 = .ok (.invokevirtual 255, 3) := dk_182 0 255 (dk_at dksX4_imageRead_0 7 rfl rfl)
theorem dX4_imageRead_10 : decode cX4_imageRead 10 = .ok (.ifCond .eq 11, 3) := dk_153 0 11 (dk_at dksX4_imageRead_0 10 rfl rfl)
theorem dX4_imageRead_13 : decode cX4_imageRead 13 = .ok (.aload_n 0, 1) := dk_42 (dk_at dksX4_imageRead_0 13 rfl rfl)
theorem dX4_imageRead_14 : decode cX4_imageRead 14 = .ok (.iload_n 2, 1) := dk_28 (dk_at dksX4_imageRead_0 14 rfl rfl)
theorem dX4_imageRead_15 : decode cX4_imageRead 15 = .ok (.invokevirtual 221, 3) := dk_182 0 221 (dk_at dksX4_imageRead_0 15 rfl rfl)
theorem dX4_imageRead_18 : decode cX4_imageRead 18 = .ok (.ifCond .ne 9, 3) := dk_154 0 9 (dk_at dksX4_imageRead_0 18 rfl rfl)
theorem dX4_imageRead_21 : decode cX4_imageRead 21 = .ok (.aload_n 0, 1) := dk_42 (dk_at dksX4_imageRead_0 21 rfl rfl)
theorem dX4_imageRead_22 : decode cX4_imageRead 22 = .ok (.iconst 1, 1) := dk_4 (dk_at dksX4_imageRead_0 22 rfl rfl)
theorem dX4_imageRead_23 : decode cX4_imageRead 23 = .ok (.invokevirtual 87, 3) := dk_182 0 87 (dk_at dksX4_imageRead_1 0 rfl rfl)
theorem dX4_imageRead_26 : decode cX4_imageRead 26 = .ok (.ireturn, 1) := dk_172 (dk_at dksX4_imageRead_1 3 rfl rfl)
theorem dX4_imageRead_27 : decode cX4_imageRead 27 = .ok (.iload_n 3, 1) := dk_29 (dk_at dksX4_imageRead_1 4 rfl rfl)
theorem dX4_imageRead_28 : decode cX4_imageRead 28 = .ok (.iconst 0, 1) := dk_3 (dk_at dksX4_imageRead_1 5 rfl rfl)
theorem dX4_imageRead_29 : decode cX4_imageRead 29 = .ok (.ldc 178, 2) := dk_18 178 (dk_at dksX4_imageRead_1 6 rfl rfl)
theorem dX4_imageRead_31 : decode cX4_imageRead 31 = .ok (.invokestatic 91, 3) := dk_184 0 91 (dk_at dksX4_imageRead_1 8 rfl rfl)
theorem dX4_imageRead_34 : decode cX4_imageRead 34 = .ok (.ifCond .eq 14, 3) := dk_153 0 14 (dk_at dksX4_imageRead_1 11 rfl rfl)
theorem dX4_imageRead_37 : decode cX4_imageRead 37 = .ok (.iload 4, 2) := dk_21 4 (dk_at dksX4_imageRead_1 14 rfl rfl)
theorem dX4_imageRead_39 : decode cX4_imageRead 39 = .ok (.iconst 0, 1) := dk_3 (dk_at dksX4_imageRead_1 16 rfl rfl)
theorem dX4_imageRead_40 : decode cX4_imageRead 40 = .ok (.bipush 100, 2) := dk_16 100 (dk_at dksX4_imageRead_1 17 rfl rfl)
theorem dX4_imageRead_42 : decode cX4_imageRead 42 = .ok (.invokestatic 91, 3) := dk_184 0 91 (dk_at dksX4_imageRead_1 19 rfl rfl)
theorem dX4_imageRead_45 : decode cX4_imageRead 45 = .ok (.ifCond .ne 9, 3) := dk_154 0 9 (dk_at dksX4_imageRead_2 0 rfl rfl)
theorem dX4_imageRead_48 : decode cX4_imageRead 48 = .ok (.aload_n 0, 1) := dk_42 (dk_at dksX4_imageRead_2 3 rfl rfl)
theorem dX4_imageRead_49 : decode cX4_imageRead 49 = .ok (.iconst 2, 1) := dk_5 (dk_at dksX4_imageRead_2 4 rfl rfl)
theorem dX4_imageRead_50 : decode cX4_imageRead 50 = .ok (.invokevirtual 87, 3) := dk_182 0 87 (dk_at dksX4_imageRead_2 5 rfl rfl)
theorem dX4_imageRead_53 : decode cX4_imageRead 53 = .ok (.ireturn, 1) := dk_172 (dk_at dksX4_imageRead_2 8 rfl rfl)
theorem dX4_imageRead_54 : decode cX4_imageRead 54 = .ok (.aload_n 0, 1) := dk_42 (dk_at dksX4_imageRead_2 9 rfl rfl)
theorem dX4_imageRead_55 : decode cX4_imageRead 55 = .ok (.getfield 7, 3) := dk_180 0 7 (dk_at dksX4_imageRead_2 10 rfl rfl)
theorem dX4_imageRead_58 : decode cX4_imageRead 58 = .ok (.bipush 12, 2) := dk_16 12 (dk_at dksX4_imageRead_2 13 rfl rfl)
theorem dX4_imageRead_60 : decode cX4_imageRead 60 = .ok (.iaload, 1) := dk_46 (dk_at dksX4_imageRead_2 15 rfl rfl)
theorem dX4_imageRead_61 : decode cX4_imageRead 61 = .ok (.bipush 120, 2) := dk_16 120 (dk_at dksX4_imageRead_2 16 rfl rfl)
theorem dX4_imageRead_63 : decode cX4_imageRead 63 = .ok (.if_icmp .ne 11, 3) := dk_160 0 11 (dk_at dksX4_imageRead_2 18 rfl rfl)
theorem dX4_imageRead_66 : decode cX4_imageRead 66 = .ok (.aload_n 0, 1) := dk_42 (dk_at dksX4_imageRead_2 21 rfl rfl)
theorem dX4_imageRead_67 : decode cX4_imageRead 67 = .ok (.iconst 3, 1) := dk_6 (dk_at dksX4_imageRead_2 22 rfl rfl)
theorem dX4_imageRead_68 : decode cX4_imageRead 68 = .ok (.invokevirtual 87, 3) := dk_182 0 87 (dk_at dksX4_imageRead_3 0 rfl rfl)
theorem dX4_imageRead_71 : decode cX4_imageRead 71 = .ok (.goto 13, 3) := dk_167 0 13 (dk_at dksX4_imageRead_3 3 rfl rfl)
theorem dX4_imageRead_74 : decode cX4_imageRead 74 = .ok (.aload_n 0, 1) := dk_42 (dk_at dksX4_imageRead_3 6 rfl rfl)
theorem dX4_imageRead_75 : decode cX4_imageRead 75 = .ok (.iload_n 1, 1) := dk_27 (dk_at dksX4_imageRead_3 7 rfl rfl)
theorem dX4_imageRead_76 : decode cX4_imageRead 76 = .ok (.iload_n 2, 1) := dk_28 (dk_at dksX4_imageRead_3 8 rfl rfl)
theorem dX4_imageRead_77 : decode cX4_imageRead 77 = .ok (.iload_n 3, 1) := dk_29 (dk_at dksX4_imageRead_3 9 rfl rfl)
theorem dX4_imageRead_78 : decode cX4_imageRead 78 = .ok (.iconst 1, 1) := dk_4 (dk_at dksX4_imageRead_3 10 rfl rfl)
theorem dX4_imageRead_79 : decode cX4_imageRead 79 = .ok (.iload 4, 2) := dk_21 4 (dk_at dksX4_imageRead_3 11 rfl rfl)
theorem dX4_imageRead_81 : decode cX4_imageRead 81 = .ok (.invokevirtual 312, 3) := dk_182 1 56 (dk_at dksX4_imageRead_3 13 rfl rfl)
theorem dX4_imageRead_84 : decode cX4_imageRead 84 = .ok (.ireturn, 1) := dk_172 (dk_at dksX4_imageRead_3 16 rfl rfl)
theorem c_355_0 : LkP (OkP 355) [(0, o_aload 0 1), (1, o_push 1 (.int 0)), (2, o_put 155 1), (5, o_aload 0 1), (6, o_iload 1 1), (7, o_cv [(30, 338)] 1 3 false none), (10, o_if (fun x => decide (x = 0)) 21), (13, o_aload 0 1), (14, o_iload 2 1), (15, o_cv [(30, 323)] 1 3 false none), (18, o_if (fun x => decide (¬ x = 0)) 27), (21, o_aload 0 1), (22, o_push 1 (.int 1)), (23, o_cv [(30, 291)] 1 3 false none), (26, o_ret 1), (27, o_iload 3 1), (28, o_push 1 (.int 0)), (29, o_push 2 (.int 100000)), (31, o_cs 293 3 false none), (34, o_if (fun x => decide (x = 0)) 48), (37, o_iload 4 2), (39, o_push 1 (.int 0)), (40, o_push 2 (.int 100)), (42, o_cs 293 3 false none), (45, o_if (fun x => decide (¬ x = 0)) 54), (48, o_aload 0 1), (49, o_push 1 (.int 2)), (50, o_cv [(30, 291)] 1 3 false none), (53, o_ret 1), (54, o_aload 0 1), (55, o_get 148), (58, o_push 2 (.int 12)), (60, o_rdI 0), (61, o_push 2 (.int 120)), (63, o_icmp (fun x y => decide (¬ x = y)) 74)] := lkp_c (P := OkP 355) ⟨(PuOK.ok (ok_aload_n dX4_imageRead_0 rfl)), m_aload⟩ (
  lkp_c (P := OkP 355) ⟨(PuOK.ok (ok_iconst dX4_imageRead_1 rfl)), m_push⟩ (
  lkp_c (P := OkP 355) ⟨ok_put ⟨"TollRoadModel", q3087, Or.inl rfl⟩ rfl fd_155 rfl dX4_imageRead_2, m_put⟩ (
  lkp_c (P := OkP 355) ⟨(PuOK.ok (ok_aload_n dX4_imageRead_5 rfl)), m_aload⟩ (
  lkp_c (P := OkP 355) ⟨(PuOK.ok (ok_iload_n dX4_imageRead_6 rfl)), m_iload⟩ (
  lkp_c (P := OkP 355) ⟨ok_cv (List.forall_mem_cons.mpr ⟨tg_V (ci := 30) (r := CLr 30) (y := 338) rfl ⟨rfl, by decide⟩ rfl q3411 q3413 qs72 q139 q3414 ⟨cn_34.1, cn_34.2, pd_77⟩ dX4_imageRead_7, (List.forall_mem_nil _)⟩) hd_no, m_cv⟩ (
  lkp_c (P := OkP 355) ⟨(PuOK.ok (ok_if_eq dX4_imageRead_10 rfl)), m_if⟩ (
  lkp_c (P := OkP 355) ⟨(PuOK.ok (ok_aload_n dX4_imageRead_13 rfl)), m_aload⟩ (
  lkp_c (P := OkP 355) ⟨(PuOK.ok (ok_iload_n dX4_imageRead_14 rfl)), m_iload⟩ (
  lkp_c (P := OkP 355) ⟨ok_cv (List.forall_mem_cons.mpr ⟨tg_V (ci := 30) (r := CLr 30) (y := 323) rfl ⟨rfl, by decide⟩ rfl q3351 q3353 qs64 q139 q3354 ⟨cn_34.1, cn_34.2, pd_77⟩ dX4_imageRead_15, (List.forall_mem_nil _)⟩) hd_no, m_cv⟩ (
  lkp_c (P := OkP 355) ⟨(PuOK.ok (ok_if_ne dX4_imageRead_18 rfl)), m_if⟩ (
  lkp_c (P := OkP 355) ⟨(PuOK.ok (ok_aload_n dX4_imageRead_21 rfl)), m_aload⟩ (
  lkp_c (P := OkP 355) ⟨(PuOK.ok (ok_iconst dX4_imageRead_22 rfl)), m_push⟩ (
  lkp_c (P := OkP 355) ⟨ok_cv (List.forall_mem_cons.mpr ⟨tg_V (ci := 30) (r := CLr 30) (y := 291) rfl ⟨rfl, by decide⟩ rfl q3206 q3208 qs42 q139 q3209 ⟨cn_34.1, cn_34.2, pd_48⟩ dX4_imageRead_23, (List.forall_mem_nil _)⟩) hd_no, m_cv⟩ (
  lkp_c (P := OkP 355) ⟨ok_iret rfl rfl (by decide) dX4_imageRead_26, m_ret⟩ (
  lkp_c (P := OkP 355) ⟨(PuOK.ok (ok_iload_n dX4_imageRead_27 rfl)), m_iload⟩ (
  lkp_c (P := OkP 355) ⟨(PuOK.ok (ok_iconst dX4_imageRead_28 rfl)), m_push⟩ (
  lkp_c (P := OkP 355) ⟨(PuOK.ok (ok_ldc q3308 dX4_imageRead_29)), m_push⟩ (
  lkp_c (P := OkP 355) ⟨ok_cs (tg_S ⟨rfl, by decide⟩ q3214 q3215 q139 q3216 ⟨cn_34.1, cn_34.2, pd_121⟩ dX4_imageRead_31) hd_no, m_cs⟩ (
  lkp_c (P := OkP 355) ⟨(PuOK.ok (ok_if_eq dX4_imageRead_34 rfl)), m_if⟩ (
  lkp_c (P := OkP 355) ⟨(PuOK.ok (ok_iload dX4_imageRead_37)), m_iload⟩ (
  lkp_c (P := OkP 355) ⟨(PuOK.ok (ok_iconst dX4_imageRead_39 rfl)), m_push⟩ (
  lkp_c (P := OkP 355) ⟨(PuOK.ok (ok_bipush dX4_imageRead_40 rfl)), m_push⟩ (
  lkp_c (P := OkP 355) ⟨ok_cs (tg_S ⟨rfl, by decide⟩ q3214 q3215 q139 q3216 ⟨cn_34.1, cn_34.2, pd_121⟩ dX4_imageRead_42) hd_no, m_cs⟩ (
  lkp_c (P := OkP 355) ⟨(PuOK.ok (ok_if_ne dX4_imageRead_45 rfl)), m_if⟩ (
  lkp_c (P := OkP 355) ⟨(PuOK.ok (ok_aload_n dX4_imageRead_48 rfl)), m_aload⟩ (
  lkp_c (P := OkP 355) ⟨(PuOK.ok (ok_iconst dX4_imageRead_49 rfl)), m_push⟩ (
  lkp_c (P := OkP 355) ⟨ok_cv (List.forall_mem_cons.mpr ⟨tg_V (ci := 30) (r := CLr 30) (y := 291) rfl ⟨rfl, by decide⟩ rfl q3206 q3208 qs42 q139 q3209 ⟨cn_34.1, cn_34.2, pd_48⟩ dX4_imageRead_50, (List.forall_mem_nil _)⟩) hd_no, m_cv⟩ (
  lkp_c (P := OkP 355) ⟨ok_iret rfl rfl (by decide) dX4_imageRead_53, m_ret⟩ (
  lkp_c (P := OkP 355) ⟨(PuOK.ok (ok_aload_n dX4_imageRead_54 rfl)), m_aload⟩ (
  lkp_c (P := OkP 355) ⟨ok_get ⟨"TollRoadModel", q3080, Or.inl rfl⟩ dX4_imageRead_55, m_get⟩ (
  lkp_c (P := OkP 355) ⟨(PuOK.ok (ok_bipush dX4_imageRead_58 rfl)), m_push⟩ (
  lkp_c (P := OkP 355) ⟨ok_iald dX4_imageRead_60, m_rdI⟩ (
  lkp_c (P := OkP 355) ⟨(PuOK.ok (ok_bipush dX4_imageRead_61 rfl)), m_push⟩ (
  lkp_c (P := OkP 355) ⟨(PuOK.ok (ok_icmp_ne dX4_imageRead_63 rfl)), m_icmp⟩ (
  trivial)))))))))))))))))))))))))))))))))))
theorem c_355_1 : LkP (OkP 355) [(66, o_aload 0 1), (67, o_push 1 (.int 3)), (68, o_cv [(30, 291)] 1 3 false none), (71, o_goto 84), (74, o_aload 0 1), (75, o_iload 1 1), (76, o_iload 2 1), (77, o_iload 3 1), (78, o_push 1 (.int 1)), (79, o_iload 4 2), (81, o_cv [(30, 352)] 5 3 false none), (84, o_ret 1)] := lkp_c (P := OkP 355) ⟨(PuOK.ok (ok_aload_n dX4_imageRead_66 rfl)), m_aload⟩ (
  lkp_c (P := OkP 355) ⟨(PuOK.ok (ok_iconst dX4_imageRead_67 rfl)), m_push⟩ (
  lkp_c (P := OkP 355) ⟨ok_cv (List.forall_mem_cons.mpr ⟨tg_V (ci := 30) (r := CLr 30) (y := 291) rfl ⟨rfl, by decide⟩ rfl q3206 q3208 qs42 q139 q3209 ⟨cn_34.1, cn_34.2, pd_48⟩ dX4_imageRead_68, (List.forall_mem_nil _)⟩) hd_no, m_cv⟩ (
  lkp_c (P := OkP 355) ⟨(PuOK.ok (ok_goto dX4_imageRead_71 rfl)), m_goto⟩ (
  lkp_c (P := OkP 355) ⟨(PuOK.ok (ok_aload_n dX4_imageRead_74 rfl)), m_aload⟩ (
  lkp_c (P := OkP 355) ⟨(PuOK.ok (ok_iload_n dX4_imageRead_75 rfl)), m_iload⟩ (
  lkp_c (P := OkP 355) ⟨(PuOK.ok (ok_iload_n dX4_imageRead_76 rfl)), m_iload⟩ (
  lkp_c (P := OkP 355) ⟨(PuOK.ok (ok_iload_n dX4_imageRead_77 rfl)), m_iload⟩ (
  lkp_c (P := OkP 355) ⟨(PuOK.ok (ok_iconst dX4_imageRead_78 rfl)), m_push⟩ (
  lkp_c (P := OkP 355) ⟨(PuOK.ok (ok_iload dX4_imageRead_79)), m_iload⟩ (
  lkp_c (P := OkP 355) ⟨ok_cv (List.forall_mem_cons.mpr ⟨tg_V (ci := 30) (r := CLr 30) (y := 352) rfl ⟨rfl, by decide⟩ rfl q3471 q3473 qs81 q139 q3474 ⟨cn_34.1, cn_34.2, pd_127⟩ dX4_imageRead_81, (List.forall_mem_nil _)⟩) hd_no, m_cv⟩ (
  lkp_c (P := OkP 355) ⟨ok_iret rfl rfl (by decide) dX4_imageRead_84, m_ret⟩ (
  trivial))))))))))))
theorem mt_355 : MtOK TB NT IT 355 := ⟨by decide +kernel, rfl, (fun h => by cases h), Or.inl ⟨rfl, rfl⟩, rfl, by decide, lk2_all (P := OkP 355) ⟨c_355_0, c_355_1, trivial⟩⟩
def dkwX4_read_1 : List UInt8 := [184, 0, 91, 153, 0, 12, 42, 27, 28, 182, 0, 234, 167, 0, 8, 42, 5, 182, 0, 87, 172]
abbrev dktX4_read_1 : List UInt8 := dkwX4_read_1 ++ []
def dkwX4_read_0 : List UInt8 := [42, 3, 181, 0, 81, 42, 27, 182, 1, 60, 154, 0, 9, 42, 4, 182, 0, 87, 172, 28, 3, 16, 6]
abbrev dktX4_read_0 : List UInt8 := dkwX4_read_0 ++ dktX4_read_1
theorem dksX4_read_0 : cX4_read.data.toList.drop 0 = dktX4_read_0 := by decide +kernel
theorem dksX4_read_1 : cX4_read.data.toList.drop 23 = dktX4_read_1 := dk_seg dksX4_read_0 23 rfl rfl
theorem dX4_read_0 : decode cX4_read 0 = .ok (.aload_n 0, 1) := dk_42 (dk_at dksX4_read_0 0 rfl rfl)
theorem dX4_read_1 : decode cX4_read 1 = .ok (.iconst 0, 1) := dk_3 (dk_at dksX4_read_0 1 rfl rfl)
theorem dX4_read_2 : decode cX4_read 2 = .ok (.putfield 81, 3) := dk_181 0 81 (dk_at dksX4_read_0 2 rfl rfl)
theorem dX4_read_5 : decode cX4_read 5 = .ok (.aload_n 0, 1) := dk_42 (dk_at dksX4_read_0 5 rfl rfl)
theorem dX4_read_6 : decode cX4_read 6 = .ok (.iload_n 1, 1) := dk_27 (dk_at dksX4_read_0 6 rfl rfl)
theorem dX4_read_7 : decode cX4_read 7 = .ok (.invokevirtual 316, 3) := dk_182 1 60 (dk_at dksX4_read_0 7 rfl rfl)
theorem dX4_read_10 : decode cX4_read 10 = .ok (.ifCond .ne 9, 3) := dk_154 0 9 (dk_at dksX4_read_0 10 rfl rfl)
theorem dX4_read_13 : decode cX4_read 13 = .ok (.aload_n 0, 1) := dk_42 (dk_at dksX4_read_0 13 rfl rfl)
theorem dX4_read_14 : decode cX4_read 14 = .ok (.iconst 1, 1) := dk_4 (dk_at dksX4_read_0 14 rfl rfl)
theorem dX4_read_15 : decode cX4_read 15 = .ok (.invokevirtual 87, 3) := dk_182 0 87 (dk_at dksX4_read_0 15 rfl rfl)
theorem dX4_read_18 : decode cX4_read 18 = .ok (.ireturn, 1) := dk_172 (dk_at dksX4_read_0 18 rfl rfl)
theorem dX4_read_19 : decode cX4_read 19 = .ok (.iload_n 2, 1) := dk_28 (dk_at dksX4_read_0 19 rfl rfl)
theorem dX4_read_20 : decode cX4_read 20 = .ok (.iconst 0, 1) := dk_3 (dk_at dksX4_read_0 20 rfl rfl)
theorem dX4_read_21 : decode cX4_read 21 = .ok (.bipush 6, 2) := dk_16 6 (dk_at dksX4_read_0 21 rfl rfl)
theorem dX4_read_23 : decode cX4_read 23 = .ok (.invokestatic 91, 3) := dk_184 0 91 (dk_at dksX4_read_1 0 rfl rfl)
theorem dX4_read_26 : decode cX4_read 26 = .ok (.ifCond .eq 12, 3) := dk_153 0 12 (dk_at dksX4_read_1 3 rfl rfl)
theorem dX4_read_29 : decode cX4_read 29 = .ok (.aload_n 0, 1) := dk_42 (dk_at dksX4_read_1 6 rfl rfl)
theorem dX4_read_30 : decode cX4_read 30 = .ok (.iload_n 1, 1) := dk_27 (dk_at dksX4_read_1 7 rfl rfl)
theorem dX4_read_31 : decode cX4_read 31 = .ok (.iload_n 2, 1) := dk_28 (dk_at dksX4_read_1 8 rfl rfl)
theorem dX4_read_32 : decode cX4_read 32 = .ok (.invokevirtual 234, 3) := dk_182 0 234 (dk_at dksX4_read_1 9 rfl rfl)
theorem dX4_read_35 : decode cX4_read 35 = .ok (.goto 8, 3) := dk_167 0 8 (dk_at dksX4_read_1 12 rfl rfl)
theorem dX4_read_38 : decode cX4_read 38 = .ok (.aload_n 0, 1) := dk_42 (dk_at dksX4_read_1 15 rfl rfl)
theorem dX4_read_39 : decode cX4_read 39 = .ok (.iconst 2, 1) := dk_5 (dk_at dksX4_read_1 16 rfl rfl)
theorem dX4_read_40 : decode cX4_read 40 = .ok (.invokevirtual 87, 3) := dk_182 0 87 (dk_at dksX4_read_1 17 rfl rfl)
theorem dX4_read_43 : decode cX4_read 43 = .ok (.ireturn, 1) := dk_172 (dk_at dksX4_read_1 20 rfl rfl)
theorem c_356_0 : LkP (OkP 356) [(0, o_aload 0 1), (1, o_push 1 (.int 0)), (2, o_put 155 1), (5, o_aload 0 1), (6, o_iload 1 1), (7, o_cv [(30, 357)] 1 3 false none), (10, o_if (fun x => decide (¬ x = 0)) 19), (13, o_aload 0 1), (14, o_push 1 (.int 1)), (15, o_cv [(30, 291)] 1 3 false none), (18, o_ret 1), (19, o_iload 2 1), (20, o_push 1 (.int 0)), (21, o_push 2 (.int 6)), (23, o_cs 293 3 false none), (26, o_if (fun x => decide (x = 0)) 38), (29, o_aload 0 1), (30, o_iload 1 1), (31, o_iload 2 1), (32, o_cv [(30, 331)] 2 3 false none), (35, o_goto 43), (38, o_aload 0 1), (39, o_push 1 (.int 2)), (40, o_cv [(30, 291)] 1 3 false none), (43, o_ret 1)] := lkp_c (P := OkP 356) ⟨(PuOK.ok (ok_aload_n dX4_read_0 rfl)), m_aload⟩ (
  lkp_c (P := OkP 356) ⟨(PuOK.ok (ok_iconst dX4_read_1 rfl)), m_push⟩ (
  lkp_c (P := OkP 356) ⟨ok_put ⟨"TollRoadModel", q3087, Or.inl rfl⟩ rfl fd_155 rfl dX4_read_2, m_put⟩ (
  lkp_c (P := OkP 356) ⟨(PuOK.ok (ok_aload_n dX4_read_5 rfl)), m_aload⟩ (
  lkp_c (P := OkP 356) ⟨(PuOK.ok (ok_iload_n dX4_read_6 rfl)), m_iload⟩ (
  lkp_c (P := OkP 356) ⟨ok_cv (List.forall_mem_cons.mpr ⟨tg_V (ci := 30) (r := CLr 30) (y := 357) rfl ⟨rfl, by decide⟩ rfl q3491 q3493 qs84 q139 q3494 ⟨cn_34.1, cn_34.2, pd_77⟩ dX4_read_7, (List.forall_mem_nil _)⟩) hd_no, m_cv⟩ (
  lkp_c (P := OkP 356) ⟨(PuOK.ok (ok_if_ne dX4_read_10 rfl)), m_if⟩ (
  lkp_c (P := OkP 356) ⟨(PuOK.ok (ok_aload_n dX4_read_13 rfl)), m_aload⟩ (
  lkp_c (P := OkP 356) ⟨(PuOK.ok (ok_iconst dX4_read_14 rfl)), m_push⟩ (
  lkp_c (P := OkP 356) ⟨ok_cv (List.forall_mem_cons.mpr ⟨tg_V (ci := 30) (r := CLr 30) (y := 291) rfl ⟨rfl, by decide⟩ rfl q3206 q3208 qs42 q139 q3209 ⟨cn_34.1, cn_34.2, pd_48⟩ dX4_read_15, (List.forall_mem_nil _)⟩) hd_no, m_cv⟩ (
  lkp_c (P := OkP 356) ⟨ok_iret rfl rfl (by decide) dX4_read_18, m_ret⟩ (
  lkp_c (P := OkP 356) ⟨(PuOK.ok (ok_iload_n dX4_read_19 rfl)), m_iload⟩ (
  lkp_c (P := OkP 356) ⟨(PuOK.ok (ok_iconst dX4_read_20 rfl)), m_push⟩ (
  lkp_c (P := OkP 356) ⟨(PuOK.ok (ok_bipush dX4_read_21 rfl)), m_push⟩ (
  lkp_c (P := OkP 356) ⟨ok_cs (tg_S ⟨rfl, by decide⟩ q3214 q3215 q139 q3216 ⟨cn_34.1, cn_34.2, pd_121⟩ dX4_read_23) hd_no, m_cs⟩ (
  lkp_c (P := OkP 356) ⟨(PuOK.ok (ok_if_eq dX4_read_26 rfl)), m_if⟩ (
  lkp_c (P := OkP 356) ⟨(PuOK.ok (ok_aload_n dX4_read_29 rfl)), m_aload⟩ (
  lkp_c (P := OkP 356) ⟨(PuOK.ok (ok_iload_n dX4_read_30 rfl)), m_iload⟩ (
  lkp_c (P := OkP 356) ⟨(PuOK.ok (ok_iload_n dX4_read_31 rfl)), m_iload⟩ (
  lkp_c (P := OkP 356) ⟨ok_cv (List.forall_mem_cons.mpr ⟨tg_V (ci := 30) (r := CLr 30) (y := 331) rfl ⟨rfl, by decide⟩ rfl q3383 q3385 qs68 q139 q3386 ⟨cn_34.1, cn_34.2, pd_1⟩ dX4_read_32, (List.forall_mem_nil _)⟩) hd_no, m_cv⟩ (
  lkp_c (P := OkP 356) ⟨(PuOK.ok (ok_goto dX4_read_35 rfl)), m_goto⟩ (
  lkp_c (P := OkP 356) ⟨(PuOK.ok (ok_aload_n dX4_read_38 rfl)), m_aload⟩ (
  lkp_c (P := OkP 356) ⟨(PuOK.ok (ok_iconst dX4_read_39 rfl)), m_push⟩ (
  lkp_c (P := OkP 356) ⟨ok_cv (List.forall_mem_cons.mpr ⟨tg_V (ci := 30) (r := CLr 30) (y := 291) rfl ⟨rfl, by decide⟩ rfl q3206 q3208 qs42 q139 q3209 ⟨cn_34.1, cn_34.2, pd_48⟩ dX4_read_40, (List.forall_mem_nil _)⟩) hd_no, m_cv⟩ (
  lkp_c (P := OkP 356) ⟨ok_iret rfl rfl (by decide) dX4_read_43, m_ret⟩ (
  trivial)))))))))))))))))))))))))
theorem mt_356 : MtOK TB NT IT 356 := ⟨by decide +kernel, rfl, (fun h => by cases h), Or.inl ⟨rfl, rfl⟩, rfl, by decide, lk2_all (P := OkP 356) ⟨c_356_0, trivial⟩⟩
def dkwX4_isRead_0 : List UInt8 := [27, 3, 42, 180, 0, 7, 16, 12, 46, 4, 100, 184, 0, 91, 172]
abbrev dktX4_isRead_0 : List UInt8 := dkwX4_isRead_0 ++ []
theorem dksX4_isRead_0 : cX4_isRead.data.toList.drop 0 = dktX4_isRead_0 := by decide +kernel
theorem dX4_isRead_0 : decode cX4_isRead 0 = .ok (.iload_n 1, 1) := dk_27 (dk_at dksX4_isRead_0 0 rfl rfl)
theorem dX4_isRead_1 : decode cX4_isRead 1 = .ok (.iconst 0, 1) := dk_3 (dk_at dksX4_isRead_0 1 rfl rfl)
theorem dX4_isRead_2 : decode cX4_isRead 2 = .ok (.aload_n 0, 1) := dk_42 (dk_at dksX4_isRead_0 2 rfl rfl)
theorem dX4_isRead_3 : decode cX4_isRead 3 = .ok (.getfield 7, 3) := dk_180 0 7 (dk_at dksX4_isRead_0 3 rfl rfl)
theorem dX4_isRead_6 : decode cX4_isRead 6 = .ok (.bipush 12, 2) := dk_16 12 (dk_at dksX4_isRead_0 6 rfl rfl)
theorem dX4_isRead_8 : decode cX4_isRead 8 = .ok (.iaload, 1) := dk_46 (dk_at dksX4_isRead_0 8 rfl rfl)
theorem dX4_isRead_9 : decode cX4_isRead 9 = .ok (.iconst 1, 1) := dk_4 (dk_at dksX4_isRead_0 9 rfl rfl)
theorem dX4_isRead_10 : decode cX4_isRead 10 = .ok (.isub, 1) := dk_100 (dk_at dksX4_isRead_0 10 rfl rfl)
theorem dX4_isRead_11 : decode cX4_isRead 11 = .ok (.invokestatic 91, 3) := dk_184 0 91 (dk_at dksX4_isRead_0 11 rfl rfl)
theorem dX4_isRead_14 : decode cX4_isRead 14 = .ok (.ireturn, 1) := dk_172 (dk_at dksX4_isRead_0 14 rfl rfl)
theorem c_357_0 : LkP (OkP 357) [(0, o_iload 1 1), (1, o_push 1 (.int 0)), (2, o_aload 0 1), (3, o_get 148), (6, o_push 2 (.int 12)), (8, o_rdI 0), (9, o_push 1 (.int 1)), (10, o_iop (fun x y => x - y)), (11, o_cs 293 3 false none), (14, o_ret 5)] := lkp_c (P := OkP 357) ⟨(PuOK.ok (ok_iload_n dX4_isRead_0 rfl)), m_iload⟩ (
  lkp_c (P := OkP 357) ⟨(PuOK.ok (ok_iconst dX4_isRead_1 rfl)), m_push⟩ (
  lkp_c (P := OkP 357) ⟨(PuOK.ok (ok_aload_n dX4_isRead_2 rfl)), m_aload⟩ (
  lkp_c (P := OkP 357) ⟨ok_get ⟨"TollRoadModel", q3080, Or.inl rfl⟩ dX4_isRead_3, m_get⟩ (
  lkp_c (P := OkP 357) ⟨(PuOK.ok (ok_bipush dX4_isRead_6 rfl)), m_push⟩ (
  lkp_c (P := OkP 357) ⟨ok_iald dX4_isRead_8, m_rdI⟩ (
  lkp_c (P := OkP 357) ⟨(PuOK.ok (ok_iconst dX4_isRead_9 rfl)), m_push⟩ (
  lkp_c (P := OkP 357) ⟨(PuOK.ok (ok_isub dX4_isRead_10)), m_iop⟩ (
  lkp_c (P := OkP 357) ⟨ok_cs (tg_S ⟨rfl, by decide⟩ q3214 q3215 q139 q3216 ⟨cn_34.1, cn_34.2, pd_121⟩ dX4_isRead_11) hd_no, m_cs⟩ (
  lkp_c (P := OkP 357) ⟨ok_iret rfl rfl (by decide) dX4_isRead_14, m_ret⟩ (
  trivial))))))))))
theorem mt_357 : MtOK TB NT IT 357 := ⟨by decide +kernel, rfl, (fun h => by cases h), Or.inl ⟨rfl, rfl⟩, rfl, by decide, lk2_all (P := OkP 357) ⟨c_357_0, trivial⟩⟩
def dkwX4_review_0 : List UInt8 := [42, 3, 181, 0, 81, 27, 156, 0, 11, 42, 4, 182, 0, 87, 167, 0, 8, 42, 27, 182, 1, 66, 172]
abbrev dktX4_review_0 : List UInt8 := dkwX4_review_0 ++ []
theorem dksX4_review_0 : cX4_review.data.toList.drop 0 = dktX4_review_0 := by decide +kernel
theorem dX4_review_0 : decode cX4_review 0 = .ok (.aload_n 0, 1) := dk_42 (dk_at dksX4_review_0 0 rfl rfl)
theorem dX4_review_1 : decode cX4_review 1 = .ok (.iconst 0, 1) := dk_3 (dk_at dksX4_review_0 1 rfl rfl)
theorem dX4_review_2 : decode cX4_review 2 = .ok (.putfield 81, 3) := dk_181 0 81 (dk_at dksX4_review_0 2 rfl rfl)
theorem dX4_review_5 : decode cX4_review 5 = .ok (.iload_n 1, 1) := dk_27 (dk_at dksX4_review_0 5 rfl rfl)
theorem dX4_review_6 : decode cX4_review 6 = .ok (.ifCond .ge 11, 3) := dk_156 0 11 (dk_at dksX4_review_0 6 rfl rfl)
theorem dX4_review_9 : decode cX4_review 9 = .ok (.aload_n 0, 1) := dk_42 (dk_at dksX4_review_0 9 rfl rfl)
theorem dX4_review_10 : decode cX4_review 10 = .ok (.iconst 1, 1) := dk_4 (dk_at dksX4_review_0 10 rfl rfl)
theorem dX4_review_11 : decode cX4_review 11 = .ok (.invokevirtual 87, 3) := dk_182 0 87 (dk_at dksX4_review_0 11 rfl rfl)
theorem dX4_review_14 : decode cX4_review 14 = .ok (.goto 8, 3) := dk_167 0 8 (dk_at dksX4_review_0 14 rfl rfl)
theorem dX4_review_17 : decode cX4_review 17 = .ok (.aload_n 0, 1) := dk_42 (dk_at dksX4_review_0 17 rfl rfl)
theorem dX4_review_18 : decode cX4_review 18 = .ok (.iload_n 1, 1) := dk_27 (dk_at dksX4_review_0 18 rfl rfl)
theorem dX4_review_19 : decode cX4_review 19 = .ok (.invokevirtual 322, 3) := dk_182 1 66 (dk_at dksX4_review_0 19 rfl rfl)
theorem dX4_review_22 : decode cX4_review 22 = .ok (.ireturn, 1) := dk_172 (dk_at dksX4_review_0 22 rfl rfl)
theorem c_358_0 : LkP (OkP 358) [(0, o_aload 0 1), (1, o_push 1 (.int 0)), (2, o_put 155 1), (5, o_iload 1 1), (6, o_if (fun x => decide (0 ≤ x)) 17), (9, o_aload 0 1), (10, o_push 1 (.int 1)), (11, o_cv [(30, 291)] 1 3 false none), (14, o_goto 22), (17, o_aload 0 1), (18, o_iload 1 1), (19, o_cv [(30, 359)] 1 3 false none), (22, o_ret 1)] := lkp_c (P := OkP 358) ⟨(PuOK.ok (ok_aload_n dX4_review_0 rfl)), m_aload⟩ (
  lkp_c (P := OkP 358) ⟨(PuOK.ok (ok_iconst dX4_review_1 rfl)), m_push⟩ (
  lkp_c (P := OkP 358) ⟨ok_put ⟨"TollRoadModel", q3087, Or.inl rfl⟩ rfl fd_155 rfl dX4_review_2, m_put⟩ (
  lkp_c (P := OkP 358) ⟨(PuOK.ok (ok_iload_n dX4_review_5 rfl)), m_iload⟩ (
  lkp_c (P := OkP 358) ⟨(PuOK.ok (ok_if_ge dX4_review_6 rfl)), m_if⟩ (
  lkp_c (P := OkP 358) ⟨(PuOK.ok (ok_aload_n dX4_review_9 rfl)), m_aload⟩ (
  lkp_c (P := OkP 358) ⟨(PuOK.ok (ok_iconst dX4_review_10 rfl)), m_push⟩ (
  lkp_c (P := OkP 358) ⟨ok_cv (List.forall_mem_cons.mpr ⟨tg_V (ci := 30) (r := CLr 30) (y := 291) rfl ⟨rfl, by decide⟩ rfl q3206 q3208 qs42 q139 q3209 ⟨cn_34.1, cn_34.2, pd_48⟩ dX4_review_11, (List.forall_mem_nil _)⟩) hd_no, m_cv⟩ (
  lkp_c (P := OkP 358) ⟨(PuOK.ok (ok_goto dX4_review_14 rfl)), m_goto⟩ (
  lkp_c (P := OkP 358) ⟨(PuOK.ok (ok_aload_n dX4_review_17 rfl)), m_aload⟩ (
  lkp_c (P := OkP 358) ⟨(PuOK.ok (ok_iload_n dX4_review_18 rfl)), m_iload⟩ (
  lkp_c (P := OkP 358) ⟨ok_cv (List.forall_mem_cons.mpr ⟨tg_V (ci := 30) (r := CLr 30) (y := 359) rfl ⟨rfl, by decide⟩ rfl q3499 q3501 qs85 q139 q3502 ⟨cn_34.1, cn_34.2, pd_48⟩ dX4_review_19, (List.forall_mem_nil _)⟩) hd_no, m_cv⟩ (
  lkp_c (P := OkP 358) ⟨ok_iret rfl rfl (by decide) dX4_review_22, m_ret⟩ (
  trivial)))))))))))))
theorem mt_358 : MtOK TB NT IT 358 := ⟨by decide +kernel, rfl, (fun h => by cases h), Or.inl ⟨rfl, rfl⟩, rfl, by decide, lk2_all (P := OkP 358) ⟨c_358_0, trivial⟩⟩
def dkwX4_reviewAt_4 : List UInt8 := [167, 255, 166, 2, 172]
abbrev dktX4_reviewAt_4 : List UInt8 := dkwX4_reviewAt_4 ++ []
def dkwX4_reviewAt_3 : List UInt8 := [167, 0, 4, 3, 96, 62, 132, 4, 1, 167, 255, 207, 29, 27, 160, 0, 5, 28, 172, 132, 2, 1]
abbrev dktX4_reviewAt_3 : List UInt8 := dkwX4_reviewAt_3 ++ dktX4_reviewAt_4
def dkwX4_reviewAt_2 : List UInt8 := [8, 182, 0, 234, 154, 0, 23, 21, 4, 28, 159, 0, 17, 42, 21, 4, 28, 182, 1, 63, 153, 0, 7, 4]
abbrev dktX4_reviewAt_2 : List UInt8 := dkwX4_reviewAt_2 ++ dktX4_reviewAt_3
def dkwX4_reviewAt_1 : List UInt8 := [167, 0, 67, 3, 62, 3, 54, 4, 21, 4, 42, 180, 0, 7, 16, 12, 46, 162, 0, 43, 29, 42, 21, 4]
abbrev dktX4_reviewAt_1 : List UInt8 := dkwX4_reviewAt_1 ++ dktX4_reviewAt_2
def dkwX4_reviewAt_0 : List UInt8 := [3, 61, 28, 42, 180, 0, 7, 16, 12, 46, 162, 0, 85, 42, 28, 8, 182, 0, 234, 153, 0, 6]
abbrev dktX4_reviewAt_0 : List UInt8 := dkwX4_reviewAt_0 ++ dktX4_reviewAt_1
theorem dksX4_reviewAt_0 : cX4_reviewAt.data.toList.drop 0 = dktX4_reviewAt_0 := by decide +kernel
theorem dksX4_reviewAt_1 : cX4_reviewAt.data.toList.drop 22 = dktX4_reviewAt_1 := dk_seg dksX4_reviewAt_0 22 rfl rfl
theorem dksX4_reviewAt_2 : cX4_reviewAt.data.toList.drop 46 = dktX4_reviewAt_2 := dk_seg dksX4_reviewAt_1 24 rfl rfl
theorem dksX4_reviewAt_3 : cX4_reviewAt.data.toList.drop 70 = dktX4_reviewAt_3 := dk_seg dksX4_reviewAt_2 24 rfl rfl
theorem dksX4_reviewAt_4 : cX4_reviewAt.data.toList.drop 92 = dktX4_reviewAt_4 := dk_seg dksX4_reviewAt_3 22 rfl rfl
theorem dX4_reviewAt_0 : decode cX4_reviewAt 0 = .ok (.iconst 0, 1) := dk_3 (dk_at dksX4_reviewAt_0 0 rfl rfl)
theorem dX4_reviewAt_1 : decode cX4_reviewAt 1 = .ok (.istore_n 2, 1) := dk_61 (dk_at dksX4_reviewAt_0 1 rfl rfl)
theorem dX4_reviewAt_2 : decode cX4_reviewAt 2 = .ok (.iload_n 2, 1) := dk_28 (dk_at dksX4_reviewAt_0 2 rfl rfl)
theorem dX4_reviewAt_3 : decode cX4_reviewAt 3 = .ok (.aload_n 0, 1) := dk_42 (dk_at dksX4_reviewAt_0 3 rfl rfl)
theorem dX4_reviewAt_4 : decode cX4_reviewAt 4 = .ok (.getfield 7, 3) := dk_180 0 7 (dk_at dksX4_reviewAt_0 4 rfl rfl)
theorem dX4_reviewAt_7 : decode cX4_reviewAt 7 = .ok (.bipush 12, 2) := dk_16 12 (dk_at dksX4_reviewAt_0 7 rfl rfl)
theorem dX4_reviewAt_9 : decode cX4_reviewAt 9 = .ok (.iaload, 1) := dk_46 (dk_at dksX4_reviewAt_0 9 rfl rfl)
theorem dX4_reviewAt_10 : decode cX4_reviewAt 10 = .ok (.if_icmp .ge 85, 3) := dk_162 0 85 (dk_at dksX4_reviewAt_0 10 rfl rfl)
theorem dX4_reviewAt_13 : decode cX4_reviewAt 13 = .ok (.aload_n 0, 1) := dk_42 (dk_at dksX4_reviewAt_0 13 rfl rfl)
theorem dX4_reviewAt_14 : decode cX4_reviewAt 14 = .ok (.iload_n 2, 1) := dk_28 (dk_at dksX4_reviewAt_0 14 rfl rfl)
theorem dX4_reviewAt_15 : decode cX4_reviewAt 15 = .ok (.iconst 5, 1) := dk_8 (dk_at dksX4_reviewAt_0 15 rfl rfl)
theorem dX4_reviewAt_16 : decode cX4_reviewAt 16 = .ok (.invokevirtual 234, 3) := dk_182 0 234 (dk_at dksX4_reviewAt_0 16 rfl rfl)
theorem dX4_reviewAt_19 : decode cX4_reviewAt 19 = .ok (.ifCond .eq 6, 3) := dk_153 0 6 (dk_at dksX4_reviewAt_0 19 rfl rfl)
theorem dX4_reviewAt_22 : decode cX4_reviewAt 22 = .ok (.goto 67, 3) := dk_167 0 67 (dk_at dksX4_reviewAt_1 0 rfl rfl)
theorem dX4_reviewAt_25 : decode cX4_reviewAt 25 = .ok (.iconst 0, 1) := dk_3 (dk_at dksX4_reviewAt_1 3 rfl rfl)
theorem dX4_reviewAt_26 : decode cX4_reviewAt 26 = .ok (.istore_n 3, 1) := dk_62 (dk_at dksX4_reviewAt_1 4 rfl rfl)
theorem dX4_reviewAt_27 : decode cX4_reviewAt 27 = .ok (.iconst 0, 1) := dk_3 (dk_at dksX4_reviewAt_1 5 rfl rfl)
theorem dX4_reviewAt_28 : decode cX4_reviewAt 28 = .ok (.istore 4, 2) := dk_54 4 (dk_at dksX4_reviewAt_1 6 rfl rfl)
theorem dX4_reviewAt_30 : decode cX4_reviewAt 30 = .ok (.iload 4, 2) := dk_21 4 (dk_at dksX4_reviewAt_1 8 rfl rfl)
theorem dX4_reviewAt_32 : decode cX4_reviewAt 32 = .ok (.aload_n 0, 1) := dk_42 (dk_at dksX4_reviewAt_1 10 rfl rfl)
theorem dX4_reviewAt_33 : decode cX4_reviewAt 33 = .ok (.getfield 7, 3) := dk_180 0 7 (dk_at dksX4_reviewAt_1 11 rfl rfl)
theorem dX4_reviewAt_36 : decode cX4_reviewAt 36 = .ok (.bipush 12, 2) := dk_16 12 (dk_at dksX4_reviewAt_1 14 rfl rfl)
theorem dX4_reviewAt_38 : decode cX4_reviewAt 38 = .ok (.iaload, 1) := dk_46 (dk_at dksX4_reviewAt_1 16 rfl rfl)
theorem dX4_reviewAt_39 : decode cX4_reviewAt 39 = .ok (.if_icmp .ge 43, 3) := dk_162 0 43 (dk_at dksX4_reviewAt_1 17 rfl rfl)
theorem dX4_reviewAt_42 : decode cX4_reviewAt 42 = .ok (.iload_n 3, 1) := dk_29 (dk_at dksX4_reviewAt_1 20 rfl rfl)
theorem dX4_reviewAt_43 : decode cX4_reviewAt 43 = .ok (.aload_n 0, 1) := dk_42 (dk_at dksX4_reviewAt_1 21 rfl rfl)
theorem dX4_reviewAt_44 : decode cX4_reviewAt 44 = .ok (.iload 4, 2) := dk_21 4 (dk_at dksX4_reviewAt_1 22 rfl rfl)
theorem dX4_reviewAt_46 : decode cX4_reviewAt 46 = .ok (.iconst 5, 1) := dk_8 (dk_at dksX4_reviewAt_2 0 rfl rfl)
theorem dX4_reviewAt_47 : decode cX4_reviewAt 47 = .ok (.invokevirtual 234, 3) := dk_182 0 234 (dk_at dksX4_reviewAt_2 1 rfl rfl)
theorem dX4_reviewAt_50 : decode cX4_reviewAt 50 = .ok (.ifCond .ne 23, 3) := dk_154 0 23 (dk_at dksX4_reviewAt_2 4 rfl rfl)
theorem dX4_reviewAt_53 : decode cX4_reviewAt 53 = .ok (.iload 4, 2) := dk_21 4 (dk_at dksX4_reviewAt_2 7 rfl rfl)
theorem dX4_reviewAt_55 : decode cX4_reviewAt 55 = .ok (.iload_n 2, 1) := dk_28 (dk_at dksX4_reviewAt_2 9 rfl rfl)
theorem dX4_reviewAt_56 : decode cX4_reviewAt 56 = .ok (.if_icmp .eq 17, 3) := dk_159 0 17 (dk_at dksX4_reviewAt_2 10 rfl rfl)
theorem dX4_reviewAt_59 : decode cX4_reviewAt 59 = .ok (.aload_n 0, 1) := dk_42 (dk_at dksX4_reviewAt_2 13 rfl rfl)
theorem dX4_reviewAt_60 : decode cX4_reviewAt 60 = .ok (.iload 4, 2) := dk_21 4 (dk_at dksX4_reviewAt_2 14 rfl rfl)
theorem dX4_reviewAt_62 : decode cX4_reviewAt 62 = .ok (.iload_n 2, 1) := dk_28 (dk_at dksX4_reviewAt_2 16 rfl rfl)
theorem dX4_reviewAt_63 : decode cX4_reviewAt 63 = .ok (.invokevirtual 319, 3) := dk_182 1 63 (dk_at dksX4_reviewAt_2 17 rfl rfl)
theorem dX4_reviewAt_66 : decode cX4_reviewAt 66 = .ok (.ifCond .eq 7, 3) := dk_153 0 7 (dk_at dksX4_reviewAt_2 20 rfl rfl)
theorem dX4_reviewAt_69 : decode cX4_reviewAt 69 = .ok (.iconst 1, 1) := dk_4 (dk_at dksX4_reviewAt_2 23 rfl rfl)
theorem dX4_reviewAt_70 : decode cX4_reviewAt 70 = .ok (.goto 4, 3) := dk_167 0 4 (dk_at dksX4_reviewAt_3 0 rfl rfl)
theorem dX4_reviewAt_73 : decode cX4_reviewAt 73 = .ok (.iconst 0, 1) := dk_3 (dk_at dksX4_reviewAt_3 3 rfl rfl)
theorem dX4_reviewAt_74 : decode cX4_reviewAt 74 = .ok (.iadd, 1) := dk_96 (dk_at dksX4_reviewAt_3 4 rfl rfl)
theorem dX4_reviewAt_75 : decode cX4_reviewAt 75 = .ok (.istore_n 3, 1) := dk_62 (dk_at dksX4_reviewAt_3 5 rfl rfl)
theorem dX4_reviewAt_76 : decode cX4_reviewAt 76 = .ok (.iinc 4 1, 3) := dk_132 4 1 (dk_at dksX4_reviewAt_3 6 rfl rfl)
theorem dX4_reviewAt_79 : decode cX4_reviewAt 79 = .ok (.goto (-49), 3) := dk_167 255 207 (dk_at dksX4_reviewAt_3 9 rfl rfl)
theorem dX4_reviewAt_82 : decode cX4_reviewAt 82 = .ok (.iload_n 3, 1) := dk_29 (dk_at dksX4_reviewAt_3 12 rfl rfl)
theorem dX4_reviewAt_83 : decode cX4_reviewAt 83 = .ok (.iload_n 1, 1) := dk_27 (dk_at dksX4_reviewAt_3 13 rfl rfl)
theorem dX4_reviewAt_84 : decode cX4_reviewAt 84 = .ok (.if_icmp .ne 5, 3) := dk_160 0 5 (dk_at dksX4_reviewAt_3 14 rfl rfl)
theorem dX4_reviewAt_87 : decode cX4_reviewAt 87 = .ok (.iload_n 2, 1) := dk_28 (dk_at dksX4_reviewAt_3 17 rfl rfl)
theorem dX4_reviewAt_88 : decode cX4_reviewAt 88 = .ok (.ireturn, 1) := dk_172 (dk_at dksX4_reviewAt_3 18 rfl rfl)
theorem dX4_reviewAt_89 : decode cX4_reviewAt 89 = .ok (.iinc 2 1, 3) := dk_132 2 1 (dk_at dksX4_reviewAt_3 19 rfl rfl)
theorem dX4_reviewAt_92 : decode cX4_reviewAt 92 = .ok (.goto (-90), 3) := dk_167 255 166 (dk_at dksX4_reviewAt_4 0 rfl rfl)
theorem dX4_reviewAt_95 : decode cX4_reviewAt 95 = .ok (.iconst (-1), 1) := dk_2 (dk_at dksX4_reviewAt_4 3 rfl rfl)
theorem dX4_reviewAt_96 : decode cX4_reviewAt 96 = .ok (.ireturn, 1) := dk_172 (dk_at dksX4_reviewAt_4 4 rfl rfl)
theorem c_359_0 : LkP (OkP 359) [(0, o_push 1 (.int 0)), (1, o_istore 2 1), (2, o_iload 2 1), (3, o_aload 0 1), (4, o_get 148), (7, o_push 2 (.int 12)), (9, o_rdI 0), (10, o_icmp (fun x y => decide (y ≤ x)) 95), (13, o_aload 0 1), (14, o_iload 2 1), (15, o_push 1 (.int 5)), (16, o_cv [(30, 331)] 2 3 false none), (19, o_if (fun x => decide (x = 0)) 25), (22, o_goto 89), (25, o_push 1 (.int 0)), (26, o_istore 3 1), (27, o_push 1 (.int 0)), (28, o_istore 4 2), (30, o_iload 4 2), (32, o_aload 0 1), (33, o_get 148), (36, o_push 2 (.int 12)), (38, o_rdI 0), (39, o_icmp (fun x y => decide (y ≤ x)) 82), (42, o_iload 3 1), (43, o_aload 0 1), (44, o_iload 4 2), (46, o_push 1 (.int 5)), (47, o_cv [(30, 331)] 2 3 false none), (50, o_if (fun x => decide (¬ x = 0)) 73), (53, o_iload 4 2), (55, o_iload 2 1), (56, o_icmp (fun x y => decide (x = y)) 73), (59, o_aload 0 1), (60, o_iload 4 2), (62, o_iload 2 1), (63, o_cv [(30, 360)] 2 3 false none)] := lkp_c (P := OkP 359) ⟨(PuOK.ok (ok_iconst dX4_reviewAt_0 rfl)), m_push⟩ (
  lkp_c (P := OkP 359) ⟨(PuOK.ok (ok_istore_n dX4_reviewAt_1 rfl)), m_istore⟩ (
  lkp_c (P := OkP 359) ⟨(PuOK.ok (ok_iload_n dX4_reviewAt_2 rfl)), m_iload⟩ (
  lkp_c (P := OkP 359) ⟨(PuOK.ok (ok_aload_n dX4_reviewAt_3 rfl)), m_aload⟩ (
  lkp_c (P := OkP 359) ⟨ok_get ⟨"TollRoadModel", q3080, Or.inl rfl⟩ dX4_reviewAt_4, m_get⟩ (
  lkp_c (P := OkP 359) ⟨(PuOK.ok (ok_bipush dX4_reviewAt_7 rfl)), m_push⟩ (
  lkp_c (P := OkP 359) ⟨ok_iald dX4_reviewAt_9, m_rdI⟩ (
  lkp_c (P := OkP 359) ⟨(PuOK.ok (ok_icmp_ge dX4_reviewAt_10 rfl)), m_icmp⟩ (
  lkp_c (P := OkP 359) ⟨(PuOK.ok (ok_aload_n dX4_reviewAt_13 rfl)), m_aload⟩ (
  lkp_c (P := OkP 359) ⟨(PuOK.ok (ok_iload_n dX4_reviewAt_14 rfl)), m_iload⟩ (
  lkp_c (P := OkP 359) ⟨(PuOK.ok (ok_iconst dX4_reviewAt_15 rfl)), m_push⟩ (
  lkp_c (P := OkP 359) ⟨ok_cv (List.forall_mem_cons.mpr ⟨tg_V (ci := 30) (r := CLr 30) (y := 331) rfl ⟨rfl, by decide⟩ rfl q3383 q3385 qs68 q139 q3386 ⟨cn_34.1, cn_34.2, pd_1⟩ dX4_reviewAt_16, (List.forall_mem_nil _)⟩) hd_no, m_cv⟩ (
  lkp_c (P := OkP 359) ⟨(PuOK.ok (ok_if_eq dX4_reviewAt_19 rfl)), m_if⟩ (
  lkp_c (P := OkP 359) ⟨(PuOK.ok (ok_goto dX4_reviewAt_22 rfl)), m_goto⟩ (
  lkp_c (P := OkP 359) ⟨(PuOK.ok (ok_iconst dX4_reviewAt_25 rfl)), m_push⟩ (
  lkp_c (P := OkP 359) ⟨(PuOK.ok (ok_istore_n dX4_reviewAt_26 rfl)), m_istore⟩ (
  lkp_c (P := OkP 359) ⟨(PuOK.ok (ok_iconst dX4_reviewAt_27 rfl)), m_push⟩ (
  lkp_c (P := OkP 359) ⟨(PuOK.ok (ok_istore dX4_reviewAt_28)), m_istore⟩ (
  lkp_c (P := OkP 359) ⟨(PuOK.ok (ok_iload dX4_reviewAt_30)), m_iload⟩ (
  lkp_c (P := OkP 359) ⟨(PuOK.ok (ok_aload_n dX4_reviewAt_32 rfl)), m_aload⟩ (
  lkp_c (P := OkP 359) ⟨ok_get ⟨"TollRoadModel", q3080, Or.inl rfl⟩ dX4_reviewAt_33, m_get⟩ (
  lkp_c (P := OkP 359) ⟨(PuOK.ok (ok_bipush dX4_reviewAt_36 rfl)), m_push⟩ (
  lkp_c (P := OkP 359) ⟨ok_iald dX4_reviewAt_38, m_rdI⟩ (
  lkp_c (P := OkP 359) ⟨(PuOK.ok (ok_icmp_ge dX4_reviewAt_39 rfl)), m_icmp⟩ (
  lkp_c (P := OkP 359) ⟨(PuOK.ok (ok_iload_n dX4_reviewAt_42 rfl)), m_iload⟩ (
  lkp_c (P := OkP 359) ⟨(PuOK.ok (ok_aload_n dX4_reviewAt_43 rfl)), m_aload⟩ (
  lkp_c (P := OkP 359) ⟨(PuOK.ok (ok_iload dX4_reviewAt_44)), m_iload⟩ (
  lkp_c (P := OkP 359) ⟨(PuOK.ok (ok_iconst dX4_reviewAt_46 rfl)), m_push⟩ (
  lkp_c (P := OkP 359) ⟨ok_cv (List.forall_mem_cons.mpr ⟨tg_V (ci := 30) (r := CLr 30) (y := 331) rfl ⟨rfl, by decide⟩ rfl q3383 q3385 qs68 q139 q3386 ⟨cn_34.1, cn_34.2, pd_1⟩ dX4_reviewAt_47, (List.forall_mem_nil _)⟩) hd_no, m_cv⟩ (
  lkp_c (P := OkP 359) ⟨(PuOK.ok (ok_if_ne dX4_reviewAt_50 rfl)), m_if⟩ (
  lkp_c (P := OkP 359) ⟨(PuOK.ok (ok_iload dX4_reviewAt_53)), m_iload⟩ (
  lkp_c (P := OkP 359) ⟨(PuOK.ok (ok_iload_n dX4_reviewAt_55 rfl)), m_iload⟩ (
  lkp_c (P := OkP 359) ⟨(PuOK.ok (ok_icmp_eq dX4_reviewAt_56 rfl)), m_icmp⟩ (
  lkp_c (P := OkP 359) ⟨(PuOK.ok (ok_aload_n dX4_reviewAt_59 rfl)), m_aload⟩ (
  lkp_c (P := OkP 359) ⟨(PuOK.ok (ok_iload dX4_reviewAt_60)), m_iload⟩ (
  lkp_c (P := OkP 359) ⟨(PuOK.ok (ok_iload_n dX4_reviewAt_62 rfl)), m_iload⟩ (
  lkp_c (P := OkP 359) ⟨ok_cv (List.forall_mem_cons.mpr ⟨tg_V (ci := 30) (r := CLr 30) (y := 360) rfl ⟨rfl, by decide⟩ rfl q3503 q3505 qs86 q139 q3506 ⟨cn_34.1, cn_34.2, pd_126⟩ dX4_reviewAt_63, (List.forall_mem_nil _)⟩) hd_no, m_cv⟩ (
  trivial)))))))))))))))))))))))))))))))))))))
theorem c_359_1 : LkP (OkP 359) [(66, o_if (fun x => decide (x = 0)) 73), (69, o_push 1 (.int 1)), (70, o_goto 74), (73, o_push 1 (.int 0)), (74, o_iop (fun x y => x + y)), (75, o_istore 3 1), (76, o_iinc 4 1), (79, o_goto 30), (82, o_iload 3 1), (83, o_iload 1 1), (84, o_icmp (fun x y => decide (¬ x = y)) 89), (87, o_iload 2 1), (88, o_ret 1), (89, o_iinc 2 1), (92, o_goto 2), (95, o_push 1 (.int (-1))), (96, o_ret 1)] := lkp_c (P := OkP 359) ⟨(PuOK.ok (ok_if_eq dX4_reviewAt_66 rfl)), m_if⟩ (
  lkp_c (P := OkP 359) ⟨(PuOK.ok (ok_iconst dX4_reviewAt_69 rfl)), m_push⟩ (
  lkp_c (P := OkP 359) ⟨(PuOK.ok (ok_goto dX4_reviewAt_70 rfl)), m_goto⟩ (
  lkp_c (P := OkP 359) ⟨(PuOK.ok (ok_iconst dX4_reviewAt_73 rfl)), m_push⟩ (
  lkp_c (P := OkP 359) ⟨(PuOK.ok (ok_iadd dX4_reviewAt_74)), m_iop⟩ (
  lkp_c (P := OkP 359) ⟨(PuOK.ok (ok_istore_n dX4_reviewAt_75 rfl)), m_istore⟩ (
  lkp_c (P := OkP 359) ⟨(PuOK.ok (ok_iinc dX4_reviewAt_76 rfl)), m_iinc⟩ (
  lkp_c (P := OkP 359) ⟨(PuOK.ok (ok_goto dX4_reviewAt_79 rfl)), m_goto⟩ (
  lkp_c (P := OkP 359) ⟨(PuOK.ok (ok_iload_n dX4_reviewAt_82 rfl)), m_iload⟩ (
  lkp_c (P := OkP 359) ⟨(PuOK.ok (ok_iload_n dX4_reviewAt_83 rfl)), m_iload⟩ (
  lkp_c (P := OkP 359) ⟨(PuOK.ok (ok_icmp_ne dX4_reviewAt_84 rfl)), m_icmp⟩ (
  lkp_c (P := OkP 359) ⟨(PuOK.ok (ok_iload_n dX4_reviewAt_87 rfl)), m_iload⟩ (
  lkp_c (P := OkP 359) ⟨ok_iret rfl rfl (by decide) dX4_reviewAt_88, m_ret⟩ (
  lkp_c (P := OkP 359) ⟨(PuOK.ok (ok_iinc dX4_reviewAt_89 rfl)), m_iinc⟩ (
  lkp_c (P := OkP 359) ⟨(PuOK.ok (ok_goto dX4_reviewAt_92 rfl)), m_goto⟩ (
  lkp_c (P := OkP 359) ⟨(PuOK.ok (ok_iconst dX4_reviewAt_95 rfl)), m_push⟩ (
  lkp_c (P := OkP 359) ⟨ok_iret rfl rfl (by decide) dX4_reviewAt_96, m_ret⟩ (
  trivial)))))))))))))))))
theorem mt_359 : MtOK TB NT IT 359 := ⟨by decide +kernel, rfl, (fun h => by cases h), Or.inl ⟨rfl, rfl⟩, rfl, by decide, lk2_all (P := OkP 359) ⟨c_359_0, c_359_1, trivial⟩⟩
def dkwX4_isAhead_4 : List UInt8 := [28, 162, 0, 7, 4, 167, 0, 4, 3, 172]
abbrev dktX4_isAhead_4 : List UInt8 := dkwX4_isAhead_4 ++ []
def dkwX4_isAhead_3 : List UInt8 := [5, 182, 0, 234, 42, 28, 5, 182, 0, 234, 100, 54, 5, 21, 5, 155, 0, 13, 21, 5, 154, 0, 12, 27]
abbrev dktX4_isAhead_3 : List UInt8 := dkwX4_isAhead_3 ++ dktX4_isAhead_4
def dkwX4_isAhead_2 : List UInt8 := [182, 0, 234, 100, 54, 4, 21, 4, 153, 0, 14, 21, 4, 156, 0, 7, 4, 167, 0, 4, 3, 172, 42, 27]
abbrev dktX4_isAhead_2 : List UInt8 := dkwX4_isAhead_2 ++ dktX4_isAhead_3
def dkwX4_isAhead_1 : List UInt8 := [29, 153, 0, 13, 29, 158, 0, 7, 4, 167, 0, 4, 3, 172, 42, 27, 7, 182, 0, 234, 42, 28, 7]
abbrev dktX4_isAhead_1 : List UInt8 := dkwX4_isAhead_1 ++ dktX4_isAhead_2
def dkwX4_isAhead_0 : List UInt8 := [42, 42, 27, 3, 182, 0, 234, 3, 182, 1, 2, 42, 42, 28, 3, 182, 0, 234, 3, 182, 1, 2, 100, 62]
abbrev dktX4_isAhead_0 : List UInt8 := dkwX4_isAhead_0 ++ dktX4_isAhead_1
theorem dksX4_isAhead_0 : cX4_isAhead.data.toList.drop 0 = dktX4_isAhead_0 := by decide +kernel
theorem dksX4_isAhead_1 : cX4_isAhead.data.toList.drop 24 = dktX4_isAhead_1 := dk_seg dksX4_isAhead_0 24 rfl rfl
theorem dksX4_isAhead_2 : cX4_isAhead.data.toList.drop 47 = dktX4_isAhead_2 := dk_seg dksX4_isAhead_1 23 rfl rfl
theorem dksX4_isAhead_3 : cX4_isAhead.data.toList.drop 71 = dktX4_isAhead_3 := dk_seg dksX4_isAhead_2 24 rfl rfl
theorem dksX4_isAhead_4 : cX4_isAhead.data.toList.drop 95 = dktX4_isAhead_4 := dk_seg dksX4_isAhead_3 24 rfl rfl
theorem dX4_isAhead_0 : decode cX4_isAhead 0 = .ok (.aload_n 0, 1) := dk_42 (dk_at dksX4_isAhead_0 0 rfl rfl)
theorem dX4_isAhead_1 : decode cX4_isAhead 1 = .ok (.aload_n 0, 1) := dk_42 (dk_at dksX4_isAhead_0 1 rfl rfl)
theorem dX4_isAhead_2 : decode cX4_isAhead 2 = .ok (.iload_n 1, 1) := dk_27 (dk_at dksX4_isAhead_0 2 rfl rfl)
theorem dX4_isAhead_3 : decode cX4_isAhead 3 = .ok (.iconst 0, 1) := dk_3 (dk_at dksX4_isAhead_0 3 rfl rfl)
theorem dX4_isAhead_4 : decode cX4_isAhead 4 = .ok (.invokevirtual 234, 3) := dk_182 0 234 (dk_at dksX4_isAhead_0 4 rfl rfl)
theorem dX4_isAhead_7 : decode cX4_isAhead 7 = .ok (.iconst 0, 1) := dk_3 (dk_at dksX4_isAhead_0 7 rfl rfl)
theorem dX4_isAhead_8 : decode cX4_isAhead 8 = .ok (.invokevirtual 258, 3) := dk_182 1 2 (dk_at dksX4_isAhead_0 8 rfl rfl)
theorem dX4_isAhead_11 : decode cX4_isAhead 11 = .ok (.aload_n 0, 1) := dk_42 (dk_at dksX4_isAhead_0 11 rfl rfl)
theorem dX4_isAhead_12 : decode cX4_isAhead 12 = .ok (.aload_n 0, 1) := dk_42 (dk_at dksX4_isAhead_0 12 rfl rfl)
theorem dX4_isAhead_13 : decode cX4_isAhead 13 = .ok (.iload_n 2, 1) := dk_28 (dk_at dksX4_isAhead_0 13 rfl rfl)
theorem dX4_isAhead_14 : decode cX4_isAhead 14 = .ok (.iconst 0, 1) := dk_3 (dk_at dksX4_isAhead_0 14 rfl rfl)
theorem dX4_isAhead_15 : decode cX4_isAhead 15 = .ok (.invokevirtual 234, 3) := dk_182 0 234 (dk_at dksX4_isAhead_0 15 rfl rfl)
theorem dX4_isAhead_18 : decode cX4_isAhead 18 = .ok (.iconst 0, 1) := dk_3 (dk_at dksX4_isAhead_0 18 rfl rfl)
theorem dX4_isAhead_19 : decode cX4_isAhead 19 = .ok (.invokevirtual 258, 3) := dk_182 1 2 (dk_at dksX4_isAhead_0 19 rfl rfl)
theorem dX4_isAhead_22 : decode cX4_isAhead 22 = .ok (.isub, 1) := dk_100 (dk_at dksX4_isAhead_0 22 rfl rfl)
theorem dX4_isAhead_23 : decode cX4_isAhead 23 = .ok (.istore_n 3, 1) := dk_62 (dk_at dksX4_isAhead_0 23 rfl rfl)
theorem dX4_isAhead_24 : decode cX4_isAhead 24 = .ok (.iload_n 3, 1) := dk_29 (dk_at dksX4_isAhead_1 0 rfl rfl)
theorem dX4_isAhead_25 : decode cX4_isAhead 25 = .ok (.ifCond .eq 13, 3) := dk_153 0 13 (dk_at dksX4_isAhead_1 1 rfl rfl)
theorem dX4_isAhead_28 : decode cX4_isAhead 28 = .ok (.iload_n 3, 1) := dk_29 (dk_at dksX4_isAhead_1 4 rfl rfl)
theorem dX4_isAhead_29 : decode cX4_isAhead 29 = .ok (.ifCond .le 7, 3) := dk_158 0 7 (dk_at dksX4_isAhead_1 5 rfl rfl)
theorem dX4_isAhead_32 : decode cX4_isAhead 32 = .ok (.iconst 1, 1) := dk_4 (dk_at dksX4_isAhead_1 8 rfl rfl)
theorem dX4_isAhead_33 : decode cX4_isAhead 33 = .ok (.goto 4, 3) := dk_167 0 4 (dk_at dksX4_isAhead_1 9 rfl rfl)
theorem dX4_isAhead_36 : decode cX4_isAhead 36 = .ok (.iconst 0, 1) := dk_3 (dk_at dksX4_isAhead_1 12 rfl rfl)
theorem dX4_isAhead_37 : decode cX4_isAhead 37 = .ok (.ireturn, 1) := dk_172 (dk_at dksX4_isAhead_1 13 rfl rfl)
theorem dX4_isAhead_38 : decode cX4_isAhead 38 = .ok (.aload_n 0, 1) := dk_42 (dk_at dksX4_isAhead_1 14 rfl rfl)
theorem dX4_isAhead_39 : decode cX4_isAhead 39 = .ok (.iload_n 1, 1) := dk_27 (dk_at dksX4_isAhead_1 15 rfl rfl)
theorem dX4_isAhead_40 : decode cX4_isAhead 40 = .ok (.iconst 4, 1) := dk_7 (dk_at dksX4_isAhead_1 16 rfl rfl)
theorem dX4_isAhead_41 : decode cX4_isAhead 41 = .ok (.invokevirtual 234, 3) := dk_182 0 234 (dk_at dksX4_isAhead_1 17 rfl rfl)
theorem dX4_isAhead_44 : decode cX4_isAhead 44 = .ok (.aload_n 0, 1) := dk_42 (dk_at dksX4_isAhead_1 20 rfl rfl)
theorem dX4_isAhead_45 : decode cX4_isAhead 45 = .ok (.iload_n 2, 1) := dk_28 (dk_at dksX4_isAhead_1 21 rfl rfl)
theorem dX4_isAhead_46 : decode cX4_isAhead 46 = .ok (.iconst 4, 1) := dk_7 (dk_at dksX4_isAhead_1 22 rfl rfl)
theorem dX4_isAhead_47 : decode cX4_isAhead 47 = .ok (.invokevirtual 234, 3) := dk_182 0 234 (dk_at dksX4_isAhead_2 0 rfl rfl)
theorem dX4_isAhead_50 : decode cX4_isAhead 50 = .ok (.isub, 1) := dk_100 (dk_at dksX4_isAhead_2 3 rfl rfl)
theorem dX4_isAhead_51 : decode cX4_isAhead 51 = .ok (.istore 4, 2) := dk_54 4 (dk_at dksX4_isAhead_2 4 rfl rfl)
theorem dX4_isAhead_53 : decode cX4_isAhead 53 = .ok (.iload 4, 2) := dk_21 4 (dk_at dksX4_isAhead_2 6 rfl rfl)
theorem dX4_isAhead_55 : decode cX4_isAhead 55 = .ok (.ifCond .eq 14, 3) := dk_153 0 14 (dk_at dksX4_isAhead_2 8 rfl rfl)
theorem dX4_isAhead_58 : decode cX4_isAhead 58 = .ok (.iload 4, 2) := dk_21 4 (dk_at dksX4_isAhead_2 11 rfl rfl)
theorem dX4_isAhead_60 : decode cX4_isAhead 60 = .ok (.ifCond .ge 7, 3) := dk_156 0 7 (dk_at dksX4_isAhead_2 13 rfl rfl)
theorem dX4_isAhead_63 : decode cX4_isAhead 63 = .ok (.iconst 1, 1) := dk_4 (dk_at dksX4_isAhead_2 16 rfl rfl)
theorem dX4_isAhead_64 : decode cX4_isAhead 64 = .ok (.goto 4, 3) := dk_167 0 4 (dk_at dksX4_isAhead_2 17 rfl rfl)
theorem dX4_isAhead_67 : decode cX4_isAhead 67 = .ok (.iconst 0, 1) := dk_3 (dk_at dksX4_isAhead_2 20 rfl rfl)
theorem dX4_isAhead_68 : decode cX4_isAhead 68 = .ok (.ireturn, 1) := dk_172 (dk_at dksX4_isAhead_2 21 rfl rfl)
theorem dX4_isAhead_69 : decode cX4_isAhead 69 = .ok (.aload_n 0, 1) := dk_42 (dk_at dksX4_isAhead_2 22 rfl rfl)
theorem dX4_isAhead_70 : decode cX4_isAhead 70 = .ok (.iload_n 1, 1) := dk_27 (dk_at dksX4_isAhead_2 23 rfl rfl)
theorem dX4_isAhead_71 : decode cX4_isAhead 71 = .ok (.iconst 2, 1) := dk_5 (dk_at dksX4_isAhead_3 0 rfl rfl)
theorem dX4_isAhead_72 : decode cX4_isAhead 72 = .ok (.invokevirtual 234, 3) := dk_182 0 234 (dk_at dksX4_isAhead_3 1 rfl rfl)
theorem dX4_isAhead_75 : decode cX4_isAhead 75 = .ok (.aload_n 0, 1) := dk_42 (dk_at dksX4_isAhead_3 4 rfl rfl)
theorem dX4_isAhead_76 : decode cX4_isAhead 76 = .ok (.iload_n 2, 1) := dk_28 (dk_at dksX4_isAhead_3 5 rfl rfl)
theorem dX4_isAhead_77 : decode cX4_isAhead 77 = .ok (.iconst 2, 1) := dk_5 (dk_at dksX4_isAhead_3 6 rfl rfl)
theorem dX4_isAhead_78 : decode cX4_isAhead 78 = .ok (.invokevirtual 234, 3) := dk_182 0 234 (dk_at dksX4_isAhead_3 7 rfl rfl)
theorem dX4_isAhead_81 : decode cX4_isAhead 81 = .ok (.isub, 1) := dk_100 (dk_at dksX4_isAhead_3 10 rfl rfl)
theorem dX4_isAhead_82 : decode cX4_isAhead 82 = .ok (.istore 5, 2) := dk_54 5 (dk_at dksX4_isAhead_3 11 rfl rfl)
theorem dX4_isAhead_84 : decode cX4_isAhead 84 = .ok (.iload 5, 2) := dk_21 5 (dk_at dksX4_isAhead_3 13 rfl rfl)
theorem dX4_isAhead_86 : decode cX4_isAhead 86 = .ok (.ifCond .lt 13, 3) := dk_155 0 13 (dk_at dksX4_isAhead_3 15 rfl rfl)
theorem dX4_isAhead_89 : decode cX4_isAhead 89 = .ok (.iload 5, 2) := dk_21 5 (dk_at dksX4_isAhead_3 18 rfl rfl)
theorem dX4_isAhead_91 : decode cX4_isAhead 91 = .ok (.ifCond .ne 12, 3) := dk_154 0 12 (dk_at dksX4_isAhead_3 20 rfl rfl)
theorem dX4_isAhead_94 : decode cX4_isAhead 94 = .ok (.iload_n 1, 1) := dk_27 (dk_at dksX4_isAhead_3 23 rfl rfl)
theorem dX4_isAhead_95 : decode cX4_isAhead 95 = .ok (.iload_n 2, 1) := dk_28 (dk_at dksX4_isAhead_4 0 rfl rfl)
theorem dX4_isAhead_96 : decode cX4_isAhead 96 = .ok (.if_icmp .ge 7, 3) := dk_162 0 7 (dk_at dksX4_isAhead_4 1 rfl rfl)
theorem dX4_isAhead_99 : decode cX4_isAhead 99 = .ok (.iconst 1, 1) := dk_4 (dk_at dksX4_isAhead_4 4 rfl rfl)
theorem dX4_isAhead_100 : decode cX4_isAhead 100 = .ok (.goto 4, 3) := dk_167 0 4 (dk_at dksX4_isAhead_4 5 rfl rfl)
theorem dX4_isAhead_103 : decode cX4_isAhead 103 = .ok (.iconst 0, 1) := dk_3 (dk_at dksX4_isAhead_4 8 rfl rfl)
theorem dX4_isAhead_104 : decode cX4_isAhead 104 = .ok (.ireturn, 1) := dk_172 (dk_at dksX4_isAhead_4 9 rfl rfl)
theorem c_360_0 : LkP (OkP 360) [(0, o_aload 0 1), (1, o_aload 0 1), (2, o_iload 1 1), (3, o_push 1 (.int 0)), (4, o_cv [(30, 331)] 2 3 false none), (7, o_push 1 (.int 0)), (8, o_cv [(30, 339)] 2 3 false none), (11, o_aload 0 1), (12, o_aload 0 1), (13, o_iload 2 1), (14, o_push 1 (.int 0)), (15, o_cv [(30, 331)] 2 3 false none), (18, o_push 1 (.int 0)), (19, o_cv [(30, 339)] 2 3 false none), (22, o_iop (fun x y => x - y)), (23, o_istore 3 1), (24, o_iload 3 1), (25, o_if (fun x => decide (x = 0)) 38), (28, o_iload 3 1), (29, o_if (fun x => decide (x ≤ 0)) 36), (32, o_push 1 (.int 1)), (33, o_goto 37), (36, o_push 1 (.int 0)), (37, o_ret 5), (38, o_aload 0 1), (39, o_iload 1 1), (40, o_push 1 (.int 4)), (41, o_cv [(30, 331)] 2 3 false none), (44, o_aload 0 1), (45, o_iload 2 1), (46, o_push 1 (.int 4)), (47, o_cv [(30, 331)] 2 3 false none), (50, o_iop (fun x y => x - y)), (51, o_istore 4 2), (53, o_iload 4 2), (55, o_if (fun x => decide (x = 0)) 69), (58, o_iload 4 2), (60, o_if (fun x => decide (0 ≤ x)) 67), (63, o_push 1 (.int 1))] := lkp_c (P := OkP 360) ⟨(PuOK.ok (ok_aload_n dX4_isAhead_0 rfl)), m_aload⟩ (
  lkp_c (P := OkP 360) ⟨(PuOK.ok (ok_aload_n dX4_isAhead_1 rfl)), m_aload⟩ (
  lkp_c (P := OkP 360) ⟨(PuOK.ok (ok_iload_n dX4_isAhead_2 rfl)), m_iload⟩ (
  lkp_c (P := OkP 360) ⟨(PuOK.ok (ok_iconst dX4_isAhead_3 rfl)), m_push⟩ (
  lkp_c (P := OkP 360) ⟨ok_cv (List.forall_mem_cons.mpr ⟨tg_V (ci := 30) (r := CLr 30) (y := 331) rfl ⟨rfl, by decide⟩ rfl q3383 q3385 qs68 q139 q3386 ⟨cn_34.1, cn_34.2, pd_1⟩ dX4_isAhead_4, (List.forall_mem_nil _)⟩) hd_no, m_cv⟩ (
  lkp_c (P := OkP 360) ⟨(PuOK.ok (ok_iconst dX4_isAhead_7 rfl)), m_push⟩ (
  lkp_c (P := OkP 360) ⟨ok_cv (List.forall_mem_cons.mpr ⟨tg_V (ci := 30) (r := CLr 30) (y := 339) rfl ⟨rfl, by decide⟩ rfl q3415 q3417 qs73 q139 q3418 ⟨cn_34.1, cn_34.2, pd_1⟩ dX4_isAhead_8, (List.forall_mem_nil _)⟩) hd_no, m_cv⟩ (
  lkp_c (P := OkP 360) ⟨(PuOK.ok (ok_aload_n dX4_isAhead_11 rfl)), m_aload⟩ (
  lkp_c (P := OkP 360) ⟨(PuOK.ok (ok_aload_n dX4_isAhead_12 rfl)), m_aload⟩ (
  lkp_c (P := OkP 360) ⟨(PuOK.ok (ok_iload_n dX4_isAhead_13 rfl)), m_iload⟩ (
  lkp_c (P := OkP 360) ⟨(PuOK.ok (ok_iconst dX4_isAhead_14 rfl)), m_push⟩ (
  lkp_c (P := OkP 360) ⟨ok_cv (List.forall_mem_cons.mpr ⟨tg_V (ci := 30) (r := CLr 30) (y := 331) rfl ⟨rfl, by decide⟩ rfl q3383 q3385 qs68 q139 q3386 ⟨cn_34.1, cn_34.2, pd_1⟩ dX4_isAhead_15, (List.forall_mem_nil _)⟩) hd_no, m_cv⟩ (
  lkp_c (P := OkP 360) ⟨(PuOK.ok (ok_iconst dX4_isAhead_18 rfl)), m_push⟩ (
  lkp_c (P := OkP 360) ⟨ok_cv (List.forall_mem_cons.mpr ⟨tg_V (ci := 30) (r := CLr 30) (y := 339) rfl ⟨rfl, by decide⟩ rfl q3415 q3417 qs73 q139 q3418 ⟨cn_34.1, cn_34.2, pd_1⟩ dX4_isAhead_19, (List.forall_mem_nil _)⟩) hd_no, m_cv⟩ (
  lkp_c (P := OkP 360) ⟨(PuOK.ok (ok_isub dX4_isAhead_22)), m_iop⟩ (
  lkp_c (P := OkP 360) ⟨(PuOK.ok (ok_istore_n dX4_isAhead_23 rfl)), m_istore⟩ (
  lkp_c (P := OkP 360) ⟨(PuOK.ok (ok_iload_n dX4_isAhead_24 rfl)), m_iload⟩ (
  lkp_c (P := OkP 360) ⟨(PuOK.ok (ok_if_eq dX4_isAhead_25 rfl)), m_if⟩ (
  lkp_c (P := OkP 360) ⟨(PuOK.ok (ok_iload_n dX4_isAhead_28 rfl)), m_iload⟩ (
  lkp_c (P := OkP 360) ⟨(PuOK.ok (ok_if_le dX4_isAhead_29 rfl)), m_if⟩ (
  lkp_c (P := OkP 360) ⟨(PuOK.ok (ok_iconst dX4_isAhead_32 rfl)), m_push⟩ (
  lkp_c (P := OkP 360) ⟨(PuOK.ok (ok_goto dX4_isAhead_33 rfl)), m_goto⟩ (
  lkp_c (P := OkP 360) ⟨(PuOK.ok (ok_iconst dX4_isAhead_36 rfl)), m_push⟩ (
  lkp_c (P := OkP 360) ⟨ok_iret rfl rfl (by decide) dX4_isAhead_37, m_ret⟩ (
  lkp_c (P := OkP 360) ⟨(PuOK.ok (ok_aload_n dX4_isAhead_38 rfl)), m_aload⟩ (
  lkp_c (P := OkP 360) ⟨(PuOK.ok (ok_iload_n dX4_isAhead_39 rfl)), m_iload⟩ (
  lkp_c (P := OkP 360) ⟨(PuOK.ok (ok_iconst dX4_isAhead_40 rfl)), m_push⟩ (
  lkp_c (P := OkP 360) ⟨ok_cv (List.forall_mem_cons.mpr ⟨tg_V (ci := 30) (r := CLr 30) (y := 331) rfl ⟨rfl, by decide⟩ rfl q3383 q3385 qs68 q139 q3386 ⟨cn_34.1, cn_34.2, pd_1⟩ dX4_isAhead_41, (List.forall_mem_nil _)⟩) hd_no, m_cv⟩ (
  lkp_c (P := OkP 360) ⟨(PuOK.ok (ok_aload_n dX4_isAhead_44 rfl)), m_aload⟩ (
  lkp_c (P := OkP 360) ⟨(PuOK.ok (ok_iload_n dX4_isAhead_45 rfl)), m_iload⟩ (
  lkp_c (P := OkP 360) ⟨(PuOK.ok (ok_iconst dX4_isAhead_46 rfl)), m_push⟩ (
  lkp_c (P := OkP 360) ⟨ok_cv (List.forall_mem_cons.mpr ⟨tg_V (ci := 30) (r := CLr 30) (y := 331) rfl ⟨rfl, by decide⟩ rfl q3383 q3385 qs68 q139 q3386 ⟨cn_34.1, cn_34.2, pd_1⟩ dX4_isAhead_47, (List.forall_mem_nil _)⟩) hd_no, m_cv⟩ (
  lkp_c (P := OkP 360) ⟨(PuOK.ok (ok_isub dX4_isAhead_50)), m_iop⟩ (
  lkp_c (P := OkP 360) ⟨(PuOK.ok (ok_istore dX4_isAhead_51)), m_istore⟩ (
  lkp_c (P := OkP 360) ⟨(PuOK.ok (ok_iload dX4_isAhead_53)), m_iload⟩ (
  lkp_c (P := OkP 360) ⟨(PuOK.ok (ok_if_eq dX4_isAhead_55 rfl)), m_if⟩ (
  lkp_c (P := OkP 360) ⟨(PuOK.ok (ok_iload dX4_isAhead_58)), m_iload⟩ (
  lkp_c (P := OkP 360) ⟨(PuOK.ok (ok_if_ge dX4_isAhead_60 rfl)), m_if⟩ (
  lkp_c (P := OkP 360) ⟨(PuOK.ok (ok_iconst dX4_isAhead_63 rfl)), m_push⟩ (
  trivial)))))))))))))))))))))))))))))))))))))))
theorem c_360_1 : LkP (OkP 360) [(64, o_goto 68), (67, o_push 1 (.int 0)), (68, o_ret 5), (69, o_aload 0 1), (70, o_iload 1 1), (71, o_push 1 (.int 2)), (72, o_cv [(30, 331)] 2 3 false none), (75, o_aload 0 1), (76, o_iload 2 1), (77, o_push 1 (.int 2)), (78, o_cv [(30, 331)] 2 3 false none), (81, o_iop (fun x y => x - y)), (82, o_istore 5 2), (84, o_iload 5 2), (86, o_if (fun x => decide (x < 0)) 99), (89, o_iload 5 2), (91, o_if (fun x => decide (¬ x = 0)) 103), (94, o_iload 1 1), (95, o_iload 2 1), (96, o_icmp (fun x y => decide (y ≤ x)) 103), (99, o_push 1 (.int 1)), (100, o_goto 104), (103, o_push 1 (.int 0)), (104, o_ret 5)] := lkp_c (P := OkP 360) ⟨(PuOK.ok (ok_goto dX4_isAhead_64 rfl)), m_goto⟩ (
  lkp_c (P := OkP 360) ⟨(PuOK.ok (ok_iconst dX4_isAhead_67 rfl)), m_push⟩ (
  lkp_c (P := OkP 360) ⟨ok_iret rfl rfl (by decide) dX4_isAhead_68, m_ret⟩ (
  lkp_c (P := OkP 360) ⟨(PuOK.ok (ok_aload_n dX4_isAhead_69 rfl)), m_aload⟩ (
  lkp_c (P := OkP 360) ⟨(PuOK.ok (ok_iload_n dX4_isAhead_70 rfl)), m_iload⟩ (
  lkp_c (P := OkP 360) ⟨(PuOK.ok (ok_iconst dX4_isAhead_71 rfl)), m_push⟩ (
  lkp_c (P := OkP 360) ⟨ok_cv (List.forall_mem_cons.mpr ⟨tg_V (ci := 30) (r := CLr 30) (y := 331) rfl ⟨rfl, by decide⟩ rfl q3383 q3385 qs68 q139 q3386 ⟨cn_34.1, cn_34.2, pd_1⟩ dX4_isAhead_72, (List.forall_mem_nil _)⟩) hd_no, m_cv⟩ (
  lkp_c (P := OkP 360) ⟨(PuOK.ok (ok_aload_n dX4_isAhead_75 rfl)), m_aload⟩ (
  lkp_c (P := OkP 360) ⟨(PuOK.ok (ok_iload_n dX4_isAhead_76 rfl)), m_iload⟩ (
  lkp_c (P := OkP 360) ⟨(PuOK.ok (ok_iconst dX4_isAhead_77 rfl)), m_push⟩ (
  lkp_c (P := OkP 360) ⟨ok_cv (List.forall_mem_cons.mpr ⟨tg_V (ci := 30) (r := CLr 30) (y := 331) rfl ⟨rfl, by decide⟩ rfl q3383 q3385 qs68 q139 q3386 ⟨cn_34.1, cn_34.2, pd_1⟩ dX4_isAhead_78, (List.forall_mem_nil _)⟩) hd_no, m_cv⟩ (
  lkp_c (P := OkP 360) ⟨(PuOK.ok (ok_isub dX4_isAhead_81)), m_iop⟩ (
  lkp_c (P := OkP 360) ⟨(PuOK.ok (ok_istore dX4_isAhead_82)), m_istore⟩ (
  lkp_c (P := OkP 360) ⟨(PuOK.ok (ok_iload dX4_isAhead_84)), m_iload⟩ (
  lkp_c (P := OkP 360) ⟨(PuOK.ok (ok_if_lt dX4_isAhead_86 rfl)), m_if⟩ (
  lkp_c (P := OkP 360) ⟨(PuOK.ok (ok_iload dX4_isAhead_89)), m_iload⟩ (
  lkp_c (P := OkP 360) ⟨(PuOK.ok (ok_if_ne dX4_isAhead_91 rfl)), m_if⟩ (
  lkp_c (P := OkP 360) ⟨(PuOK.ok (ok_iload_n dX4_isAhead_94 rfl)), m_iload⟩ (
  lkp_c (P := OkP 360) ⟨(PuOK.ok (ok_iload_n dX4_isAhead_95 rfl)), m_iload⟩ (
  lkp_c (P := OkP 360) ⟨(PuOK.ok (ok_icmp_ge dX4_isAhead_96 rfl)), m_icmp⟩ (
  lkp_c (P := OkP 360) ⟨(PuOK.ok (ok_iconst dX4_isAhead_99 rfl)), m_push⟩ (
  lkp_c (P := OkP 360) ⟨(PuOK.ok (ok_goto dX4_isAhead_100 rfl)), m_goto⟩ (
  lkp_c (P := OkP 360) ⟨(PuOK.ok (ok_iconst dX4_isAhead_103 rfl)), m_push⟩ (
  lkp_c (P := OkP 360) ⟨ok_iret rfl rfl (by decide) dX4_isAhead_104, m_ret⟩ (
  trivial))))))))))))))))))))))))
theorem mt_360 : MtOK TB NT IT 360 := ⟨by decide +kernel, rfl, (fun h => by cases h), Or.inl ⟨rfl, rfl⟩, rfl, by decide, lk2_all (P := OkP 360) ⟨c_360_0, c_360_1, trivial⟩⟩
def dkwX4_decide_3 : List UInt8 := [28, 182, 1, 52, 28, 172]
abbrev dktX4_decide_3 : List UInt8 := dkwX4_decide_3 ++ []
def dkwX4_decide_2 : List UInt8 := [8, 5, 182, 1, 49, 167, 0, 23, 42, 28, 3, 27, 182, 1, 49, 42, 28, 7, 16, 100, 182, 1, 49, 42]
abbrev dktX4_decide_2 : List UInt8 := dkwX4_decide_2 ++ dktX4_decide_3
def dkwX4_decide_1 : List UInt8 := [42, 3, 182, 1, 66, 61, 28, 2, 160, 0, 9, 42, 5, 182, 0, 87, 172, 27, 2, 160, 0, 13, 42, 28]
abbrev dktX4_decide_1 : List UInt8 := dkwX4_decide_1 ++ dktX4_decide_2
def dkwX4_decide_0 : List UInt8 := [42, 3, 181, 0, 81, 27, 2, 159, 0, 17, 42, 27, 182, 0, 255, 154, 0, 9, 42, 4, 182, 0, 87, 172]
abbrev dktX4_decide_0 : List UInt8 := dkwX4_decide_0 ++ dktX4_decide_1
theorem dksX4_decide_0 : cX4_decide.data.toList.drop 0 = dktX4_decide_0 := by decide +kernel
theorem dksX4_decide_1 : cX4_decide.data.toList.drop 24 = dktX4_decide_1 := dk_seg dksX4_decide_0 24 rfl rfl
theorem dksX4_decide_2 : cX4_decide.data.toList.drop 48 = dktX4_decide_2 := dk_seg dksX4_decide_1 24 rfl rfl
theorem dksX4_decide_3 : cX4_decide.data.toList.drop 72 = dktX4_decide_3 := dk_seg dksX4_decide_2 24 rfl rfl
theorem dX4_decide_0 : decode cX4_decide 0 = .ok (.aload_n 0, 1) := dk_42 (dk_at dksX4_decide_0 0 rfl rfl)
theorem dX4_decide_1 : decode cX4_decide 1 = .ok (.iconst 0, 1) := dk_3 (dk_at dksX4_decide_0 1 rfl rfl)
theorem dX4_decide_2 : decode cX4_decide 2 = .ok (.putfield 81, 3) := dk_181 0 81 (dk_at dksX4_decide_0 2 rfl rfl)
theorem dX4_decide_5 : decode cX4_decide 5 = .ok (.iload_n 1, 1) := dk_27 (dk_at dksX4_decide_0 5 rfl rfl)
theorem dX4_decide_6 : decode cX4_decide 6 = .ok (.iconst (-1), 1) := dk_2 (dk_at dksX4_decide_0 6 rfl rfl)
theorem dX4_decide_7 : decode cX4_decide 7 = .ok (.if_icmp .eq 17, 3) := dk_159 0 17 (dk_at dksX4_decide_0 7 rfl rfl)
theorem dX4_decide_10 : decode cX4_decide 10 = .ok (.aload_n 0, 1) := dk_42 (dk_at dksX4_decide_0 10 rfl rfl)
theorem dX4_decide_11 : decode cX4_decide 11 = .ok (.iload_n 1, 1) := dk_27 (dk_at dksX4_decide_0 11 rfl rfl)
theorem dX4_decide_12 : decode cX4_decide 12 = .ok (.invokevirtual 255, 3) := dk_182 0 255 (dk_at dksX4_decide_0 12 rfl rfl)
theorem dX4_decide_15 : decode cX4_decide 15 = .ok (.ifCond .ne 9, 3) := dk_154 0 9 (dk_at dksX4_decide_0 15 rfl rfl)
theorem dX4_decide_18 : decode cX4_decide 18 = .ok (.aload_n 0, 1) := dk_42 (dk_at dksX4_decide_0 18 rfl rfl)
theorem dX4_decide_19 : decode cX4_decide 19 = .ok (.iconst 1, 1) := dk_4 (dk_at dksX4_decide_0 19 rfl rfl)
theorem dX4_decide_20 : decode cX4_decide 20 = .ok (.invokevirtual 87, 3) := dk_182 0 87 (dk_at dksX4_decide_0 20 rfl rfl)
theorem dX4_decide_23 : decode cX4_decide 23 = .ok (.ireturn, 1) := dk_172 (dk_at dksX4_decide_0 23 rfl rfl)
theorem dX4_decide_24 : decode cX4_decide 24 = .ok (.aload_n 0, 1) := dk_42 (dk_at dksX4_decide_1 0 rfl rfl)
theorem dX4_decide_25 : decode cX4_decide 25 = .ok (.iconst 0, 1) := dk_3 (dk_at dksX4_decide_1 1 rfl rfl)
theorem dX4_decide_26 : decode cX4_decide 26 = .ok (.invokevirtual 322, 3) := dk_182 1 66 (dk_at dksX4_decide_1 2 rfl rfl)
theorem dX4_decide_29 : decode cX4_decide 29 = .ok (.istore_n 2, 1) := dk_61 (dk_at dksX4_decide_1 5 rfl rfl)
theorem dX4_decide_30 : decode cX4_decide 30 = .ok (.iload_n 2, 1) := dk_28 (dk_at dksX4_decide_1 6 rfl rfl)
theorem dX4_decide_31 : decode cX4_decide 31 = .ok (.iconst (-1), 1) := dk_2 (dk_at dksX4_decide_1 7 rfl rfl)
theorem dX4_decide_32 : decode cX4_decide 32 = .ok (.if_icmp .ne 9, 3) := dk_160 0 9 (dk_at dksX4_decide_1 8 rfl rfl)
theorem dX4_decide_35 : decode cX4_decide 35 = .ok (.aload_n 0, 1) := dk_42 (dk_at dksX4_decide_1 11 rfl rfl)
theorem dX4_decide_36 : decode cX4_decide 36 = .ok (.iconst 2, 1) := dk_5 (dk_at dksX4_decide_1 12 rfl rfl)
theorem dX4_decide_37 : decode cX4_decide 37 = .ok (.invokevirtual 87, 3) := dk_182 0 87 (dk_at dksX4_decide_1 13 rfl rfl)
theorem dX4_decide_40 : decode cX4_decide 40 = .ok (.ireturn, 1) := dk_172 (dk_at dksX4_decide_1 16 rfl rfl)
theorem dX4_decide_41 : decode cX4_decide 41 = .ok (.iload_n 1, 1) := dk_27 (dk_at dksX4_decide_1 17 rfl rfl)
theorem dX4_decide_42 : decode cX4_decide 42 = .ok (.iconst (-1), 1) := dk_2 (dk_at dksX4_decide_1 18 rfl rfl)
theorem dX4_decide_43 : decode cX4_decide 43 = .ok (.if_icmp .ne 13, 3) := dk_160 0 13 (dk_at dksX4_decide_1 19 rfl rfl)
theorem dX4_decide_46 : decode cX4_decide 46 = .ok (.aload_n 0, 1) := dk_42 (dk_at dksX4_decide_1 22 rfl rfl)
theorem dX4_decide_47 : decode cX4_decide 47 = .ok (.iload_n 2, 1) := dk_28 (dk_at dksX4_decide_1 23 rfl rfl)
theorem dX4_decide_48 : decode cX4_decide 48 = .ok (.iconst 5, 1) := dk_8 (dk_at dksX4_decide_2 0 rfl rfl)
theorem dX4_decide_49 : decode cX4_decide 49 = .ok (.iconst 2, 1) := dk_5 (dk_at dksX4_decide_2 1 rfl rfl)
theorem dX4_decide_50 : decode cX4_decide 50 = .ok (.invokevirtual 305, 3) := dk_182 1 49 (dk_at dksX4_decide_2 2 rfl rfl)
theorem dX4_decide_53 : decode cX4_decide 53 = .ok (.goto 23, 3) := dk_167 0 23 (dk_at dksX4_decide_2 5 rfl rfl)
theorem dX4_decide_56 : decode cX4_decide 56 = .ok (.aload_n 0, 1) := dk_42 (dk_at dksX4_decide_2 8 rfl rfl)
theorem dX4_decide_57 : decode cX4_decide 57 = .ok (.iload_n 2, 1) := dk_28 (dk_at dksX4_decide_2 9 rfl rfl)
theorem dX4_decide_58 : decode cX4_decide 58 = .ok (.iconst 0, 1) := dk_3 (dk_at dksX4_decide_2 10 rfl rfl)
theorem dX4_decide_59 : decode cX4_decide 59 = .ok (.iload_n 1, 1) := dk_27 (dk_at dksX4_decide_2 11 rfl rfl)
theorem dX4_decide_60 : decode cX4_decide 60 = .ok (.invokevirtual 305, 3) := dk_182 1 49 (dk_at dksX4_decide_2 12 rfl rfl)
theorem dX4_decide_63 : decode cX4_decide 63 = .ok (.aload_n 0, 1) := dk_42 (dk_at dksX4_decide_2 15 rfl rfl)
theorem dX4_decide_64 : decode cX4_decide 64 = .ok (.iload_n 2, 1) := dk_28 (dk_at dksX4_decide_2 16 rfl rfl)
theorem dX4_decide_65 : decode cX4_decide 65 = .ok (.iconst 4, 1) := dk_7 (dk_at dksX4_decide_2 17 rfl rfl)
theorem dX4_decide_66 : decode cX4_decide 66 = .ok (.bipush 100, 2) := dk_16 100 (dk_at dksX4_decide_2 18 rfl rfl)
theorem dX4_decide_68 : decode cX4_decide 68 = .ok (.invokevirtual 305, 3) := dk_182 1 49 (dk_at dksX4_decide_2 20 rfl rfl)
theorem dX4_decide_71 : decode cX4_decide 71 = .ok (.aload_n 0, 1) := dk_42 (dk_at dksX4_decide_2 23 rfl rfl)
theorem dX4_decide_72 : decode cX4_decide 72 = .ok (.iload_n 2, 1) := dk_28 (dk_at dksX4_decide_3 0 rfl rfl)
theorem dX4_decide_73 : decode cX4_decide 73 = .ok (.invokevirtual 308, 3) := dk_182 1 52 (dk_at dksX4_decide_3 1 rfl rfl)
theorem dX4_decide_76 : decode cX4_decide 76 = .ok (.iload_n 2, 1) := dk_28 (dk_at dksX4_decide_3 4 rfl rfl)
theorem dX4_decide_77 : decode cX4_decide 77 = .ok (.ireturn, 1) := dk_172 (dk_at dksX4_decide_3 5 rfl rfl)
theorem c_361_0 : LkP (OkP 361) [(0, o_aload 0 1), (1, o_push 1 (.int 0)), (2, o_put 155 1), (5, o_iload 1 1), (6, o_push 1 (.int (-1))), (7, o_icmp (fun x y => decide (x = y)) 24), (10, o_aload 0 1), (11, o_iload 1 1), (12, o_cv [(30, 338)] 1 3 false none), (15, o_if (fun x => decide (¬ x = 0)) 24), (18, o_aload 0 1), (19, o_push 1 (.int 1)), (20, o_cv [(30, 291)] 1 3 false none), (23, o_ret 1), (24, o_aload 0 1), (25, o_push 1 (.int 0)), (26, o_cv [(30, 359)] 1 3 false none), (29, o_istore 2 1), (30, o_iload 2 1), (31, o_push 1 (.int (-1))), (32, o_icmp (fun x y => decide (¬ x = y)) 41), (35, o_aload 0 1), (36, o_push 1 (.int 2)), (37, o_cv [(30, 291)] 1 3 false none), (40, o_ret 1), (41, o_iload 1 1), (42, o_push 1 (.int (-1))), (43, o_icmp (fun x y => decide (¬ x = y)) 56), (46, o_aload 0 1), (47, o_iload 2 1), (48, o_push 1 (.int 5)), (49, o_push 1 (.int 2)), (50, o_cv [(30, 353)] 3 3 true none), (53, o_goto 76), (56, o_aload 0 1), (57, o_iload 2 1), (58, o_push 1 (.int 0)), (59, o_iload 1 1), (60, o_cv [(30, 353)] 3 3 true none), (63, o_aload 0 1)] := lkp_c (P := OkP 361) ⟨(PuOK.ok (ok_aload_n dX4_decide_0 rfl)), m_aload⟩ (
  lkp_c (P := OkP 361) ⟨(PuOK.ok (ok_iconst dX4_decide_1 rfl)), m_push⟩ (
  lkp_c (P := OkP 361) ⟨ok_put ⟨"TollRoadModel", q3087, Or.inl rfl⟩ rfl fd_155 rfl dX4_decide_2, m_put⟩ (
  lkp_c (P := OkP 361) ⟨(PuOK.ok (ok_iload_n dX4_decide_5 rfl)), m_iload⟩ (
  lkp_c (P := OkP 361) ⟨(PuOK.ok (ok_iconst dX4_decide_6 rfl)), m_push⟩ (
  lkp_c (P := OkP 361) ⟨(PuOK.ok (ok_icmp_eq dX4_decide_7 rfl)), m_icmp⟩ (
  lkp_c (P := OkP 361) ⟨(PuOK.ok (ok_aload_n dX4_decide_10 rfl)), m_aload⟩ (
  lkp_c (P := OkP 361) ⟨(PuOK.ok (ok_iload_n dX4_decide_11 rfl)), m_iload⟩ (
  lkp_c (P := OkP 361) ⟨ok_cv (List.forall_mem_cons.mpr ⟨tg_V (ci := 30) (r := CLr 30) (y := 338) rfl ⟨rfl, by decide⟩ rfl q3411 q3413 qs72 q139 q3414 ⟨cn_34.1, cn_34.2, pd_77⟩ dX4_decide_12, (List.forall_mem_nil _)⟩) hd_no, m_cv⟩ (
  lkp_c (P := OkP 361) ⟨(PuOK.ok (ok_if_ne dX4_decide_15 rfl)), m_if⟩ (
  lkp_c (P := OkP 361) ⟨(PuOK.ok (ok_aload_n dX4_decide_18 rfl)), m_aload⟩ (
  lkp_c (P := OkP 361) ⟨(PuOK.ok (ok_iconst dX4_decide_19 rfl)), m_push⟩ (
  lkp_c (P := OkP 361) ⟨ok_cv (List.forall_mem_cons.mpr ⟨tg_V (ci := 30) (r := CLr 30) (y := 291) rfl ⟨rfl, by decide⟩ rfl q3206 q3208 qs42 q139 q3209 ⟨cn_34.1, cn_34.2, pd_48⟩ dX4_decide_20, (List.forall_mem_nil _)⟩) hd_no, m_cv⟩ (
  lkp_c (P := OkP 361) ⟨ok_iret rfl rfl (by decide) dX4_decide_23, m_ret⟩ (
  lkp_c (P := OkP 361) ⟨(PuOK.ok (ok_aload_n dX4_decide_24 rfl)), m_aload⟩ (
  lkp_c (P := OkP 361) ⟨(PuOK.ok (ok_iconst dX4_decide_25 rfl)), m_push⟩ (
  lkp_c (P := OkP 361) ⟨ok_cv (List.forall_mem_cons.mpr ⟨tg_V (ci := 30) (r := CLr 30) (y := 359) rfl ⟨rfl, by decide⟩ rfl q3499 q3501 qs85 q139 q3502 ⟨cn_34.1, cn_34.2, pd_48⟩ dX4_decide_26, (List.forall_mem_nil _)⟩) hd_no, m_cv⟩ (
  lkp_c (P := OkP 361) ⟨(PuOK.ok (ok_istore_n dX4_decide_29 rfl)), m_istore⟩ (
  lkp_c (P := OkP 361) ⟨(PuOK.ok (ok_iload_n dX4_decide_30 rfl)), m_iload⟩ (
  lkp_c (P := OkP 361) ⟨(PuOK.ok (ok_iconst dX4_decide_31 rfl)), m_push⟩ (
  lkp_c (P := OkP 361) ⟨(PuOK.ok (ok_icmp_ne dX4_decide_32 rfl)), m_icmp⟩ (
  lkp_c (P := OkP 361) ⟨(PuOK.ok (ok_aload_n dX4_decide_35 rfl)), m_aload⟩ (
  lkp_c (P := OkP 361) ⟨(PuOK.ok (ok_iconst dX4_decide_36 rfl)), m_push⟩ (
  lkp_c (P := OkP 361) ⟨ok_cv (List.forall_mem_cons.mpr ⟨tg_V (ci := 30) (r := CLr 30) (y := 291) rfl ⟨rfl, by decide⟩ rfl q3206 q3208 qs42 q139 q3209 ⟨cn_34.1, cn_34.2, pd_48⟩ dX4_decide_37, (List.forall_mem_nil _)⟩) hd_no, m_cv⟩ (
  lkp_c (P := OkP 361) ⟨ok_iret rfl rfl (by decide) dX4_decide_40, m_ret⟩ (
  lkp_c (P := OkP 361) ⟨(PuOK.ok (ok_iload_n dX4_decide_41 rfl)), m_iload⟩ (
  lkp_c (P := OkP 361) ⟨(PuOK.ok (ok_iconst dX4_decide_42 rfl)), m_push⟩ (
  lkp_c (P := OkP 361) ⟨(PuOK.ok (ok_icmp_ne dX4_decide_43 rfl)), m_icmp⟩ (
  lkp_c (P := OkP 361) ⟨(PuOK.ok (ok_aload_n dX4_decide_46 rfl)), m_aload⟩ (
  lkp_c (P := OkP 361) ⟨(PuOK.ok (ok_iload_n dX4_decide_47 rfl)), m_iload⟩ (
  lkp_c (P := OkP 361) ⟨(PuOK.ok (ok_iconst dX4_decide_48 rfl)), m_push⟩ (
  lkp_c (P := OkP 361) ⟨(PuOK.ok (ok_iconst dX4_decide_49 rfl)), m_push⟩ (
  lkp_c (P := OkP 361) ⟨ok_cv (List.forall_mem_cons.mpr ⟨tg_V (ci := 30) (r := CLr 30) (y := 353) rfl ⟨rfl, by decide⟩ rfl q3475 q3477 qs82 q139 q3478 ⟨cn_34.1, cn_34.2, pd_105⟩ dX4_decide_50, (List.forall_mem_nil _)⟩) hd_no, m_cv⟩ (
  lkp_c (P := OkP 361) ⟨(PuOK.ok (ok_goto dX4_decide_53 rfl)), m_goto⟩ (
  lkp_c (P := OkP 361) ⟨(PuOK.ok (ok_aload_n dX4_decide_56 rfl)), m_aload⟩ (
  lkp_c (P := OkP 361) ⟨(PuOK.ok (ok_iload_n dX4_decide_57 rfl)), m_iload⟩ (
  lkp_c (P := OkP 361) ⟨(PuOK.ok (ok_iconst dX4_decide_58 rfl)), m_push⟩ (
  lkp_c (P := OkP 361) ⟨(PuOK.ok (ok_iload_n dX4_decide_59 rfl)), m_iload⟩ (
  lkp_c (P := OkP 361) ⟨ok_cv (List.forall_mem_cons.mpr ⟨tg_V (ci := 30) (r := CLr 30) (y := 353) rfl ⟨rfl, by decide⟩ rfl q3475 q3477 qs82 q139 q3478 ⟨cn_34.1, cn_34.2, pd_105⟩ dX4_decide_60, (List.forall_mem_nil _)⟩) hd_no, m_cv⟩ (
  lkp_c (P := OkP 361) ⟨(PuOK.ok (ok_aload_n dX4_decide_63 rfl)), m_aload⟩ (
  trivial))))))))))))))))))))))))))))))))))))))))
theorem c_361_1 : LkP (OkP 361) [(64, o_iload 2 1), (65, o_push 1 (.int 4)), (66, o_push 2 (.int 100)), (68, o_cv [(30, 353)] 3 3 true none), (71, o_aload 0 1), (72, o_iload 2 1), (73, o_cv [(30, 354)] 1 3 true none), (76, o_iload 2 1), (77, o_ret 1)] := lkp_c (P := OkP 361) ⟨(PuOK.ok (ok_iload_n dX4_decide_64 rfl)), m_iload⟩ (
  lkp_c (P := OkP 361) ⟨(PuOK.ok (ok_iconst dX4_decide_65 rfl)), m_push⟩ (
  lkp_c (P := OkP 361) ⟨(PuOK.ok (ok_bipush dX4_decide_66 rfl)), m_push⟩ (
  lkp_c (P := OkP 361) ⟨ok_cv (List.forall_mem_cons.mpr ⟨tg_V (ci := 30) (r := CLr 30) (y := 353) rfl ⟨rfl, by decide⟩ rfl q3475 q3477 qs82 q139 q3478 ⟨cn_34.1, cn_34.2, pd_105⟩ dX4_decide_68, (List.forall_mem_nil _)⟩) hd_no, m_cv⟩ (
  lkp_c (P := OkP 361) ⟨(PuOK.ok (ok_aload_n dX4_decide_71 rfl)), m_aload⟩ (
  lkp_c (P := OkP 361) ⟨(PuOK.ok (ok_iload_n dX4_decide_72 rfl)), m_iload⟩ (
  lkp_c (P := OkP 361) ⟨ok_cv (List.forall_mem_cons.mpr ⟨tg_V (ci := 30) (r := CLr 30) (y := 354) rfl ⟨rfl, by decide⟩ rfl q3479 q3481 qs83 q139 q3482 ⟨cn_34.1, cn_34.2, pd_9⟩ dX4_decide_73, (List.forall_mem_nil _)⟩) hd_no, m_cv⟩ (
  lkp_c (P := OkP 361) ⟨(PuOK.ok (ok_iload_n dX4_decide_76 rfl)), m_iload⟩ (
  lkp_c (P := OkP 361) ⟨ok_iret rfl rfl (by decide) dX4_decide_77, m_ret⟩ (
  trivial)))))))))
theorem mt_361 : MtOK TB NT IT 361 := ⟨by decide +kernel, rfl, (fun h => by cases h), Or.inl ⟨rfl, rfl⟩, rfl, by decide, lk2_all (P := OkP 361) ⟨c_361_0, c_361_1, trivial⟩⟩
def dkwX4_correct_3 : List UInt8 := [172]
abbrev dktX4_correct_3 : List UInt8 := dkwX4_correct_3 ++ []
def dkwX4_correct_2 : List UInt8 := [42, 5, 182, 0, 87, 172, 42, 27, 3, 28, 182, 1, 49, 42, 27, 182, 1, 52, 42, 27, 8, 182, 0, 234]
abbrev dktX4_correct_2 : List UInt8 := dkwX4_correct_2 ++ dktX4_correct_3
def dkwX4_correct_1 : List UInt8 := [182, 0, 87, 172, 42, 27, 8, 182, 0, 234, 4, 159, 0, 19, 42, 27, 8, 182, 0, 234, 7, 159, 0, 9]
abbrev dktX4_correct_1 : List UInt8 := dkwX4_correct_1 ++ dktX4_correct_2
def dkwX4_correct_0 : List UInt8 := [42, 3, 181, 0, 81, 42, 27, 182, 1, 60, 153, 0, 11, 42, 28, 182, 0, 255, 154, 0, 9, 42, 4]
abbrev dktX4_correct_0 : List UInt8 := dkwX4_correct_0 ++ dktX4_correct_1
theorem dksX4_correct_0 : cX4_correct.data.toList.drop 0 = dktX4_correct_0 := by decide +kernel
theorem dksX4_correct_1 : cX4_correct.data.toList.drop 23 = dktX4_correct_1 := dk_seg dksX4_correct_0 23 rfl rfl
theorem dksX4_correct_2 : cX4_correct.data.toList.drop 47 = dktX4_correct_2 := dk_seg dksX4_correct_1 24 rfl rfl
theorem dksX4_correct_3 : cX4_correct.data.toList.drop 71 = dktX4_correct_3 := dk_seg dksX4_correct_2 24 rfl rfl
theorem dX4_correct_0 : decode cX4_correct 0 = .ok (.aload_n 0, 1) := dk_42 (dk_at dksX4_correct_0 0 rfl rfl)
theorem dX4_correct_1 : decode cX4_correct 1 = .ok (.iconst 0, 1) := dk_3 (dk_at dksX4_correct_0 1 rfl rfl)
theorem dX4_correct_2 : decode cX4_correct 2 = .ok (.putfield 81, 3) := dk_181 0 81 (dk_at dksX4_correct_0 2 rfl rfl)
theorem dX4_correct_5 : decode cX4_correct 5 = .ok (.aload_n 0, 1) := dk_42 (dk_at dksX4_correct_0 5 rfl rfl)
theorem dX4_correct_6 : decode cX4_correct 6 = .ok (.iload_n 1, 1) := dk_27 (dk_at dksX4_correct_0 6 rfl rfl)
theorem dX4_correct_7 : decode cX4_correct 7 = .ok (.invokevirtual 316, 3) := dk_182 1 60 (dk_at dksX4_correct_0 7 rfl rfl)
theorem dX4_correct_10 : decode cX4_correct 10 = .ok (.ifCond .eq 11, 3) := dk_153 0 11 (dk_at dksX4_correct_0 10 rfl rfl)
theorem dX4_correct_13 : decode cX4_correct 13 = .ok (.aload_n 0, 1) := dk_42 (dk_at dksX4_correct_0 13 rfl rfl)
theorem dX4_correct_14 : decode cX4_correct 14 = .ok (.iload_n 2, 1) := dk_28 (dk_at dksX4_correct_0 14 rfl rfl)
theorem dX4_correct_15 : decode cX4_correct 15 = .ok (.invokevirtual 255, 3) := dk_182 0 255 (dk_at dksX4_correct_0 15 rfl rfl)
theorem dX4_correct_18 : decode cX4_correct 18 = .ok (.ifCond .ne 9, 3) := dk_154 0 9 (dk_at dksX4_correct_0 18 rfl rfl)
theorem dX4_correct_21 : decode cX4_correct 21 = .ok (.aload_n 0, 1) := dk_42 (dk_at dksX4_correct_0 21 rfl rfl)
theorem dX4_correct_22 : decode cX4_correct 22 = .ok (.iconst 1, 1) := dk_4 (dk_at dksX4_correct_0 22 rfl rfl)
theorem dX4_correct_23 : decode cX4_correct 23 = .ok (.invokevirtual 87, 3) := dk_182 0 87 (dk_at dksX4_correct_1 0 rfl rfl)
theorem dX4_correct_26 : decode cX4_correct 26 = .ok (.ireturn, 1) := dk_172 (dk_at dksX4_correct_1 3 rfl rfl)
theorem dX4_correct_27 : decode cX4_correct 27 = .ok (.aload_n 0, 1) := dk_42 (dk_at dksX4_correct_1 4 rfl rfl)
theorem dX4_correct_28 : decode cX4_correct 28 = .ok (.iload_n 1, 1) := dk_27 (dk_at dksX4_correct_1 5 rfl rfl)
theorem dX4_correct_29 : decode cX4_correct 29 = .ok (.iconst 5, 1) := dk_8 (dk_at dksX4_correct_1 6 rfl rfl)
theorem dX4_correct_30 : decode cX4_correct 30 = .ok (.invokevirtual 234, 3) := dk_182 0 234 (dk_at dksX4_correct_1 7 rfl rfl)
theorem dX4_correct_33 : decode cX4_correct 33 = .ok (.iconst 1, 1) := dk_4 (dk_at dksX4_correct_1 10 rfl rfl)
theorem dX4_correct_34 : decode cX4_correct 34 = .ok (.if_icmp .eq 19, 3) := dk_159 0 19 (dk_at dksX4_correct_1 11 rfl rfl)
theorem dX4_correct_37 : decode cX4_correct 37 = .ok (.aload_n 0, 1) := dk_42 (dk_at dksX4_correct_1 14 rfl rfl)
theorem dX4_correct_38 : decode cX4_correct 38 = .ok (.iload_n 1, 1) := dk_27 (dk_at dksX4_correct_1 15 rfl rfl)
theorem dX4_correct_39 : decode cX4_correct 39 = .ok (.iconst 5, 1) := dk_8 (dk_at dksX4_correct_1 16 rfl rfl)
theorem dX4_correct_40 : decode cX4_correct 40 = .ok (.invokevirtual 234, 3) := dk_182 0 234 (dk_at dksX4_correct_1 17 rfl rfl)
theorem dX4_correct_43 : decode cX4_correct 43 = .ok (.iconst 4, 1) := dk_7 (dk_at dksX4_correct_1 20 rfl rfl)
theorem dX4_correct_44 : decode cX4_correct 44 = .ok (.if_icmp .eq 9, 3) := dk_159 0 9 (dk_at dksX4_correct_1 21 rfl rfl)
theorem dX4_correct_47 : decode cX4_correct 47 = .ok (.aload_n 0, 1) := dk_42 (dk_at dksX4_correct_2 0 rfl rfl)
theorem dX4_correct_48 : decode cX4_correct 48 = .ok (.iconst 2, 1) := dk_5 (dk_at dksX4_correct_2 1 rfl rfl)
theorem dX4_correct_49 : decode cX4_correct 49 = .ok (.invokevirtual 87, 3) := dk_182 0 87 (dk_at dksX4_correct_2 2 rfl rfl)
theorem dX4_correct_52 : decode cX4_correct 52 = .ok (.ireturn, 1) := dk_172 (dk_at dksX4_correct_2 5 rfl rfl)
theorem dX4_correct_53 : decode cX4_correct 53 = .ok (.aload_n 0, 1) := dk_42 (dk_at dksX4_correct_2 6 rfl rfl)
theorem dX4_correct_54 : decode cX4_correct 54 = .ok (.iload_n 1, 1) := dk_27 (dk_at dksX4_correct_2 7 rfl rfl)
theorem dX4_correct_55 : decode cX4_correct 55 = .ok (.iconst 0, 1) := dk_3 (dk_at dksX4_correct_2 8 rfl rfl)
theorem dX4_correct_56 : decode cX4_correct 56 = .ok (.iload_n 2, 1) := dk_28 (dk_at dksX4_correct_2 9 rfl rfl)
theorem dX4_correct_57 : decode cX4_correct 57 = .ok (.invokevirtual 305, 3) := dk_182 1 49 (dk_at dksX4_correct_2 10 rfl rfl)
theorem dX4_correct_60 : decode cX4_correct 60 = .ok (.aload_n 0, 1) := dk_42 (dk_at dksX4_correct_2 13 rfl rfl)
theorem dX4_correct_61 : decode cX4_correct 61 = .ok (.iload_n 1, 1) := dk_27 (dk_at dksX4_correct_2 14 rfl rfl)
theorem dX4_correct_62 : decode cX4_correct 62 = .ok (.invokevirtual 308, 3) := dk_182 1 52 (dk_at dksX4_correct_2 15 rfl rfl)
theorem dX4_correct_65 : decode cX4_correct 65 = .ok (.aload_n 0, 1) := dk_42 (dk_at dksX4_correct_2 18 rfl rfl)
theorem dX4_correct_66 : decode cX4_correct 66 = .ok (.iload_n 1, 1) := dk_27 (dk_at dksX4_correct_2 19 rfl rfl)
theorem dX4_correct_67 : decode cX4_correct 67 = .ok (.iconst 5, 1) := dk_8 (dk_at dksX4_correct_2 20 rfl rfl)
theorem dX4_correct_68 : decode cX4_correct 68 = .ok (.invokevirtual 234, 3) := dk_182 0 234 (dk_at dksX4_correct_2 21 rfl rfl)
theorem dX4_correct_71 : decode cX4_correct 71 = .ok (.ireturn, 1) := dk_172 (dk_at dksX4_correct_3 0 rfl rfl)
theorem c_362_0 : LkP (OkP 362) [(0, o_aload 0 1), (1, o_push 1 (.int 0)), (2, o_put 155 1), (5, o_aload 0 1), (6, o_iload 1 1), (7, o_cv [(30, 357)] 1 3 false none), (10, o_if (fun x => decide (x = 0)) 21), (13, o_aload 0 1), (14, o_iload 2 1), (15, o_cv [(30, 338)] 1 3 false none), (18, o_if (fun x => decide (¬ x = 0)) 27), (21, o_aload 0 1), (22, o_push 1 (.int 1)), (23, o_cv [(30, 291)] 1 3 false none), (26, o_ret 1), (27, o_aload 0 1), (28, o_iload 1 1), (29, o_push 1 (.int 5)), (30, o_cv [(30, 331)] 2 3 false none), (33, o_push 1 (.int 1)), (34, o_icmp (fun x y => decide (x = y)) 53), (37, o_aload 0 1), (38, o_iload 1 1), (39, o_push 1 (.int 5)), (40, o_cv [(30, 331)] 2 3 false none), (43, o_push 1 (.int 4)), (44, o_icmp (fun x y => decide (x = y)) 53), (47, o_aload 0 1), (48, o_push 1 (.int 2)), (49, o_cv [(30, 291)] 1 3 false none), (52, o_ret 1), (53, o_aload 0 1), (54, o_iload 1 1), (55, o_push 1 (.int 0)), (56, o_iload 2 1), (57, o_cv [(30, 353)] 3 3 true none), (60, o_aload 0 1), (61, o_iload 1 1), (62, o_cv [(30, 354)] 1 3 true none)] := lkp_c (P := OkP 362) ⟨(PuOK.ok (ok_aload_n dX4_correct_0 rfl)), m_aload⟩ (
  lkp_c (P := OkP 362) ⟨(PuOK.ok (ok_iconst dX4_correct_1 rfl)), m_push⟩ (
  lkp_c (P := OkP 362) ⟨ok_put ⟨"TollRoadModel", q3087, Or.inl rfl⟩ rfl fd_155 rfl dX4_correct_2, m_put⟩ (
  lkp_c (P := OkP 362) ⟨(PuOK.ok (ok_aload_n dX4_correct_5 rfl)), m_aload⟩ (
  lkp_c (P := OkP 362) ⟨(PuOK.ok (ok_iload_n dX4_correct_6 rfl)), m_iload⟩ (
  lkp_c (P := OkP 362) ⟨ok_cv (List.forall_mem_cons.mpr ⟨tg_V (ci := 30) (r := CLr 30) (y := 357) rfl ⟨rfl, by decide⟩ rfl q3491 q3493 qs84 q139 q3494 ⟨cn_34.1, cn_34.2, pd_77⟩ dX4_correct_7, (List.forall_mem_nil _)⟩) hd_no, m_cv⟩ (
  lkp_c (P := OkP 362) ⟨(PuOK.ok (ok_if_eq dX4_correct_10 rfl)), m_if⟩ (
  lkp_c (P := OkP 362) ⟨(PuOK.ok (ok_aload_n dX4_correct_13 rfl)), m_aload⟩ (
  lkp_c (P := OkP 362) ⟨(PuOK.ok (ok_iload_n dX4_correct_14 rfl)), m_iload⟩ (
  lkp_c (P := OkP 362) ⟨ok_cv (List.forall_mem_cons.mpr ⟨tg_V (ci := 30) (r := CLr 30) (y := 338) rfl ⟨rfl, by decide⟩ rfl q3411 q3413 qs72 q139 q3414 ⟨cn_34.1, cn_34.2, pd_77⟩ dX4_correct_15, (List.forall_mem_nil _)⟩) hd_no, m_cv⟩ (
  lkp_c (P := OkP 362) ⟨(PuOK.ok (ok_if_ne dX4_correct_18 rfl)), m_if⟩ (
  lkp_c (P := OkP 362) ⟨(PuOK.ok (ok_aload_n dX4_correct_21 rfl)), m_aload⟩ (
  lkp_c (P := OkP 362) ⟨(PuOK.ok (ok_iconst dX4_correct_22 rfl)), m_push⟩ (
  lkp_c (P := OkP 362) ⟨ok_cv (List.forall_mem_cons.mpr ⟨tg_V (ci := 30) (r := CLr 30) (y := 291) rfl ⟨rfl, by decide⟩ rfl q3206 q3208 qs42 q139 q3209 ⟨cn_34.1, cn_34.2, pd_48⟩ dX4_correct_23, (List.forall_mem_nil _)⟩) hd_no, m_cv⟩ (
  lkp_c (P := OkP 362) ⟨ok_iret rfl rfl (by decide) dX4_correct_26, m_ret⟩ (
  lkp_c (P := OkP 362) ⟨(PuOK.ok (ok_aload_n dX4_correct_27 rfl)), m_aload⟩ (
  lkp_c (P := OkP 362) ⟨(PuOK.ok (ok_iload_n dX4_correct_28 rfl)), m_iload⟩ (
  lkp_c (P := OkP 362) ⟨(PuOK.ok (ok_iconst dX4_correct_29 rfl)), m_push⟩ (
  lkp_c (P := OkP 362) ⟨ok_cv (List.forall_mem_cons.mpr ⟨tg_V (ci := 30) (r := CLr 30) (y := 331) rfl ⟨rfl, by decide⟩ rfl q3383 q3385 qs68 q139 q3386 ⟨cn_34.1, cn_34.2, pd_1⟩ dX4_correct_30, (List.forall_mem_nil _)⟩) hd_no, m_cv⟩ (
  lkp_c (P := OkP 362) ⟨(PuOK.ok (ok_iconst dX4_correct_33 rfl)), m_push⟩ (
  lkp_c (P := OkP 362) ⟨(PuOK.ok (ok_icmp_eq dX4_correct_34 rfl)), m_icmp⟩ (
  lkp_c (P := OkP 362) ⟨(PuOK.ok (ok_aload_n dX4_correct_37 rfl)), m_aload⟩ (
  lkp_c (P := OkP 362) ⟨(PuOK.ok (ok_iload_n dX4_correct_38 rfl)), m_iload⟩ (
  lkp_c (P := OkP 362) ⟨(PuOK.ok (ok_iconst dX4_correct_39 rfl)), m_push⟩ (
  lkp_c (P := OkP 362) ⟨ok_cv (List.forall_mem_cons.mpr ⟨tg_V (ci := 30) (r := CLr 30) (y := 331) rfl ⟨rfl, by decide⟩ rfl q3383 q3385 qs68 q139 q3386 ⟨cn_34.1, cn_34.2, pd_1⟩ dX4_correct_40, (List.forall_mem_nil _)⟩) hd_no, m_cv⟩ (
  lkp_c (P := OkP 362) ⟨(PuOK.ok (ok_iconst dX4_correct_43 rfl)), m_push⟩ (
  lkp_c (P := OkP 362) ⟨(PuOK.ok (ok_icmp_eq dX4_correct_44 rfl)), m_icmp⟩ (
  lkp_c (P := OkP 362) ⟨(PuOK.ok (ok_aload_n dX4_correct_47 rfl)), m_aload⟩ (
  lkp_c (P := OkP 362) ⟨(PuOK.ok (ok_iconst dX4_correct_48 rfl)), m_push⟩ (
  lkp_c (P := OkP 362) ⟨ok_cv (List.forall_mem_cons.mpr ⟨tg_V (ci := 30) (r := CLr 30) (y := 291) rfl ⟨rfl, by decide⟩ rfl q3206 q3208 qs42 q139 q3209 ⟨cn_34.1, cn_34.2, pd_48⟩ dX4_correct_49, (List.forall_mem_nil _)⟩) hd_no, m_cv⟩ (
  lkp_c (P := OkP 362) ⟨ok_iret rfl rfl (by decide) dX4_correct_52, m_ret⟩ (
  lkp_c (P := OkP 362) ⟨(PuOK.ok (ok_aload_n dX4_correct_53 rfl)), m_aload⟩ (
  lkp_c (P := OkP 362) ⟨(PuOK.ok (ok_iload_n dX4_correct_54 rfl)), m_iload⟩ (
  lkp_c (P := OkP 362) ⟨(PuOK.ok (ok_iconst dX4_correct_55 rfl)), m_push⟩ (
  lkp_c (P := OkP 362) ⟨(PuOK.ok (ok_iload_n dX4_correct_56 rfl)), m_iload⟩ (
  lkp_c (P := OkP 362) ⟨ok_cv (List.forall_mem_cons.mpr ⟨tg_V (ci := 30) (r := CLr 30) (y := 353) rfl ⟨rfl, by decide⟩ rfl q3475 q3477 qs82 q139 q3478 ⟨cn_34.1, cn_34.2, pd_105⟩ dX4_correct_57, (List.forall_mem_nil _)⟩) hd_no, m_cv⟩ (
  lkp_c (P := OkP 362) ⟨(PuOK.ok (ok_aload_n dX4_correct_60 rfl)), m_aload⟩ (
  lkp_c (P := OkP 362) ⟨(PuOK.ok (ok_iload_n dX4_correct_61 rfl)), m_iload⟩ (
  lkp_c (P := OkP 362) ⟨ok_cv (List.forall_mem_cons.mpr ⟨tg_V (ci := 30) (r := CLr 30) (y := 354) rfl ⟨rfl, by decide⟩ rfl q3479 q3481 qs83 q139 q3482 ⟨cn_34.1, cn_34.2, pd_9⟩ dX4_correct_62, (List.forall_mem_nil _)⟩) hd_no, m_cv⟩ (
  trivial)))))))))))))))))))))))))))))))))))))))
theorem c_362_1 : LkP (OkP 362) [(65, o_aload 0 1), (66, o_iload 1 1), (67, o_push 1 (.int 5)), (68, o_cv [(30, 331)] 2 3 false none), (71, o_ret 1)] := lkp_c (P := OkP 362) ⟨(PuOK.ok (ok_aload_n dX4_correct_65 rfl)), m_aload⟩ (
  lkp_c (P := OkP 362) ⟨(PuOK.ok (ok_iload_n dX4_correct_66 rfl)), m_iload⟩ (
  lkp_c (P := OkP 362) ⟨(PuOK.ok (ok_iconst dX4_correct_67 rfl)), m_push⟩ (
  lkp_c (P := OkP 362) ⟨ok_cv (List.forall_mem_cons.mpr ⟨tg_V (ci := 30) (r := CLr 30) (y := 331) rfl ⟨rfl, by decide⟩ rfl q3383 q3385 qs68 q139 q3386 ⟨cn_34.1, cn_34.2, pd_1⟩ dX4_correct_68, (List.forall_mem_nil _)⟩) hd_no, m_cv⟩ (
  lkp_c (P := OkP 362) ⟨ok_iret rfl rfl (by decide) dX4_correct_71, m_ret⟩ (
  trivial)))))
theorem mt_362 : MtOK TB NT IT 362 := ⟨by decide +kernel, rfl, (fun h => by cases h), Or.inl ⟨rfl, rfl⟩, rfl, by decide, lk2_all (P := OkP 362) ⟨c_362_0, c_362_1, trivial⟩⟩
def dkwX4_trips_1 : List UInt8 := [42, 180, 1, 75, 172]
abbrev dktX4_trips_1 : List UInt8 := dkwX4_trips_1 ++ []
def dkwX4_trips_0 : List UInt8 := [42, 3, 181, 0, 81, 42, 27, 182, 0, 255, 154, 0, 9, 42, 4, 182, 0, 87, 172, 42, 27, 182, 1, 91]
abbrev dktX4_trips_0 : List UInt8 := dkwX4_trips_0 ++ dktX4_trips_1
theorem dksX4_trips_0 : cX4_trips.data.toList.drop 0 = dktX4_trips_0 := by decide +kernel
theorem dksX4_trips_1 : cX4_trips.data.toList.drop 24 = dktX4_trips_1 := dk_seg dksX4_trips_0 24 rfl rfl
theorem dX4_trips_0 : decode cX4_trips 0 = .ok (.aload_n 0, 1) := dk_42 (dk_at dksX4_trips_0 0 rfl rfl)
theorem dX4_trips_1 : decode cX4_trips 1 = .ok (.iconst 0, 1) := dk_3 (dk_at dksX4_trips_0 1 rfl rfl)
theorem dX4_trips_2 : decode cX4_trips 2 = .ok (.putfield 81, 3) := dk_181 0 81 (dk_at dksX4_trips_0 2 rfl rfl)
theorem dX4_trips_5 : decode cX4_trips 5 = .ok (.aload_n 0, 1) := dk_42 (dk_at dksX4_trips_0 5 rfl rfl)
theorem dX4_trips_6 : decode cX4_trips 6 = .ok (.iload_n 1, 1) := dk_27 (dk_at dksX4_trips_0 6 rfl rfl)
theorem dX4_trips_7 : decode cX4_trips 7 = .ok (.invokevirtual 255, 3) := dk_182 0 255 (dk_at dksX4_trips_0 7 rfl rfl)
theorem dX4_trips_10 : decode cX4_trips 10 = .ok (.ifCond .ne 9, 3) := dk_154 0 9 (dk_at dksX4_trips_0 10 rfl rfl)
theorem dX4_trips_13 : decode cX4_trips 13 = .ok (.aload_n 0, 1) := dk_42 (dk_at dksX4_trips_0 13 rfl rfl)
theorem dX4_trips_14 : decode cX4_trips 14 = .ok (.iconst 1, 1) := dk_4 (dk_at dksX4_trips_0 14 rfl rfl)
theorem dX4_trips_15 : decode cX4_trips 15 = .ok (.invokevirtual 87, 3) := dk_182 0 87 (dk_at dksX4_trips_0 15 rfl rfl)
theorem dX4_trips_18 : decode cX4_trips 18 = .ok (.ireturn, 1) := dk_172 (dk_at dksX4_trips_0 18 rfl rfl)
theorem dX4_trips_19 : decode cX4_trips 19 = .ok (.aload_n 0, 1) := dk_42 (dk_at dksX4_trips_0 19 rfl rfl)
theorem dX4_trips_20 : decode cX4_trips 20 = .ok (.iload_n 1, 1) := dk_27 (dk_at dksX4_trips_0 20 rfl rfl)
theorem dX4_trips_21 : decode cX4_trips 21 = .ok (.invokevirtual 347, 3) := dk_182 1 91 (dk_at dksX4_trips_0 21 rfl rfl)
theorem dX4_trips_24 : decode cX4_trips 24 = .ok (.aload_n 0, 1) := dk_42 (dk_at dksX4_trips_1 0 rfl rfl)
theorem dX4_trips_25 : decode cX4_trips 25 = .ok (.getfield 331, 3) := dk_180 1 75 (dk_at dksX4_trips_1 1 rfl rfl)
theorem dX4_trips_28 : decode cX4_trips 28 = .ok (.ireturn, 1) := dk_172 (dk_at dksX4_trips_1 4 rfl rfl)
theorem c_363_0 : LkP (OkP 363) [(0, o_aload 0 1), (1, o_push 1 (.int 0)), (2, o_put 155 1), (5, o_aload 0 1), (6, o_iload 1 1), (7, o_cv [(30, 338)] 1 3 false none), (10, o_if (fun x => decide (¬ x = 0)) 19), (13, o_aload 0 1), (14, o_push 1 (.int 1)), (15, o_cv [(30, 291)] 1 3 false none), (18, o_ret 1), (19, o_aload 0 1), (20, o_iload 1 1), (21, o_cv [(30, 364)] 1 3 true none), (24, o_aload 0 1), (25, o_get 185), (28, o_ret 1)] := lkp_c (P := OkP 363) ⟨(PuOK.ok (ok_aload_n dX4_trips_0 rfl)), m_aload⟩ (
  lkp_c (P := OkP 363) ⟨(PuOK.ok (ok_iconst dX4_trips_1 rfl)), m_push⟩ (
  lkp_c (P := OkP 363) ⟨ok_put ⟨"TollRoadModel", q3087, Or.inl rfl⟩ rfl fd_155 rfl dX4_trips_2, m_put⟩ (
  lkp_c (P := OkP 363) ⟨(PuOK.ok (ok_aload_n dX4_trips_5 rfl)), m_aload⟩ (
  lkp_c (P := OkP 363) ⟨(PuOK.ok (ok_iload_n dX4_trips_6 rfl)), m_iload⟩ (
  lkp_c (P := OkP 363) ⟨ok_cv (List.forall_mem_cons.mpr ⟨tg_V (ci := 30) (r := CLr 30) (y := 338) rfl ⟨rfl, by decide⟩ rfl q3411 q3413 qs72 q139 q3414 ⟨cn_34.1, cn_34.2, pd_77⟩ dX4_trips_7, (List.forall_mem_nil _)⟩) hd_no, m_cv⟩ (
  lkp_c (P := OkP 363) ⟨(PuOK.ok (ok_if_ne dX4_trips_10 rfl)), m_if⟩ (
  lkp_c (P := OkP 363) ⟨(PuOK.ok (ok_aload_n dX4_trips_13 rfl)), m_aload⟩ (
  lkp_c (P := OkP 363) ⟨(PuOK.ok (ok_iconst dX4_trips_14 rfl)), m_push⟩ (
  lkp_c (P := OkP 363) ⟨ok_cv (List.forall_mem_cons.mpr ⟨tg_V (ci := 30) (r := CLr 30) (y := 291) rfl ⟨rfl, by decide⟩ rfl q3206 q3208 qs42 q139 q3209 ⟨cn_34.1, cn_34.2, pd_48⟩ dX4_trips_15, (List.forall_mem_nil _)⟩) hd_no, m_cv⟩ (
  lkp_c (P := OkP 363) ⟨ok_iret rfl rfl (by decide) dX4_trips_18, m_ret⟩ (
  lkp_c (P := OkP 363) ⟨(PuOK.ok (ok_aload_n dX4_trips_19 rfl)), m_aload⟩ (
  lkp_c (P := OkP 363) ⟨(PuOK.ok (ok_iload_n dX4_trips_20 rfl)), m_iload⟩ (
  lkp_c (P := OkP 363) ⟨ok_cv (List.forall_mem_cons.mpr ⟨tg_V (ci := 30) (r := CLr 30) (y := 364) rfl ⟨rfl, by decide⟩ rfl q3519 q3521 qs87 q139 q3522 ⟨cn_34.1, cn_34.2, pd_9⟩ dX4_trips_21, (List.forall_mem_nil _)⟩) hd_no, m_cv⟩ (
  lkp_c (P := OkP 363) ⟨(PuOK.ok (ok_aload_n dX4_trips_24 rfl)), m_aload⟩ (
  lkp_c (P := OkP 363) ⟨ok_get ⟨"TollRoadModel", q3117, Or.inl rfl⟩ dX4_trips_25, m_get⟩ (
  lkp_c (P := OkP 363) ⟨ok_iret rfl rfl (by decide) dX4_trips_28, m_ret⟩ (
  trivial)))))))))))))))))
theorem mt_363 : MtOK TB NT IT 363 := ⟨by decide +kernel, rfl, (fun h => by cases h), Or.inl ⟨rfl, rfl⟩, rfl, by decide, lk2_all (P := OkP 363) ⟨c_363_0, trivial⟩⟩
def dkwX4_layTrips_6 : List UInt8 := [180, 1, 72, 79, 177]
abbrev dktX4_layTrips_6 : List UInt8 := dkwX4_layTrips_6 ++ []
def dkwX4_layTrips_5 : List UInt8 := [42, 180, 1, 75, 4, 100, 79, 132, 3, 1, 167, 255, 146, 42, 180, 0, 63, 42, 180, 1, 75, 42]
abbrev dktX4_layTrips_5 : List UInt8 := dkwX4_layTrips_5 ++ dktX4_layTrips_6
def dkwX4_layTrips_4 : List UInt8 := [42, 28, 21, 4, 182, 1, 85, 154, 0, 9, 42, 21, 4, 182, 1, 88, 21, 4, 61, 42, 180, 0, 60, 29]
abbrev dktX4_layTrips_4 : List UInt8 := dkwX4_layTrips_4 ++ dktX4_layTrips_5
def dkwX4_layTrips_3 : List UInt8 := [4, 182, 0, 231, 163, 0, 7, 4, 167, 0, 4, 3, 54, 5, 21, 5, 154, 0, 27, 28, 2, 159, 0, 13]
abbrev dktX4_layTrips_3 : List UInt8 := dkwX4_layTrips_3 ++ dktX4_layTrips_4
def dkwX4_layTrips_2 : List UInt8 := [21, 4, 4, 182, 0, 234, 160, 0, 29, 42, 21, 4, 5, 182, 0, 234, 42, 28, 5, 182, 0, 234, 100, 42]
abbrev dktX4_layTrips_2 : List UInt8 := dkwX4_layTrips_2 ++ dktX4_layTrips_3
def dkwX4_layTrips_1 : List UInt8 := [162, 0, 108, 42, 180, 0, 57, 29, 46, 54, 4, 28, 2, 159, 0, 45, 42, 28, 4, 182, 0, 234, 42]
abbrev dktX4_layTrips_1 : List UInt8 := dkwX4_layTrips_1 ++ dktX4_layTrips_2
def dkwX4_layTrips_0 : List UInt8 := [42, 27, 182, 1, 82, 42, 3, 181, 1, 75, 42, 3, 181, 1, 72, 2, 61, 3, 62, 29, 42, 180, 1, 69]
abbrev dktX4_layTrips_0 : List UInt8 := dkwX4_layTrips_0 ++ dktX4_layTrips_1
theorem dksX4_layTrips_0 : cX4_layTrips.data.toList.drop 0 = dktX4_layTrips_0 := by decide +kernel
theorem dksX4_layTrips_1 : cX4_layTrips.data.toList.drop 24 = dktX4_layTrips_1 := dk_seg dksX4_layTrips_0 24 rfl rfl
theorem dksX4_layTrips_2 : cX4_layTrips.data.toList.drop 47 = dktX4_layTrips_2 := dk_seg dksX4_layTrips_1 23 rfl rfl
theorem dksX4_layTrips_3 : cX4_layTrips.data.toList.drop 71 = dktX4_layTrips_3 := dk_seg dksX4_layTrips_2 24 rfl rfl
theorem dksX4_layTrips_4 : cX4_layTrips.data.toList.drop 95 = dktX4_layTrips_4 := dk_seg dksX4_layTrips_3 24 rfl rfl
theorem dksX4_layTrips_5 : cX4_layTrips.data.toList.drop 119 = dktX4_layTrips_5 := dk_seg dksX4_layTrips_4 24 rfl rfl
theorem dksX4_layTrips_6 : cX4_layTrips.data.toList.drop 141 = dktX4_layTrips_6 := dk_seg dksX4_layTrips_5 22 rfl rfl
theorem dX4_layTrips_0 : decode cX4_layTrips 0 = .ok (.aload_n 0, 1) := dk_42 (dk_at dksX4_layTrips_0 0 rfl rfl)
theorem dX4_layTrips_1 : decode cX4_layTrips 1 = .ok (.iload_n 1, 1) := dk_27 (dk_at dksX4_layTrips_0 1 rfl rfl)
theorem dX4_layTrips_2 : decode cX4_layTrips 2 = .ok (.invokevirtual 338, 3) := dk_182 1 82 (dk_at dksX4_layTrips_0 2 rfl rfl)
theorem dX4_layTrips_5 : decode cX4_layTrips 5 = .ok (.aload_n 0, 1) := dk_42 (dk_at dksX4_layTrips_0 5 rfl rfl)
theorem dX4_layTrips_6 : decode cX4_layTrips 6 = .ok (.iconst 0, 1) := dk_3 (dk_at dksX4_layTrips_0 6 rfl rfl)
theorem dX4_layTrips_7 : decode cX4_layTrips 7 = .ok (.putfield 331, 3) := dk_181 1 75 (dk_at dksX4_layTrips_0 7 rfl rfl)
theorem dX4_layTrips_10 : decode cX4_layTrips 10 = .ok (.aload_n 0, 1) := dk_42 (dk_at dksX4_layTrips_0 10 rfl rfl)
theorem dX4_layTrips_11 : decode cX4_layTrips 11 = .ok (.iconst 0, 1) := dk_3 (dk_at dksX4_layTrips_0 11 rfl rfl)
theorem dX4_layTrips_12 : decode cX4_layTrips 12 = .ok (.putfield 328, 3) := dk_181 1 72 (dk_at dksX4_layTrips_0 12 rfl rfl)
theorem dX4_layTrips_15 : decode cX4_layTrips 15 = .ok (.iconst (-1), 1) := dk_2 (dk_at dksX4_layTrips_0 15 rfl rfl)
theorem dX4_layTrips_16 : decode cX4_layTrips 16 = .ok (.istore_n 2, 1) := dk_61 (dk_at dksX4_layTrips_0 16 rfl rfl)
theorem dX4_layTrips_17 : decode cX4_layTrips 17 = .ok (.iconst 0, 1) := dk_3 (dk_at dksX4_layTrips_0 17 rfl rfl)
theorem dX4_layTrips_18 : decode cX4_layTrips 18 = .ok (.istore_n 3, 1) := dk_62 (dk_at dksX4_layTrips_0 18 rfl rfl)
theorem dX4_layTrips_19 : decode cX4_layTrips 19 = .ok (.iload_n 3, 1) := dk_29 (dk_at dksX4_layTrips_0 19 rfl rfl)
theorem dX4_layTrips_20 : decode cX4_layTrips 20 = .ok (.aload_n 0, 1) := dk_42 (dk_at dksX4_layTrips_0 20 rfl rfl)
theorem dX4_layTrips_21 : decode cX4_layTrips 21 = .ok (.getfield 325, 3) := dk_180 1 69 (dk_at dksX4_layTrips_0 21 rfl rfl)
theorem dX4_layTrips_24 : decode cX4_layTrips 24 = .ok (.if_icmp .ge 108, 3) := dk_162 0 108 (dk_at dksX4_layTrips_1 0 rfl rfl)
theorem dX4_layTrips_27 : decode cX4_layTrips 27 = .ok (.aload_n 0, 1) := dk_42 (dk_at dksX4_layTrips_1 3 rfl rfl)
theorem dX4_layTrips_28 : decode cX4_layTrips 28 = .ok (.getfield 57, 3) := dk_180 0 57 (dk_at dksX4_layTrips_1 4 rfl rfl)
theorem dX4_layTrips_31 : decode cX4_layTrips 31 = .ok (.iload_n 3, 1) := dk_29 (dk_at dksX4_layTrips_1 7 rfl rfl)
theorem dX4_layTrips_32 : decode cX4_layTrips 32 = .ok (.iaload, 1) := dk_46 (dk_at dksX4_layTrips_1 8 rfl rfl)
theorem dX4_layTrips_33 : decode cX4_layTrips 33 = .ok (.istore 4, 2) := dk_54 4 (dk_at dksX4_layTrips_1 9 rfl rfl)
theorem dX4_layTrips_35 : decode cX4_layTrips 35 = .ok (.iload_n 2, 1) := dk_28 (dk_at dksX4_layTrips_1 11 rfl rfl)
theorem dX4_layTrips_36 : decode cX4_layTrips 36 = .ok (.iconst (-1), 1) := dk_2 (dk_at dksX4_layTrips_1 12 rfl rfl)
theorem dX4_layTrips_37 : decode cX4_layTrips 37 = .ok (.if_icmp .eq 45, 3) := dk_159 0 45 (dk_at dksX4_layTrips_1 13 rfl rfl)
theorem dX4_layTrips_40 : decode cX4_layTrips 40 = .ok (.aload_n 0, 1) := dk_42 (dk_at dksX4_layTrips_1 16 rfl rfl)
theorem dX4_layTrips_41 : decode cX4_layTrips 41 = .ok (.iload_n 2, 1) := dk_28 (dk_at dksX4_layTrips_1 17 rfl rfl)
theorem dX4_layTrips_42 : decode cX4_layTrips 42 = .ok (.iconst 1, 1) := dk_4 (dk_at dksX4_layTrips_1 18 rfl rfl)
theorem dX4_layTrips_43 : decode cX4_layTrips 43 = .ok (.invokevirtual 234, 3) := dk_182 0 234 (dk_at dksX4_layTrips_1 19 rfl rfl)
theorem dX4_layTrips_46 : decode cX4_layTrips 46 = .ok (.aload_n 0, 1) := dk_42 (dk_at dksX4_layTrips_1 22 rfl rfl)
theorem dX4_layTrips_47 : decode cX4_layTrips 47 = .ok (.iload 4, 2) := dk_21 4 (dk_at dksX4_layTrips_2 0 rfl rfl)
theorem dX4_layTrips_49 : decode cX4_layTrips 49 = .ok (.iconst 1, 1) := dk_4 (dk_at dksX4_layTrips_2 2 rfl rfl)
theorem dX4_layTrips_50 : decode cX4_layTrips 50 = .ok (.invokevirtual 234, 3) := dk_182 0 234 (dk_at dksX4_layTrips_2 3 rfl rfl)
theorem dX4_layTrips_53 : decode cX4_layTrips 53 = .ok (.if_icmp .ne 29, 3) := dk_160 0 29 (dk_at dksX4_layTrips_2 6 rfl rfl)
theorem dX4_layTrips_56 : decode cX4_layTrips 56 = .ok (.aload_n 0, 1) := dk_42 (dk_at dksX4_layTrips_2 9 rfl rfl)
theorem dX4_layTrips_57 : decode cX4_layTrips 57 = .ok (.iload 4, 2) := dk_21 4 (dk_at dksX4_layTrips_2 10 rfl rfl)
theorem dX4_layTrips_59 : decode cX4_layTrips 59 = .ok (.iconst 2, 1) := dk_5 (dk_at dksX4_layTrips_2 12 rfl rfl)
theorem dX4_layTrips_60 : decode cX4_layTrips 60 = .ok (.invokevirtual 234, 3) := dk_182 0 234 (dk_at dksX4_layTrips_2 13 rfl rfl)
theorem dX4_layTrips_63 : decode cX4_layTrips 63 = .ok (.aload_n 0, 1) := dk_42 (dk_at dksX4_layTrips_2 16 rfl rfl)
theorem dX4_layTrips_64 : decode cX4_layTrips 64 = .ok (.iload_n 2, 1) := dk_28 (dk_at dksX4_layTrips_2 17 rfl rfl)
theorem dX4_layTrips_65 : decode cX4_layTrips 65 = .ok (.iconst 2, 1) := dk_5 (dk_at dksX4_layTrips_2 18 rfl rfl)
theorem dX4_layTrips_66 : decode cX4_layTrips 66 = .ok (.invokevirtual 234, 3) := dk_182 0 234 (dk_at dksX4_layTrips_2 19 rfl rfl)
theorem dX4_layTrips_69 : decode cX4_layTrips 69 = .ok (.isub, 1) := dk_100 (dk_at dksX4_layTrips_2 22 rfl rfl)
theorem dX4_layTrips_70 : decode cX4_layTrips 70 = .ok (.aload_n 0, 1) := dk_42 (dk_at dksX4_layTrips_2 23 rfl rfl)
theorem dX4_layTrips_71 : decode cX4_layTrips 71 = .ok (.iconst 1, 1) := dk_4 (dk_at dksX4_layTrips_3 0 rfl rfl)
theorem dX4_layTrips_72 : decode cX4_layTrips 72 = .ok (.invokevirtual 231, 3) := dk_182 0 231 (dk_at dksX4_layTrips_3 1 rfl rfl)
theorem dX4_layTrips_75 : decode cX4_layTrips 75 = .ok (.if_icmp .gt 7, 3) := dk_163 0 7 (dk_at dksX4_layTrips_3 4 rfl rfl)
theorem dX4_layTrips_78 : decode cX4_layTrips 78 = .ok (.iconst 1, 1) := dk_4 (dk_at dksX4_layTrips_3 7 rfl rfl)
theorem dX4_layTrips_79 : decode cX4_layTrips 79 = .ok (.goto 4, 3) := dk_167 0 4 (dk_at dksX4_layTrips_3 8 rfl rfl)
theorem dX4_layTrips_82 : decode cX4_layTrips 82 = .ok (.iconst 0, 1) := dk_3 (dk_at dksX4_layTrips_3 11 rfl rfl)
theorem dX4_layTrips_83 : decode cX4_layTrips 83 = .ok (.istore 5, 2) := dk_54 5 (dk_at dksX4_layTrips_3 12 rfl rfl)
theorem dX4_layTrips_85 : decode cX4_layTrips 85 = .ok (.iload 5, 2) := dk_21 5 (dk_at dksX4_layTrips_3 14 rfl rfl)
theorem dX4_layTrips_87 : decode cX4_layTrips 87 = .ok (.ifCond .ne 27, 3) := dk_154 0 27 (dk_at dksX4_layTrips_3 16 rfl rfl)
theorem dX4_layTrips_90 : decode cX4_layTrips 90 = .ok (.iload_n 2, 1) := dk_28 (dk_at dksX4_layTrips_3 19 rfl rfl)
theorem dX4_layTrips_91 : decode cX4_layTrips 91 = .ok (.iconst (-1), 1) := dk_2 (dk_at dksX4_layTrips_3 20 rfl rfl)
theorem dX4_layTrips_92 : decode cX4_layTrips 92 = .ok (.if_icmp .eq 13, 3) := dk_159 0 13 (dk_at dksX4_layTrips_3 21 rfl rfl)
theorem dX4_layTrips_95 : decode cX4_layTrips 95 = .ok (.aload_n 0, 1) := dk_42 (dk_at dksX4_layTrips_4 0 rfl rfl)
theorem dX4_layTrips_96 : decode cX4_layTrips 96 = .ok (.iload_n 2, 1) := dk_28 (dk_at dksX4_layTrips_4 1 rfl rfl)
theorem dX4_layTrips_97 : decode cX4_layTrips 97 = .ok (.iload 4, 2) := dk_21 4 (dk_at dksX4_layTrips_4 2 rfl rfl)
theorem dX4_layTrips_99 : decode cX4_layTrips 99 = .ok (.invokevirtual 341, 3) := dk_182 1 85 (dk_at dksX4_layTrips_4 4 rfl rfl)
theorem dX4_layTrips_102 : decode cX4_layTrips 102 = .ok (.ifCond .ne 9, 3) := dk_154 0 9 (dk_at dksX4_layTrips_4 7 rfl rfl)
theorem dX4_layTrips_105 : decode cX4_layTrips 105 = .ok (.aload_n 0, 1) := dk_42 (dk_at dksX4_layTrips_4 10 rfl rfl)
theorem dX4_layTrips_106 : decode cX4_layTrips 106 = .ok (.iload 4, 2) := dk_21 4 (dk_at dksX4_layTrips_4 11 rfl rfl)
theorem dX4_layTrips_108 : decode cX4_layTrips 108 = .ok (.invokevirtual 344, 3) := dk_182 1 88 (dk_at dksX4_layTrips_4 13 rfl rfl)
theorem dX4_layTrips_111 : decode cX4_layTrips 111 = .ok (.iload 4, 2) := dk_21 4 (dk_at dksX4_layTrips_4 16 rfl rfl)
theorem dX4_layTrips_113 : decode cX4_layTrips 113 = .ok (.istore_n 2, 1) := dk_61 (dk_at dksX4_layTrips_4 18 rfl rfl)
theorem dX4_layTrips_114 : decode cX4_layTrips 114 = .ok (.aload_n 0, 1) := dk_42 (dk_at dksX4_layTrips_4 19 rfl rfl)
theorem dX4_layTrips_115 : decode cX4_layTrips 115 = .ok (.getfield 60, 3) := dk_180 0 60 (dk_at dksX4_layTrips_4 20 rfl rfl)
theorem dX4_layTrips_118 : decode cX4_layTrips 118 = .ok (.iload_n 3, 1) := dk_29 (dk_at dksX4_layTrips_4 23 rfl rfl)
theorem dX4_layTrips_119 : decode cX4_layTrips 119 = .ok (.aload_n 0, 1) := dk_42 (dk_at dksX4_layTrips_5 0 rfl rfl)
theorem dX4_layTrips_120 : decode cX4_layTrips 120 = .ok (.getfield 331, 3) := dk_180 1 75 (dk_at dksX4_layTrips_5 1 rfl rfl)
theorem dX4_layTrips_123 : decode cX4_layTrips 123 = .ok (.iconst 1, 1) := dk_4 (dk_at dksX4_layTrips_5 4 rfl rfl)
theorem dX4_layTrips_124 : decode cX4_layTrips 124 = .ok (.isub, 1) := dk_100 (dk_at dksX4_layTrips_5 5 rfl rfl)
theorem dX4_layTrips_125 : decode cX4_layTrips 125 = .ok (.iastore, 1) := dk_79 (dk_at dksX4_layTrips_5 6 rfl rfl)
theorem dX4_layTrips_126 : decode cX4_layTrips 126 = .ok (.iinc 3 1, 3) := dk_132 3 1 (dk_at dksX4_layTrips_5 7 rfl rfl)
theorem dX4_layTrips_129 : decode cX4_layTrips 129 = .ok (.goto (-110), 3) := dk_167 255 146 (dk_at dksX4_layTrips_5 10 rfl rfl)
theorem dX4_layTrips_132 : decode cX4_layTrips 132 = .ok (.aload_n 0, 1) := dk_42 (dk_at dksX4_layTrips_5 13 rfl rfl)
theorem dX4_layTrips_133 : decode cX4_layTrips 133 = .ok (.getfield 63, 3) := dk_180 0 63 (dk_at dksX4_layTrips_5 14 rfl rfl)
theorem dX4_layTrips_136 : decode cX4_layTrips 136 = .ok (.aload_n 0, 1) := dk_42 (dk_at dksX4_layTrips_5 17 rfl rfl)
theorem dX4_layTrips_137 : decode cX4_layTrips 137 = .ok (.getfield 331, 3) := dk_180 1 75 (dk_at dksX4_layTrips_5 18 rfl rfl)
theorem dX4_layTrips_140 : decode cX4_layTrips 140 = .ok (.aload_n 0, 1) := dk_42 (dk_at dksX4_layTrips_5 21 rfl rfl)
theorem dX4_layTrips_141 : decode cX4_layTrips 141 = .ok (.getfield 328, 3) := dk_180 1 72 (dk_at dksX4_layTrips_6 0 rfl rfl)
theorem dX4_layTrips_144 : decode cX4_layTrips 144 = .ok (.iastore, 1) := dk_79 (dk_at dksX4_layTrips_6 3 rfl rfl)
theorem dX4_layTrips_145 : decode cX4_layTrips 145 = .ok (.return_, 1) := dk_177 (dk_at dksX4_layTrips_6 4 rfl rfl)
theorem c_364_0 : LkP (OkP 364) [(0, o_aload 0 1), (1, o_iload 1 1), (2, o_cv [(30, 365)] 1 3 true none), (5, o_aload 0 1), (6, o_push 1 (.int 0)), (7, o_put 185 1), (10, o_aload 0 1), (11, o_push 1 (.int 0)), (12, o_put 186 1), (15, o_push 1 (.int (-1))), (16, o_istore 2 1), (17, o_push 1 (.int 0)), (18, o_istore 3 1), (19, o_iload 3 1), (20, o_aload 0 1), (21, o_get 184), (24, o_icmp (fun x y => decide (y ≤ x)) 132), (27, o_aload 0 1), (28, o_get 177), (31, o_iload 3 1), (32, o_rdI 0), (33, o_istore 4 2), (35, o_iload 2 1), (36, o_push 1 (.int (-1))), (37, o_icmp (fun x y => decide (x = y)) 82), (40, o_aload 0 1), (41, o_iload 2 1), (42, o_push 1 (.int 1)), (43, o_cv [(30, 331)] 2 3 false none), (46, o_aload 0 1), (47, o_iload 4 2), (49, o_push 1 (.int 1)), (50, o_cv [(30, 331)] 2 3 false none), (53, o_icmp (fun x y => decide (¬ x = y)) 82), (56, o_aload 0 1), (57, o_iload 4 2), (59, o_push 1 (.int 2)), (60, o_cv [(30, 331)] 2 3 false none), (63, o_aload 0 1)] := lkp_c (P := OkP 364) ⟨(PuOK.ok (ok_aload_n dX4_layTrips_0 rfl)), m_aload⟩ (
  lkp_c (P := OkP 364) ⟨(PuOK.ok (ok_iload_n dX4_layTrips_1 rfl)), m_iload⟩ (
  lkp_c (P := OkP 364) ⟨ok_cv (List.forall_mem_cons.mpr ⟨tg_V (ci := 30) (r := CLr 30) (y := 365) rfl ⟨rfl, by decide⟩ rfl q3523 q3525 qs88 q139 q3526 ⟨cn_34.1, cn_34.2, pd_9⟩ dX4_layTrips_2, (List.forall_mem_nil _)⟩) hd_no, m_cv⟩ (
  lkp_c (P := OkP 364) ⟨(PuOK.ok (ok_aload_n dX4_layTrips_5 rfl)), m_aload⟩ (
  lkp_c (P := OkP 364) ⟨(PuOK.ok (ok_iconst dX4_layTrips_6 rfl)), m_push⟩ (
  lkp_c (P := OkP 364) ⟨ok_put ⟨"TollRoadModel", q3117, Or.inl rfl⟩ rfl fd_185 rfl dX4_layTrips_7, m_put⟩ (
  lkp_c (P := OkP 364) ⟨(PuOK.ok (ok_aload_n dX4_layTrips_10 rfl)), m_aload⟩ (
  lkp_c (P := OkP 364) ⟨(PuOK.ok (ok_iconst dX4_layTrips_11 rfl)), m_push⟩ (
  lkp_c (P := OkP 364) ⟨ok_put ⟨"TollRoadModel", q3118, Or.inl rfl⟩ rfl fd_186 rfl dX4_layTrips_12, m_put⟩ (
  lkp_c (P := OkP 364) ⟨(PuOK.ok (ok_iconst dX4_layTrips_15 rfl)), m_push⟩ (
  lkp_c (P := OkP 364) ⟨(PuOK.ok (ok_istore_n dX4_layTrips_16 rfl)), m_istore⟩ (
  lkp_c (P := OkP 364) ⟨(PuOK.ok (ok_iconst dX4_layTrips_17 rfl)), m_push⟩ (
  lkp_c (P := OkP 364) ⟨(PuOK.ok (ok_istore_n dX4_layTrips_18 rfl)), m_istore⟩ (
  lkp_c (P := OkP 364) ⟨(PuOK.ok (ok_iload_n dX4_layTrips_19 rfl)), m_iload⟩ (
  lkp_c (P := OkP 364) ⟨(PuOK.ok (ok_aload_n dX4_layTrips_20 rfl)), m_aload⟩ (
  lkp_c (P := OkP 364) ⟨ok_get ⟨"TollRoadModel", q3116, Or.inl rfl⟩ dX4_layTrips_21, m_get⟩ (
  lkp_c (P := OkP 364) ⟨(PuOK.ok (ok_icmp_ge dX4_layTrips_24 rfl)), m_icmp⟩ (
  lkp_c (P := OkP 364) ⟨(PuOK.ok (ok_aload_n dX4_layTrips_27 rfl)), m_aload⟩ (
  lkp_c (P := OkP 364) ⟨ok_get ⟨"TollRoadModel", q3109, Or.inl rfl⟩ dX4_layTrips_28, m_get⟩ (
  lkp_c (P := OkP 364) ⟨(PuOK.ok (ok_iload_n dX4_layTrips_31 rfl)), m_iload⟩ (
  lkp_c (P := OkP 364) ⟨ok_iald dX4_layTrips_32, m_rdI⟩ (
  lkp_c (P := OkP 364) ⟨(PuOK.ok (ok_istore dX4_layTrips_33)), m_istore⟩ (
  lkp_c (P := OkP 364) ⟨(PuOK.ok (ok_iload_n dX4_layTrips_35 rfl)), m_iload⟩ (
  lkp_c (P := OkP 364) ⟨(PuOK.ok (ok_iconst dX4_layTrips_36 rfl)), m_push⟩ (
  lkp_c (P := OkP 364) ⟨(PuOK.ok (ok_icmp_eq dX4_layTrips_37 rfl)), m_icmp⟩ (
  lkp_c (P := OkP 364) ⟨(PuOK.ok (ok_aload_n dX4_layTrips_40 rfl)), m_aload⟩ (
  lkp_c (P := OkP 364) ⟨(PuOK.ok (ok_iload_n dX4_layTrips_41 rfl)), m_iload⟩ (
  lkp_c (P := OkP 364) ⟨(PuOK.ok (ok_iconst dX4_layTrips_42 rfl)), m_push⟩ (
  lkp_c (P := OkP 364) ⟨ok_cv (List.forall_mem_cons.mpr ⟨tg_V (ci := 30) (r := CLr 30) (y := 331) rfl ⟨rfl, by decide⟩ rfl q3383 q3385 qs68 q139 q3386 ⟨cn_34.1, cn_34.2, pd_1⟩ dX4_layTrips_43, (List.forall_mem_nil _)⟩) hd_no, m_cv⟩ (
  lkp_c (P := OkP 364) ⟨(PuOK.ok (ok_aload_n dX4_layTrips_46 rfl)), m_aload⟩ (
  lkp_c (P := OkP 364) ⟨(PuOK.ok (ok_iload dX4_layTrips_47)), m_iload⟩ (
  lkp_c (P := OkP 364) ⟨(PuOK.ok (ok_iconst dX4_layTrips_49 rfl)), m_push⟩ (
  lkp_c (P := OkP 364) ⟨ok_cv (List.forall_mem_cons.mpr ⟨tg_V (ci := 30) (r := CLr 30) (y := 331) rfl ⟨rfl, by decide⟩ rfl q3383 q3385 qs68 q139 q3386 ⟨cn_34.1, cn_34.2, pd_1⟩ dX4_layTrips_50, (List.forall_mem_nil _)⟩) hd_no, m_cv⟩ (
  lkp_c (P := OkP 364) ⟨(PuOK.ok (ok_icmp_ne dX4_layTrips_53 rfl)), m_icmp⟩ (
  lkp_c (P := OkP 364) ⟨(PuOK.ok (ok_aload_n dX4_layTrips_56 rfl)), m_aload⟩ (
  lkp_c (P := OkP 364) ⟨(PuOK.ok (ok_iload dX4_layTrips_57)), m_iload⟩ (
  lkp_c (P := OkP 364) ⟨(PuOK.ok (ok_iconst dX4_layTrips_59 rfl)), m_push⟩ (
  lkp_c (P := OkP 364) ⟨ok_cv (List.forall_mem_cons.mpr ⟨tg_V (ci := 30) (r := CLr 30) (y := 331) rfl ⟨rfl, by decide⟩ rfl q3383 q3385 qs68 q139 q3386 ⟨cn_34.1, cn_34.2, pd_1⟩ dX4_layTrips_60, (List.forall_mem_nil _)⟩) hd_no, m_cv⟩ (
  lkp_c (P := OkP 364) ⟨(PuOK.ok (ok_aload_n dX4_layTrips_63 rfl)), m_aload⟩ (
  trivial)))))))))))))))))))))))))))))))))))))))
theorem c_364_1 : LkP (OkP 364) [(64, o_iload 2 1), (65, o_push 1 (.int 2)), (66, o_cv [(30, 331)] 2 3 false none), (69, o_iop (fun x y => x - y)), (70, o_aload 0 1), (71, o_push 1 (.int 1)), (72, o_cv [(30, 328)] 1 3 false none), (75, o_icmp (fun x y => decide (y < x)) 82), (78, o_push 1 (.int 1)), (79, o_goto 83), (82, o_push 1 (.int 0)), (83, o_istore 5 2), (85, o_iload 5 2), (87, o_if (fun x => decide (¬ x = 0)) 114), (90, o_iload 2 1), (91, o_push 1 (.int (-1))), (92, o_icmp (fun x y => decide (x = y)) 105), (95, o_aload 0 1), (96, o_iload 2 1), (97, o_iload 4 2), (99, o_cv [(30, 366)] 2 3 false none), (102, o_if (fun x => decide (¬ x = 0)) 111), (105, o_aload 0 1), (106, o_iload 4 2), (108, o_cv [(30, 368)] 1 3 true none), (111, o_iload 4 2), (113, o_istore 2 1), (114, o_aload 0 1), (115, o_get 178), (118, o_iload 3 1), (119, o_aload 0 1), (120, o_get 185), (123, o_push 1 (.int 1)), (124, o_iop (fun x y => x - y)), (125, o_wrI 0), (126, o_iinc 3 1)] := lkp_c (P := OkP 364) ⟨(PuOK.ok (ok_iload_n dX4_layTrips_64 rfl)), m_iload⟩ (
  lkp_c (P := OkP 364) ⟨(PuOK.ok (ok_iconst dX4_layTrips_65 rfl)), m_push⟩ (
  lkp_c (P := OkP 364) ⟨ok_cv (List.forall_mem_cons.mpr ⟨tg_V (ci := 30) (r := CLr 30) (y := 331) rfl ⟨rfl, by decide⟩ rfl q3383 q3385 qs68 q139 q3386 ⟨cn_34.1, cn_34.2, pd_1⟩ dX4_layTrips_66, (List.forall_mem_nil _)⟩) hd_no, m_cv⟩ (
  lkp_c (P := OkP 364) ⟨(PuOK.ok (ok_isub dX4_layTrips_69)), m_iop⟩ (
  lkp_c (P := OkP 364) ⟨(PuOK.ok (ok_aload_n dX4_layTrips_70 rfl)), m_aload⟩ (
  lkp_c (P := OkP 364) ⟨(PuOK.ok (ok_iconst dX4_layTrips_71 rfl)), m_push⟩ (
  lkp_c (P := OkP 364) ⟨ok_cv (List.forall_mem_cons.mpr ⟨tg_V (ci := 30) (r := CLr 30) (y := 328) rfl ⟨rfl, by decide⟩ rfl q3371 q3373 qs66 q139 q3374 ⟨cn_34.1, cn_34.2, pd_48⟩ dX4_layTrips_72, (List.forall_mem_nil _)⟩) hd_no, m_cv⟩ (
  lkp_c (P := OkP 364) ⟨(PuOK.ok (ok_icmp_gt dX4_layTrips_75 rfl)), m_icmp⟩ (
  lkp_c (P := OkP 364) ⟨(PuOK.ok (ok_iconst dX4_layTrips_78 rfl)), m_push⟩ (
  lkp_c (P := OkP 364) ⟨(PuOK.ok (ok_goto dX4_layTrips_79 rfl)), m_goto⟩ (
  lkp_c (P := OkP 364) ⟨(PuOK.ok (ok_iconst dX4_layTrips_82 rfl)), m_push⟩ (
  lkp_c (P := OkP 364) ⟨(PuOK.ok (ok_istore dX4_layTrips_83)), m_istore⟩ (
  lkp_c (P := OkP 364) ⟨(PuOK.ok (ok_iload dX4_layTrips_85)), m_iload⟩ (
  lkp_c (P := OkP 364) ⟨(PuOK.ok (ok_if_ne dX4_layTrips_87 rfl)), m_if⟩ (
  lkp_c (P := OkP 364) ⟨(PuOK.ok (ok_iload_n dX4_layTrips_90 rfl)), m_iload⟩ (
  lkp_c (P := OkP 364) ⟨(PuOK.ok (ok_iconst dX4_layTrips_91 rfl)), m_push⟩ (
  lkp_c (P := OkP 364) ⟨(PuOK.ok (ok_icmp_eq dX4_layTrips_92 rfl)), m_icmp⟩ (
  lkp_c (P := OkP 364) ⟨(PuOK.ok (ok_aload_n dX4_layTrips_95 rfl)), m_aload⟩ (
  lkp_c (P := OkP 364) ⟨(PuOK.ok (ok_iload_n dX4_layTrips_96 rfl)), m_iload⟩ (
  lkp_c (P := OkP 364) ⟨(PuOK.ok (ok_iload dX4_layTrips_97)), m_iload⟩ (
  lkp_c (P := OkP 364) ⟨ok_cv (List.forall_mem_cons.mpr ⟨tg_V (ci := 30) (r := CLr 30) (y := 366) rfl ⟨rfl, by decide⟩ rfl q3527 q3529 qs89 q139 q3530 ⟨cn_34.1, cn_34.2, pd_126⟩ dX4_layTrips_99, (List.forall_mem_nil _)⟩) hd_no, m_cv⟩ (
  lkp_c (P := OkP 364) ⟨(PuOK.ok (ok_if_ne dX4_layTrips_102 rfl)), m_if⟩ (
  lkp_c (P := OkP 364) ⟨(PuOK.ok (ok_aload_n dX4_layTrips_105 rfl)), m_aload⟩ (
  lkp_c (P := OkP 364) ⟨(PuOK.ok (ok_iload dX4_layTrips_106)), m_iload⟩ (
  lkp_c (P := OkP 364) ⟨ok_cv (List.forall_mem_cons.mpr ⟨tg_V (ci := 30) (r := CLr 30) (y := 368) rfl ⟨rfl, by decide⟩ rfl q3535 q3537 qs91 q139 q3538 ⟨cn_34.1, cn_34.2, pd_9⟩ dX4_layTrips_108, (List.forall_mem_nil _)⟩) hd_no, m_cv⟩ (
  lkp_c (P := OkP 364) ⟨(PuOK.ok (ok_iload dX4_layTrips_111)), m_iload⟩ (
  lkp_c (P := OkP 364) ⟨(PuOK.ok (ok_istore_n dX4_layTrips_113 rfl)), m_istore⟩ (
  lkp_c (P := OkP 364) ⟨(PuOK.ok (ok_aload_n dX4_layTrips_114 rfl)), m_aload⟩ (
  lkp_c (P := OkP 364) ⟨ok_get ⟨"TollRoadModel", q3110, Or.inl rfl⟩ dX4_layTrips_115, m_get⟩ (
  lkp_c (P := OkP 364) ⟨(PuOK.ok (ok_iload_n dX4_layTrips_118 rfl)), m_iload⟩ (
  lkp_c (P := OkP 364) ⟨(PuOK.ok (ok_aload_n dX4_layTrips_119 rfl)), m_aload⟩ (
  lkp_c (P := OkP 364) ⟨ok_get ⟨"TollRoadModel", q3117, Or.inl rfl⟩ dX4_layTrips_120, m_get⟩ (
  lkp_c (P := OkP 364) ⟨(PuOK.ok (ok_iconst dX4_layTrips_123 rfl)), m_push⟩ (
  lkp_c (P := OkP 364) ⟨(PuOK.ok (ok_isub dX4_layTrips_124)), m_iop⟩ (
  lkp_c (P := OkP 364) ⟨ok_iast dX4_layTrips_125, m_wrI⟩ (
  lkp_c (P := OkP 364) ⟨(PuOK.ok (ok_iinc dX4_layTrips_126 rfl)), m_iinc⟩ (
  trivial))))))))))))))))))))))))))))))))))))
theorem c_364_2 : LkP (OkP 364) [(129, o_goto 19), (132, o_aload 0 1), (133, o_get 179), (136, o_aload 0 1), (137, o_get 185), (140, o_aload 0 1), (141, o_get 186), (144, o_wrI 0), (145, o_vret)] := lkp_c (P := OkP 364) ⟨(PuOK.ok (ok_goto dX4_layTrips_129 rfl)), m_goto⟩ (
  lkp_c (P := OkP 364) ⟨(PuOK.ok (ok_aload_n dX4_layTrips_132 rfl)), m_aload⟩ (
  lkp_c (P := OkP 364) ⟨ok_get ⟨"TollRoadModel", q3111, Or.inl rfl⟩ dX4_layTrips_133, m_get⟩ (
  lkp_c (P := OkP 364) ⟨(PuOK.ok (ok_aload_n dX4_layTrips_136 rfl)), m_aload⟩ (
  lkp_c (P := OkP 364) ⟨ok_get ⟨"TollRoadModel", q3117, Or.inl rfl⟩ dX4_layTrips_137, m_get⟩ (
  lkp_c (P := OkP 364) ⟨(PuOK.ok (ok_aload_n dX4_layTrips_140 rfl)), m_aload⟩ (
  lkp_c (P := OkP 364) ⟨ok_get ⟨"TollRoadModel", q3118, Or.inl rfl⟩ dX4_layTrips_141, m_get⟩ (
  lkp_c (P := OkP 364) ⟨ok_iast dX4_layTrips_144, m_wrI⟩ (
  lkp_c (P := OkP 364) ⟨ok_vret rfl dX4_layTrips_145, m_vret⟩ (
  trivial)))))))))
theorem mt_364 : MtOK TB NT IT 364 := ⟨by decide +kernel, rfl, (fun h => by cases h), Or.inl ⟨rfl, rfl⟩, rfl, by decide, lk2_all (P := OkP 364) ⟨c_364_0, c_364_1, c_364_2, trivial⟩⟩
def dkwX4_layOrder_4 : List UInt8 := [180, 0, 57, 29, 28, 79, 42, 89, 180, 1, 69, 4, 96, 181, 1, 69, 132, 2, 1, 167, 255, 151, 177]
abbrev dktX4_layOrder_4 : List UInt8 := dkwX4_layOrder_4 ++ []
def dkwX4_layOrder_3 : List UInt8 := [164, 0, 23, 42, 180, 0, 57, 29, 42, 180, 0, 57, 29, 4, 100, 46, 79, 132, 3, 255, 167, 255, 213, 42]
abbrev dktX4_layOrder_3 : List UInt8 := dkwX4_layOrder_3 ++ dktX4_layOrder_4
def dkwX4_layOrder_2 : List UInt8 := [158, 0, 45, 42, 42, 180, 0, 57, 29, 4, 100, 46, 5, 182, 0, 234, 42, 28, 5, 182, 0, 234]
abbrev dktX4_layOrder_2 : List UInt8 := dkwX4_layOrder_2 ++ dktX4_layOrder_3
def dkwX4_layOrder_1 : List UInt8 := [27, 160, 0, 84, 42, 28, 8, 182, 0, 234, 4, 159, 0, 6, 167, 0, 71, 42, 180, 1, 69, 62, 29]
abbrev dktX4_layOrder_1 : List UInt8 := dkwX4_layOrder_1 ++ dktX4_layOrder_2
def dkwX4_layOrder_0 : List UInt8 := [42, 3, 181, 1, 69, 3, 61, 28, 42, 180, 0, 7, 16, 12, 46, 162, 0, 100, 42, 28, 3, 182, 0, 234]
abbrev dktX4_layOrder_0 : List UInt8 := dkwX4_layOrder_0 ++ dktX4_layOrder_1
theorem dksX4_layOrder_0 : cX4_layOrder.data.toList.drop 0 = dktX4_layOrder_0 := by decide +kernel
theorem dksX4_layOrder_1 : cX4_layOrder.data.toList.drop 24 = dktX4_layOrder_1 := dk_seg dksX4_layOrder_0 24 rfl rfl
theorem dksX4_layOrder_2 : cX4_layOrder.data.toList.drop 47 = dktX4_layOrder_2 := dk_seg dksX4_layOrder_1 23 rfl rfl
theorem dksX4_layOrder_3 : cX4_layOrder.data.toList.drop 69 = dktX4_layOrder_3 := dk_seg dksX4_layOrder_2 22 rfl rfl
theorem dksX4_layOrder_4 : cX4_layOrder.data.toList.drop 93 = dktX4_layOrder_4 := dk_seg dksX4_layOrder_3 24 rfl rfl
theorem dX4_layOrder_0 : decode cX4_layOrder 0 = .ok (.aload_n 0, 1) := dk_42 (dk_at dksX4_layOrder_0 0 rfl rfl)
theorem dX4_layOrder_1 : decode cX4_layOrder 1 = .ok (.iconst 0, 1) := dk_3 (dk_at dksX4_layOrder_0 1 rfl rfl)
theorem dX4_layOrder_2 : decode cX4_layOrder 2 = .ok (.putfield 325, 3) := dk_181 1 69 (dk_at dksX4_layOrder_0 2 rfl rfl)
theorem dX4_layOrder_5 : decode cX4_layOrder 5 = .ok (.iconst 0, 1) := dk_3 (dk_at dksX4_layOrder_0 5 rfl rfl)
theorem dX4_layOrder_6 : decode cX4_layOrder 6 = .ok (.istore_n 2, 1) := dk_61 (dk_at dksX4_layOrder_0 6 rfl rfl)
theorem dX4_layOrder_7 : decode cX4_layOrder 7 = .ok (.iload_n 2, 1) := dk_28 (dk_at dksX4_layOrder_0 7 rfl rfl)
theorem dX4_layOrder_8 : decode cX4_layOrder 8 = .ok (.aload_n 0, 1) := dk_42 (dk_at dksX4_layOrder_0 8 rfl rfl)
theorem dX4_layOrder_9 : decode cX4_layOrder 9 = .ok (.getfield 7, 3) := dk_180 0 7 (dk_at dksX4_layOrder_0 9 rfl rfl)
theorem dX4_layOrder_12 : decode cX4_layOrder 12 = .ok (.bipush 12, 2) := dk_16 12 (dk_at dksX4_layOrder_0 12 rfl rfl)
theorem dX4_layOrder_14 : decode cX4_layOrder 14 = .ok (.iaload, 1) := dk_46 (dk_at dksX4_layOrder_0 14 rfl rfl)
theorem dX4_layOrder_15 : decode cX4_layOrder 15 = .ok (.if_icmp .ge 100, 3) := dk_162 0 100 (dk_at dksX4_layOrder_0 15 rfl rfl)
theorem dX4_layOrder_18 : decode cX4_layOrder 18 = .ok (.aload_n 0, 1) := dk_42 (dk_at dksX4_layOrder_0 18 rfl rfl)
theorem dX4_layOrder_19 : decode cX4_layOrder 19 = .ok (.iload_n 2, 1) := dk_28 (dk_at dksX4_layOrder_0 19 rfl rfl)
theorem dX4_layOrder_20 : decode cX4_layOrder 20 = .ok (.iconst 0, 1) := dk_3 (dk_at dksX4_layOrder_0 20 rfl rfl)
theorem dX4_layOrder_21 : decode cX4_layOrder 21 = .ok (.invokevirtual 234, 3) := dk_182 0 234 (dk_at dksX4_layOrder_0 21 rfl rfl)
theorem dX4_layOrder_24 : decode cX4_layOrder 24 = .ok (.iload_n 1, 1) := dk_27 (dk_at dksX4_layOrder_1 0 rfl rfl)
theorem dX4_layOrder_25 : decode cX4_layOrder 25 = .ok (.if_icmp .ne 84, 3) := dk_160 0 84 (dk_at dksX4_layOrder_1 1 rfl rfl)
theorem dX4_layOrder_28 : decode cX4_layOrder 28 = .ok (.aload_n 0, 1) := dk_42 (dk_at dksX4_layOrder_1 4 rfl rfl)
theorem dX4_layOrder_29 : decode cX4_layOrder 29 = .ok (.iload_n 2, 1) := dk_28 (dk_at dksX4_layOrder_1 5 rfl rfl)
theorem dX4_layOrder_30 : decode cX4_layOrder 30 = .ok (.iconst 5, 1) := dk_8 (dk_at dksX4_layOrder_1 6 rfl rfl)
theorem dX4_layOrder_31 : decode cX4_layOrder 31 = .ok (.invokevirtual 234, 3) := dk_182 0 234 (dk_at dksX4_layOrder_1 7 rfl rfl)
theorem dX4_layOrder_34 : decode cX4_layOrder 34 = .ok (.iconst 1, 1) := dk_4 (dk_at dksX4_layOrder_1 10 rfl rfl)
theorem dX4_layOrder_35 : decode cX4_layOrder 35 = .ok (.if_icmp .eq 6, 3) := dk_159 0 6 (dk_at dksX4_layOrder_1 11 rfl rfl)
theorem dX4_layOrder_38 : decode cX4_layOrder 38 = .ok (.goto 71, 3) := dk_167 0 71 (dk_at dksX4_layOrder_1 14 rfl rfl)
theorem dX4_layOrder_41 : decode cX4_layOrder 41 = .ok (.aload_n 0, 1) := dk_42 (dk_at dksX4_layOrder_1 17 rfl rfl)
theorem dX4_layOrder_42 : decode cX4_layOrder 42 = .ok (.getfield 325, 3) := dk_180 1 69 (dk_at dksX4_layOrder_1 18 rfl rfl)
theorem dX4_layOrder_45 : decode cX4_layOrder 45 = .ok (.istore_n 3, 1) := dk_62 (dk_at dksX4_layOrder_1 21 rfl rfl)
theorem dX4_layOrder_46 : decode cX4_layOrder 46 = .ok (.iload_n 3, 1) := dk_29 (dk_at dksX4_layOrder_1 22 rfl rfl)
theorem dX4_layOrder_47 : decode cX4_layOrder 47 = .ok (.ifCond .le 45, 3) := dk_158 0 45 (dk_at dksX4_layOrder_2 0 rfl rfl)
theorem dX4_layOrder_50 : decode cX4_layOrder 50 = .ok (.aload_n 0, 1) := dk_42 (dk_at dksX4_layOrder_2 3 rfl rfl)
theorem dX4_layOrder_51 : decode cX4_layOrder 51 = .ok (.aload_n 0, 1) := dk_42 (dk_at dksX4_layOrder_2 4 rfl rfl)
theorem dX4_layOrder_52 : decode cX4_layOrder 52 = .ok (.getfield 57, 3) := dk_180 0 57 (dk_at dksX4_layOrder_2 5 rfl rfl)
theorem dX4_layOrder_55 : decode cX4_layOrder 55 = .ok (.iload_n 3, 1) := dk_29 (dk_at dksX4_layOrder_2 8 rfl rfl)
theorem dX4_layOrder_56 : decode cX4_layOrder 56 = .ok (.iconst 1, 1) := dk_4 (dk_at dksX4_layOrder_2 9 rfl rfl)
theorem dX4_layOrder_57 : decode cX4_layOrder 57 = .ok (.isub, 1) := dk_100 (dk_at dksX4_layOrder_2 10 rfl rfl)
theorem dX4_layOrder_58 : decode cX4_layOrder 58 = .ok (.iaload, 1) := dk_46 (dk_at dksX4_layOrder_2 11 rfl rfl)
theorem dX4_layOrder_59 : decode cX4_layOrder 59 = .ok (.iconst 2, 1) := dk_5 (dk_at dksX4_layOrder_2 12 rfl rfl)
theorem dX4_layOrder_60 : decode cX4_layOrder 60 = .ok (.invokevirtual 234, 3) := dk_182 0 234 (dk_at dksX4_layOrder_2 13 rfl rfl)
theorem dX4_layOrder_63 : decode cX4_layOrder 63 = .ok (.aload_n 0, 1) := dk_42 (dk_at dksX4_layOrder_2 16 rfl rfl)
theorem dX4_layOrder_64 : decode cX4_layOrder 64 = .ok (.iload_n 2, 1) := dk_28 (dk_at dksX4_layOrder_2 17 rfl rfl)
theorem dX4_layOrder_65 : decode cX4_layOrder 65 = .ok (.iconst 2, 1) := dk_5 (dk_at dksX4_layOrder_2 18 rfl rfl)
theorem dX4_layOrder_66 : decode cX4_layOrder 66 = .ok (.invokevirtual 234, 3) := dk_182 0 234 (dk_at dksX4_layOrder_2 19 rfl rfl)
theorem dX4_layOrder_69 : decode cX4_layOrder 69 = .ok (.if_icmp .le 23, 3) := dk_164 0 23 (dk_at dksX4_layOrder_3 0 rfl rfl)
theorem dX4_layOrder_72 : decode cX4_layOrder 72 = .ok (.aload_n 0, 1) := dk_42 (dk_at dksX4_layOrder_3 3 rfl rfl)
theorem dX4_layOrder_73 : decode cX4_layOrder 73 = .ok (.getfield 57, 3) := dk_180 0 57 (dk_at dksX4_layOrder_3 4 rfl rfl)
theorem dX4_layOrder_76 : decode cX4_layOrder 76 = .ok (.iload_n 3, 1) := dk_29 (dk_at dksX4_layOrder_3 7 rfl rfl)
theorem dX4_layOrder_77 : decode cX4_layOrder 77 = .ok (.aload_n 0, 1) := dk_42 (dk_at dksX4_layOrder_3 8 rfl rfl)
theorem dX4_layOrder_78 : decode cX4_layOrder 78 = .ok (.getfield 57, 3) := dk_180 0 57 (dk_at dksX4_layOrder_3 9 rfl rfl)
theorem dX4_layOrder_81 : decode cX4_layOrder 81 = .ok (.iload_n 3, 1) := dk_29 (dk_at dksX4_layOrder_3 12 rfl rfl)
theorem dX4_layOrder_82 : decode cX4_layOrder 82 = .ok (.iconst 1, 1) := dk_4 (dk_at dksX4_layOrder_3 13 rfl rfl)
theorem dX4_layOrder_83 : decode cX4_layOrder 83 = .ok (.isub, 1) := dk_100 (dk_at dksX4_layOrder_3 14 rfl rfl)
theorem dX4_layOrder_84 : decode cX4_layOrder 84 = .ok (.iaload, 1) := dk_46 (dk_at dksX4_layOrder_3 15 rfl rfl)
theorem dX4_layOrder_85 : decode cX4_layOrder 85 = .ok (.iastore, 1) := dk_79 (dk_at dksX4_layOrder_3 16 rfl rfl)
theorem dX4_layOrder_86 : decode cX4_layOrder 86 = .ok (.iinc 3 (-1), 3) := dk_132 3 255 (dk_at dksX4_layOrder_3 17 rfl rfl)
theorem dX4_layOrder_89 : decode cX4_layOrder 89 = .ok (.goto (-43), 3) := dk_167 255 213 (dk_at dksX4_layOrder_3 20 rfl rfl)
theorem dX4_layOrder_92 : decode cX4_layOrder 92 = .ok (.aload_n 0, 1) := dk_42 (dk_at dksX4_layOrder_3 23 rfl rfl)
theorem dX4_layOrder_93 : decode cX4_layOrder 93 = .ok (.getfield 57, 3) := dk_180 0 57 (dk_at dksX4_layOrder_4 0 rfl rfl)
theorem dX4_layOrder_96 : decode cX4_layOrder 96 = .ok (.iload_n 3, 1) := dk_29 (dk_at dksX4_layOrder_4 3 rfl rfl)
theorem dX4_layOrder_97 : decode cX4_layOrder 97 = .ok (.iload_n 2, 1) := dk_28 (dk_at dksX4_layOrder_4 4 rfl rfl)
theorem dX4_layOrder_98 : decode cX4_layOrder 98 = .ok (.iastore, 1) := dk_79 (dk_at dksX4_layOrder_4 5 rfl rfl)
theorem dX4_layOrder_99 : decode cX4_layOrder 99 = .ok (.aload_n 0, 1) := dk_42 (dk_at dksX4_layOrder_4 6 rfl rfl)
theorem dX4_layOrder_100 : decode cX4_layOrder 100 = .ok (.dup, 1) := dk_89 (dk_at dksX4_layOrder_4 7 rfl rfl)
theorem dX4_layOrder_101 : decode cX4_layOrder 101 = .ok (.getfield 325, 3) := dk_180 1 69 (dk_at dksX4_layOrder_4 8 rfl rfl)
theorem dX4_layOrder_104 : decode cX4_layOrder 104 = .ok (.iconst 1, 1) := dk_4 (dk_at dksX4_layOrder_4 11 rfl rfl)
theorem dX4_layOrder_105 : decode cX4_layOrder 105 = .ok (.iadd, 1) := dk_96 (dk_at dksX4_layOrder_4 12 rfl rfl)
theorem dX4_layOrder_106 : decode cX4_layOrder 106 = .ok (.putfield 325, 3) := dk_181 1 69 (dk_at dksX4_layOrder_4 13 rfl rfl)
theorem dX4_layOrder_109 : decode cX4_layOrder 109 = .ok (.iinc 2 1, 3) := dk_132 2 1 (dk_at dksX4_layOrder_4 16 rfl rfl)
theorem dX4_layOrder_112 : decode cX4_layOrder 112 = .ok (.goto (-105), 3) := dk_167 255 151 (dk_at dksX4_layOrder_4 19 rfl rfl)
theorem dX4_layOrder_115 : decode cX4_layOrder 115 = .ok (.return_, 1) := dk_177 (dk_at dksX4_layOrder_4 22 rfl rfl)
theorem c_365_0 : LkP (OkP 365) [(0, o_aload 0 1), (1, o_push 1 (.int 0)), (2, o_put 184 1), (5, o_push 1 (.int 0)), (6, o_istore 2 1), (7, o_iload 2 1), (8, o_aload 0 1), (9, o_get 148), (12, o_push 2 (.int 12)), (14, o_rdI 0), (15, o_icmp (fun x y => decide (y ≤ x)) 115), (18, o_aload 0 1), (19, o_iload 2 1), (20, o_push 1 (.int 0)), (21, o_cv [(30, 331)] 2 3 false none), (24, o_iload 1 1), (25, o_icmp (fun x y => decide (¬ x = y)) 109), (28, o_aload 0 1), (29, o_iload 2 1), (30, o_push 1 (.int 5)), (31, o_cv [(30, 331)] 2 3 false none), (34, o_push 1 (.int 1)), (35, o_icmp (fun x y => decide (x = y)) 41), (38, o_goto 109), (41, o_aload 0 1), (42, o_get 184), (45, o_istore 3 1), (46, o_iload 3 1), (47, o_if (fun x => decide (x ≤ 0)) 92), (50, o_aload 0 1), (51, o_aload 0 1), (52, o_get 177), (55, o_iload 3 1), (56, o_push 1 (.int 1)), (57, o_iop (fun x y => x - y)), (58, o_rdI 0), (59, o_push 1 (.int 2)), (60, o_cv [(30, 331)] 2 3 false none), (63, o_aload 0 1)] := lkp_c (P := OkP 365) ⟨(PuOK.ok (ok_aload_n dX4_layOrder_0 rfl)), m_aload⟩ (
  lkp_c (P := OkP 365) ⟨(PuOK.ok (ok_iconst dX4_layOrder_1 rfl)), m_push⟩ (
  lkp_c (P := OkP 365) ⟨ok_put ⟨"TollRoadModel", q3116, Or.inl rfl⟩ rfl fd_184 rfl dX4_layOrder_2, m_put⟩ (
  lkp_c (P := OkP 365) ⟨(PuOK.ok (ok_iconst dX4_layOrder_5 rfl)), m_push⟩ (
  lkp_c (P := OkP 365) ⟨(PuOK.ok (ok_istore_n dX4_layOrder_6 rfl)), m_istore⟩ (
  lkp_c (P := OkP 365) ⟨(PuOK.ok (ok_iload_n dX4_layOrder_7 rfl)), m_iload⟩ (
  lkp_c (P := OkP 365) ⟨(PuOK.ok (ok_aload_n dX4_layOrder_8 rfl)), m_aload⟩ (
  lkp_c (P := OkP 365) ⟨ok_get ⟨"TollRoadModel", q3080, Or.inl rfl⟩ dX4_layOrder_9, m_get⟩ (
  lkp_c (P := OkP 365) ⟨(PuOK.ok (ok_bipush dX4_layOrder_12 rfl)), m_push⟩ (
  lkp_c (P := OkP 365) ⟨ok_iald dX4_layOrder_14, m_rdI⟩ (
  lkp_c (P := OkP 365) ⟨(PuOK.ok (ok_icmp_ge dX4_layOrder_15 rfl)), m_icmp⟩ (
  lkp_c (P := OkP 365) ⟨(PuOK.ok (ok_aload_n dX4_layOrder_18 rfl)), m_aload⟩ (
  lkp_c (P := OkP 365) ⟨(PuOK.ok (ok_iload_n dX4_layOrder_19 rfl)), m_iload⟩ (
  lkp_c (P := OkP 365) ⟨(PuOK.ok (ok_iconst dX4_layOrder_20 rfl)), m_push⟩ (
  lkp_c (P := OkP 365) ⟨ok_cv (List.forall_mem_cons.mpr ⟨tg_V (ci := 30) (r := CLr 30) (y := 331) rfl ⟨rfl, by decide⟩ rfl q3383 q3385 qs68 q139 q3386 ⟨cn_34.1, cn_34.2, pd_1⟩ dX4_layOrder_21, (List.forall_mem_nil _)⟩) hd_no, m_cv⟩ (
  lkp_c (P := OkP 365) ⟨(PuOK.ok (ok_iload_n dX4_layOrder_24 rfl)), m_iload⟩ (
  lkp_c (P := OkP 365) ⟨(PuOK.ok (ok_icmp_ne dX4_layOrder_25 rfl)), m_icmp⟩ (
  lkp_c (P := OkP 365) ⟨(PuOK.ok (ok_aload_n dX4_layOrder_28 rfl)), m_aload⟩ (
  lkp_c (P := OkP 365) ⟨(PuOK.ok (ok_iload_n dX4_layOrder_29 rfl)), m_iload⟩ (
  lkp_c (P := OkP 365) ⟨(PuOK.ok (ok_iconst dX4_layOrder_30 rfl)), m_push⟩ (
  lkp_c (P := OkP 365) ⟨ok_cv (List.forall_mem_cons.mpr ⟨tg_V (ci := 30) (r := CLr 30) (y := 331) rfl ⟨rfl, by decide⟩ rfl q3383 q3385 qs68 q139 q3386 ⟨cn_34.1, cn_34.2, pd_1⟩ dX4_layOrder_31, (List.forall_mem_nil _)⟩) hd_no, m_cv⟩ (
  lkp_c (P := OkP 365) ⟨(PuOK.ok (ok_iconst dX4_layOrder_34 rfl)), m_push⟩ (
  lkp_c (P := OkP 365) ⟨(PuOK.ok (ok_icmp_eq dX4_layOrder_35 rfl)), m_icmp⟩ (
  lkp_c (P := OkP 365) ⟨(PuOK.ok (ok_goto dX4_layOrder_38 rfl)), m_goto⟩ (
  lkp_c (P := OkP 365) ⟨(PuOK.ok (ok_aload_n dX4_layOrder_41 rfl)), m_aload⟩ (
  lkp_c (P := OkP 365) ⟨ok_get ⟨"TollRoadModel", q3116, Or.inl rfl⟩ dX4_layOrder_42, m_get⟩ (
  lkp_c (P := OkP 365) ⟨(PuOK.ok (ok_istore_n dX4_layOrder_45 rfl)), m_istore⟩ (
  lkp_c (P := OkP 365) ⟨(PuOK.ok (ok_iload_n dX4_layOrder_46 rfl)), m_iload⟩ (
  lkp_c (P := OkP 365) ⟨(PuOK.ok (ok_if_le dX4_layOrder_47 rfl)), m_if⟩ (
  lkp_c (P := OkP 365) ⟨(PuOK.ok (ok_aload_n dX4_layOrder_50 rfl)), m_aload⟩ (
  lkp_c (P := OkP 365) ⟨(PuOK.ok (ok_aload_n dX4_layOrder_51 rfl)), m_aload⟩ (
  lkp_c (P := OkP 365) ⟨ok_get ⟨"TollRoadModel", q3109, Or.inl rfl⟩ dX4_layOrder_52, m_get⟩ (
  lkp_c (P := OkP 365) ⟨(PuOK.ok (ok_iload_n dX4_layOrder_55 rfl)), m_iload⟩ (
  lkp_c (P := OkP 365) ⟨(PuOK.ok (ok_iconst dX4_layOrder_56 rfl)), m_push⟩ (
  lkp_c (P := OkP 365) ⟨(PuOK.ok (ok_isub dX4_layOrder_57)), m_iop⟩ (
  lkp_c (P := OkP 365) ⟨ok_iald dX4_layOrder_58, m_rdI⟩ (
  lkp_c (P := OkP 365) ⟨(PuOK.ok (ok_iconst dX4_layOrder_59 rfl)), m_push⟩ (
  lkp_c (P := OkP 365) ⟨ok_cv (List.forall_mem_cons.mpr ⟨tg_V (ci := 30) (r := CLr 30) (y := 331) rfl ⟨rfl, by decide⟩ rfl q3383 q3385 qs68 q139 q3386 ⟨cn_34.1, cn_34.2, pd_1⟩ dX4_layOrder_60, (List.forall_mem_nil _)⟩) hd_no, m_cv⟩ (
  lkp_c (P := OkP 365) ⟨(PuOK.ok (ok_aload_n dX4_layOrder_63 rfl)), m_aload⟩ (
  trivial)))))))))))))))))))))))))))))))))))))))
theorem c_365_1 : LkP (OkP 365) [(64, o_iload 2 1), (65, o_push 1 (.int 2)), (66, o_cv [(30, 331)] 2 3 false none), (69, o_icmp (fun x y => decide (x ≤ y)) 92), (72, o_aload 0 1), (73, o_get 177), (76, o_iload 3 1), (77, o_aload 0 1), (78, o_get 177), (81, o_iload 3 1), (82, o_push 1 (.int 1)), (83, o_iop (fun x y => x - y)), (84, o_rdI 0), (85, o_wrI 0), (86, o_iinc 3 (-1)), (89, o_goto 46), (92, o_aload 0 1), (93, o_get 177), (96, o_iload 3 1), (97, o_iload 2 1), (98, o_wrI 0), (99, o_aload 0 1), (100, o_dup), (101, o_get 184), (104, o_push 1 (.int 1)), (105, o_iop (fun x y => x + y)), (106, o_put 184 1), (109, o_iinc 2 1), (112, o_goto 7), (115, o_vret)] := lkp_c (P := OkP 365) ⟨(PuOK.ok (ok_iload_n dX4_layOrder_64 rfl)), m_iload⟩ (
  lkp_c (P := OkP 365) ⟨(PuOK.ok (ok_iconst dX4_layOrder_65 rfl)), m_push⟩ (
  lkp_c (P := OkP 365) ⟨ok_cv (List.forall_mem_cons.mpr ⟨tg_V (ci := 30) (r := CLr 30) (y := 331) rfl ⟨rfl, by decide⟩ rfl q3383 q3385 qs68 q139 q3386 ⟨cn_34.1, cn_34.2, pd_1⟩ dX4_layOrder_66, (List.forall_mem_nil _)⟩) hd_no, m_cv⟩ (
  lkp_c (P := OkP 365) ⟨(PuOK.ok (ok_icmp_le dX4_layOrder_69 rfl)), m_icmp⟩ (
  lkp_c (P := OkP 365) ⟨(PuOK.ok (ok_aload_n dX4_layOrder_72 rfl)), m_aload⟩ (
  lkp_c (P := OkP 365) ⟨ok_get ⟨"TollRoadModel", q3109, Or.inl rfl⟩ dX4_layOrder_73, m_get⟩ (
  lkp_c (P := OkP 365) ⟨(PuOK.ok (ok_iload_n dX4_layOrder_76 rfl)), m_iload⟩ (
  lkp_c (P := OkP 365) ⟨(PuOK.ok (ok_aload_n dX4_layOrder_77 rfl)), m_aload⟩ (
  lkp_c (P := OkP 365) ⟨ok_get ⟨"TollRoadModel", q3109, Or.inl rfl⟩ dX4_layOrder_78, m_get⟩ (
  lkp_c (P := OkP 365) ⟨(PuOK.ok (ok_iload_n dX4_layOrder_81 rfl)), m_iload⟩ (
  lkp_c (P := OkP 365) ⟨(PuOK.ok (ok_iconst dX4_layOrder_82 rfl)), m_push⟩ (
  lkp_c (P := OkP 365) ⟨(PuOK.ok (ok_isub dX4_layOrder_83)), m_iop⟩ (
  lkp_c (P := OkP 365) ⟨ok_iald dX4_layOrder_84, m_rdI⟩ (
  lkp_c (P := OkP 365) ⟨ok_iast dX4_layOrder_85, m_wrI⟩ (
  lkp_c (P := OkP 365) ⟨(PuOK.ok (ok_iinc dX4_layOrder_86 rfl)), m_iinc⟩ (
  lkp_c (P := OkP 365) ⟨(PuOK.ok (ok_goto dX4_layOrder_89 rfl)), m_goto⟩ (
  lkp_c (P := OkP 365) ⟨(PuOK.ok (ok_aload_n dX4_layOrder_92 rfl)), m_aload⟩ (
  lkp_c (P := OkP 365) ⟨ok_get ⟨"TollRoadModel", q3109, Or.inl rfl⟩ dX4_layOrder_93, m_get⟩ (
  lkp_c (P := OkP 365) ⟨(PuOK.ok (ok_iload_n dX4_layOrder_96 rfl)), m_iload⟩ (
  lkp_c (P := OkP 365) ⟨(PuOK.ok (ok_iload_n dX4_layOrder_97 rfl)), m_iload⟩ (
  lkp_c (P := OkP 365) ⟨ok_iast dX4_layOrder_98, m_wrI⟩ (
  lkp_c (P := OkP 365) ⟨(PuOK.ok (ok_aload_n dX4_layOrder_99 rfl)), m_aload⟩ (
  lkp_c (P := OkP 365) ⟨(PuOK.ok (ok_dup dX4_layOrder_100)), m_dup⟩ (
  lkp_c (P := OkP 365) ⟨ok_get ⟨"TollRoadModel", q3116, Or.inl rfl⟩ dX4_layOrder_101, m_get⟩ (
  lkp_c (P := OkP 365) ⟨(PuOK.ok (ok_iconst dX4_layOrder_104 rfl)), m_push⟩ (
  lkp_c (P := OkP 365) ⟨(PuOK.ok (ok_iadd dX4_layOrder_105)), m_iop⟩ (
  lkp_c (P := OkP 365) ⟨ok_put ⟨"TollRoadModel", q3116, Or.inl rfl⟩ rfl fd_184 rfl dX4_layOrder_106, m_put⟩ (
  lkp_c (P := OkP 365) ⟨(PuOK.ok (ok_iinc dX4_layOrder_109 rfl)), m_iinc⟩ (
  lkp_c (P := OkP 365) ⟨(PuOK.ok (ok_goto dX4_layOrder_112 rfl)), m_goto⟩ (
  lkp_c (P := OkP 365) ⟨ok_vret rfl dX4_layOrder_115, m_vret⟩ (
  trivial))))))))))))))))))))))))))))))
theorem mt_365 : MtOK TB NT IT 365 := ⟨by decide +kernel, rfl, (fun h => by cases h), Or.inl ⟨rfl, rfl⟩, rfl, by decide, lk2_all (P := OkP 365) ⟨c_365_0, c_365_1, trivial⟩⟩
def dkwX4_goesOn_6 : List UInt8 := [3, 182, 1, 78, 132, 4, 1, 167, 255, 219, 4, 172]
abbrev dktX4_goesOn_6 : List UInt8 := dkwX4_goesOn_6 ++ []
def dkwX4_goesOn_5 : List UInt8 := [163, 0, 34, 42, 42, 180, 0, 54, 21, 4, 46, 21, 4, 42, 180, 1, 26, 162, 0, 7, 4, 167, 0, 4]
abbrev dktX4_goesOn_5 : List UInt8 := dkwX4_goesOn_5 ++ dktX4_goesOn_6
def dkwX4_goesOn_4 : List UInt8 := [180, 1, 75, 4, 100, 92, 46, 42, 180, 1, 29, 96, 79, 4, 54, 4, 21, 4, 42, 180, 1, 26]
abbrev dktX4_goesOn_4 : List UInt8 := dkwX4_goesOn_4 ++ dktX4_goesOn_5
def dkwX4_goesOn_3 : List UInt8 := [180, 0, 66, 42, 180, 1, 75, 4, 100, 92, 46, 42, 180, 1, 23, 96, 79, 42, 180, 0, 69, 42]
abbrev dktX4_goesOn_3 : List UInt8 := dkwX4_goesOn_3 ++ dktX4_goesOn_4
def dkwX4_goesOn_2 : List UInt8 := [42, 28, 4, 182, 0, 234, 29, 182, 1, 43, 42, 180, 1, 23, 19, 1, 35, 160, 0, 5, 3, 172, 42]
abbrev dktX4_goesOn_2 : List UInt8 := dkwX4_goesOn_2 ++ dktX4_goesOn_3
def dkwX4_goesOn_1 : List UInt8 := [182, 0, 234, 159, 0, 12, 29, 42, 3, 182, 0, 231, 164, 0, 5, 3, 172, 42, 42, 27, 4, 182, 0, 234]
abbrev dktX4_goesOn_1 : List UInt8 := dkwX4_goesOn_1 ++ dktX4_goesOn_2
def dkwX4_goesOn_0 : List UInt8 := [42, 28, 5, 182, 0, 234, 42, 27, 5, 182, 0, 234, 100, 62, 42, 27, 4, 182, 0, 234, 42, 28, 4]
abbrev dktX4_goesOn_0 : List UInt8 := dkwX4_goesOn_0 ++ dktX4_goesOn_1
theorem dksX4_goesOn_0 : cX4_goesOn.data.toList.drop 0 = dktX4_goesOn_0 := by decide +kernel
theorem dksX4_goesOn_1 : cX4_goesOn.data.toList.drop 23 = dktX4_goesOn_1 := dk_seg dksX4_goesOn_0 23 rfl rfl
theorem dksX4_goesOn_2 : cX4_goesOn.data.toList.drop 47 = dktX4_goesOn_2 := dk_seg dksX4_goesOn_1 24 rfl rfl
theorem dksX4_goesOn_3 : cX4_goesOn.data.toList.drop 70 = dktX4_goesOn_3 := dk_seg dksX4_goesOn_2 23 rfl rfl
theorem dksX4_goesOn_4 : cX4_goesOn.data.toList.drop 92 = dktX4_goesOn_4 := dk_seg dksX4_goesOn_3 22 rfl rfl
theorem dksX4_goesOn_5 : cX4_goesOn.data.toList.drop 114 = dktX4_goesOn_5 := dk_seg dksX4_goesOn_4 22 rfl rfl
theorem dksX4_goesOn_6 : cX4_goesOn.data.toList.drop 138 = dktX4_goesOn_6 := dk_seg dksX4_goesOn_5 24 rfl rfl
theorem dX4_goesOn_0 : decode cX4_goesOn 0 = .ok (.aload_n 0, 1) := dk_42 (dk_at dksX4_goesOn_0 0 rfl rfl)
theorem dX4_goesOn_1 : decode cX4_goesOn 1 = .ok (.iload_n 2, 1) := dk_28 (dk_at dksX4_goesOn_0 1 rfl rfl)
theorem dX4_goesOn_2 : decode cX4_goesOn 2 = .ok (.iconst 2, 1) := dk_5 (dk_at dksX4_goesOn_0 2 rfl rfl)
theorem dX4_goesOn_3 : decode cX4_goesOn 3 = .ok (.invokevirtual 234, 3) := dk_182 0 234 (dk_at dksX4_goesOn_0 3 rfl rfl)
theorem dX4_goesOn_6 : decode cX4_goesOn 6 = .ok (.aload_n 0, 1) := dk_42 (dk_at dksX4_goesOn_0 6 rfl rfl)
theorem dX4_goesOn_7 : decode cX4_goesOn 7 = .ok (.iload_n 1, 1) := dk_27 (dk_at dksX4_goesOn_0 7 rfl rfl)
theorem dX4_goesOn_8 : decode cX4_goesOn 8 = .ok (.iconst 2, 1) := dk_5 (dk_at dksX4_goesOn_0 8 rfl rfl)
theorem dX4_goesOn_9 : decode cX4_goesOn 9 = .ok (.invokevirtual 234, 3) := dk_182 0 234 (dk_at dksX4_goesOn_0 9 rfl rfl)
theorem dX4_goesOn_12 : decode cX4_goesOn 12 = .ok (.isub, 1) := dk_100 (dk_at dksX4_goesOn_0 12 rfl rfl)
theorem dX4_goesOn_13 : decode cX4_goesOn 13 = .ok (.istore_n 3, 1) := dk_62 (dk_at dksX4_goesOn_0 13 rfl rfl)
theorem dX4_goesOn_14 : decode cX4_goesOn 14 = .ok (.aload_n 0, 1) := dk_42 (dk_at dksX4_goesOn_0 14 rfl rfl)
theorem dX4_goesOn_15 : decode cX4_goesOn 15 = .ok (.iload_n 1, 1) := dk_27 (dk_at dksX4_goesOn_0 15 rfl rfl)
theorem dX4_goesOn_16 : decode cX4_goesOn 16 = .ok (.iconst 1, 1) := dk_4 (dk_at dksX4_goesOn_0 16 rfl rfl)
theorem dX4_goesOn_17 : decode cX4_goesOn 17 = .ok (.invokevirtual 234, 3) := dk_182 0 234 (dk_at dksX4_goesOn_0 17 rfl rfl)
theorem dX4_goesOn_20 : decode cX4_goesOn 20 = .ok (.aload_n 0, 1) := dk_42 (dk_at dksX4_goesOn_0 20 rfl rfl)
theorem dX4_goesOn_21 : decode cX4_goesOn 21 = .ok (.iload_n 2, 1) := dk_28 (dk_at dksX4_goesOn_0 21 rfl rfl)
theorem dX4_goesOn_22 : decode cX4_goesOn 22 = .ok (.iconst 1, 1) := dk_4 (dk_at dksX4_goesOn_0 22 rfl rfl)
theorem dX4_goesOn_23 : decode cX4_goesOn 23 = .ok (.invokevirtual 234, 3) := dk_182 0 234 (dk_at dksX4_goesOn_1 0 rfl rfl)
theorem dX4_goesOn_26 : decode cX4_goesOn 26 = .ok (.if_icmp .eq 12, 3) := dk_159 0 12 (dk_at dksX4_goesOn_1 3 rfl rfl)
theorem dX4_goesOn_29 : decode cX4_goesOn 29 = .ok (.iload_n 3, 1) := dk_29 (dk_at dksX4_goesOn_1 6 rfl rfl)
theorem dX4_goesOn_30 : decode cX4_goesOn 30 = .ok (.aload_n 0, 1) := dk_42 (dk_at dksX4_goesOn_1 7 rfl rfl)
theorem dX4_goesOn_31 : decode cX4_goesOn 31 = .ok (.iconst 0, 1) := dk_3 (dk_at dksX4_goesOn_1 8 rfl rfl)
theorem dX4_goesOn_32 : decode cX4_goesOn 32 = .ok (.invokevirtual 231, 3) := dk_182 0 231 (dk_at dksX4_goesOn_1 9 rfl rfl)
theorem dX4_goesOn_35 : decode cX4_goesOn 35 = .ok (.if_icmp .le 5, 3) := dk_164 0 5 (dk_at dksX4_goesOn_1 12 rfl rfl)
theorem dX4_goesOn_38 : decode cX4_goesOn 38 = .ok (.iconst 0, 1) := dk_3 (dk_at dksX4_goesOn_1 15 rfl rfl)
theorem dX4_goesOn_39 : decode cX4_goesOn 39 = .ok (.ireturn, 1) := dk_172 (dk_at dksX4_goesOn_1 16 rfl rfl)
theorem dX4_goesOn_40 : decode cX4_goesOn 40 = .ok (.aload_n 0, 1) := dk_42 (dk_at dksX4_goesOn_1 17 rfl rfl)
theorem dX4_goesOn_41 : decode cX4_goesOn 41 = .ok (.aload_n 0, 1) := dk_42 (dk_at dksX4_goesOn_1 18 rfl rfl)
theorem dX4_goesOn_42 : decode cX4_goesOn 42 = .ok (.iload_n 1, 1) := dk_27 (dk_at dksX4_goesOn_1 19 rfl rfl)
theorem dX4_goesOn_43 : decode cX4_goesOn 43 = .ok (.iconst 1, 1) := dk_4 (dk_at dksX4_goesOn_1 20 rfl rfl)
theorem dX4_goesOn_44 : decode cX4_goesOn 44 = .ok (.invokevirtual 234, 3) := dk_182 0 234 (dk_at dksX4_goesOn_1 21 rfl rfl)
theorem dX4_goesOn_47 : decode cX4_goesOn 47 = .ok (.aload_n 0, 1) := dk_42 (dk_at dksX4_goesOn_2 0 rfl rfl)
theorem dX4_goesOn_48 : decode cX4_goesOn 48 = .ok (.iload_n 2, 1) := dk_28 (dk_at dksX4_goesOn_2 1 rfl rfl)
theorem dX4_goesOn_49 : decode cX4_goesOn 49 = .ok (.iconst 1, 1) := dk_4 (dk_at dksX4_goesOn_2 2 rfl rfl)
theorem dX4_goesOn_50 : decode cX4_goesOn 50 = .ok (.invokevirtual 234, 3) := dk_182 0 234 (dk_at dksX4_goesOn_2 3 rfl rfl)
theorem dX4_goesOn_53 : decode cX4_goesOn 53 = .ok (.iload_n 3, 1) := dk_29 (dk_at dksX4_goesOn_2 6 rfl rfl)
theorem dX4_goesOn_54 : decode cX4_goesOn 54 = .ok (.invokevirtual 299, 3) := dk_182 1 43 (dk_at dksX4_goesOn_2 7 rfl rfl)
theorem dX4_goesOn_57 : decode cX4_goesOn 57 = .ok (.aload_n 0, 1) := dk_42 (dk_at dksX4_goesOn_2 10 rfl rfl)
theorem dX4_goesOn_58 : decode cX4_goesOn 58 = .ok (.getfield 279, 3) := dk_180 1 23 (dk_at dksX4_goesOn_2 11 rfl rfl)
theorem dX4_goesOn_61 : decode cX4_goesOn 61 = .ok (.ldc_w 291, 3) := dk_19 1 35 (dk_at dksX4_goesOn_2 14 rfl rfl)
theorem dX4_goesOn_64 : decode cX4_goesOn 64 = .ok (.if_icmp .ne 5, 3) := dk_160 0 5 (dk_at dksX4_goesOn_2 17 rfl rfl)
theorem dX4_goesOn_67 : decode cX4_goesOn 67 = .ok (.iconst 0, 1) := dk_3 (dk_at dksX4_goesOn_2 20 rfl rfl)
theorem dX4_goesOn_68 : decode cX4_goesOn 68 = .ok (.ireturn, 1) := dk_172 (dk_at dksX4_goesOn_2 21 rfl rfl)
theorem dX4_goesOn_69 : decode cX4_goesOn 69 = .ok (.aload_n 0, 1) := dk_42 (dk_at dksX4_goesOn_2 22 rfl rfl)
theorem dX4_goesOn_70 : decode cX4_goesOn 70 = .ok (.getfield 66, 3) := dk_180 0 66 (dk_at dksX4_goesOn_3 0 rfl rfl)
theorem dX4_goesOn_73 : decode cX4_goesOn 73 = .ok (.aload_n 0, 1) := dk_42 (dk_at dksX4_goesOn_3 3 rfl rfl)
theorem dX4_goesOn_74 : decode cX4_goesOn 74 = .ok (.getfield 331, 3) := dk_180 1 75 (dk_at dksX4_goesOn_3 4 rfl rfl)
theorem dX4_goesOn_77 : decode cX4_goesOn 77 = .ok (.iconst 1, 1) := dk_4 (dk_at dksX4_goesOn_3 7 rfl rfl)
theorem dX4_goesOn_78 : decode cX4_goesOn 78 = .ok (.isub, 1) := dk_100 (dk_at dksX4_goesOn_3 8 rfl rfl)
theorem dX4_goesOn_79 : decode cX4_goesOn 79 = .ok (.dup2, 1) := dk_92 (dk_at dksX4_goesOn_3 9 rfl rfl)
theorem dX4_goesOn_80 : decode cX4_goesOn 80 = .ok (.iaload, 1) := dk_46 (dk_at dksX4_goesOn_3 10 rfl rfl)
theorem dX4_goesOn_81 : decode cX4_goesOn 81 = .ok (.aload_n 0, 1) := dk_42 (dk_at dksX4_goesOn_3 11 rfl rfl)
theorem dX4_goesOn_82 : decode cX4_goesOn 82 = .ok (.getfield 279, 3) := dk_180 1 23 (dk_at dksX4_goesOn_3 12 rfl rfl)
theorem dX4_goesOn_85 : decode cX4_goesOn 85 = .ok (.iadd, 1) := dk_96 (dk_at dksX4_goesOn_3 15 rfl rfl)
theorem dX4_goesOn_86 : decode cX4_goesOn 86 = .ok (.iastore, 1) := dk_79 (dk_at dksX4_goesOn_3 16 rfl rfl)
theorem dX4_goesOn_87 : decode cX4_goesOn 87 = .ok (.aload_n 0, 1) := dk_42 (dk_at dksX4_goesOn_3 17 rfl rfl)
theorem dX4_goesOn_88 : decode cX4_goesOn 88 = .ok (.getfield 69, 3) := dk_180 0 69 (dk_at dksX4_goesOn_3 18 rfl rfl)
theorem dX4_goesOn_91 : decode cX4_goesOn 91 = .ok (.aload_n 0, 1) := dk_42 (dk_at dksX4_goesOn_3 21 rfl rfl)
theorem dX4_goesOn_92 : decode cX4_goesOn 92 = .ok (.getfield 331, 3) := dk_180 1 75 (dk_at dksX4_goesOn_4 0 rfl rfl)
theorem dX4_goesOn_95 : decode cX4_goesOn 95 = .ok (.iconst 1, 1) := dk_4 (dk_at dksX4_goesOn_4 3 rfl rfl)
theorem dX4_goesOn_96 : decode cX4_goesOn 96 = .ok (.isub, 1) := dk_100 (dk_at dksX4_goesOn_4 4 rfl rfl)
theorem dX4_goesOn_97 : decode cX4_goesOn 97 = .ok (.dup2, 1) := dk_92 (dk_at dksX4_goesOn_4 5 rfl rfl)
theorem dX4_goesOn_98 : decode cX4_goesOn 98 = .ok (.iaload, 1) := dk_46 (dk_at dksX4_goesOn_4 6 rfl rfl)
theorem dX4_goesOn_99 : decode cX4_goesOn 99 = .ok (.aload_n 0, 1) := dk_42 (dk_at dksX4_goesOn_4 7 rfl rfl)
theorem dX4_goesOn_100 : decode cX4_goesOn 100 = .ok (.getfield 285, 3) := dk_180 1 29 (dk_at dksX4_goesOn_4 8 rfl rfl)
theorem dX4_goesOn_103 : decode cX4_goesOn 103 = .ok (.iadd, 1) := dk_96 (dk_at dksX4_goesOn_4 11 rfl rfl)
theorem dX4_goesOn_104 : decode cX4_goesOn 104 = .ok (.iastore, 1) := dk_79 (dk_at dksX4_goesOn_4 12 rfl rfl)
theorem dX4_goesOn_105 : decode cX4_goesOn 105 = .ok (.iconst 1, 1) := dk_4 (dk_at dksX4_goesOn_4 13 rfl rfl)
theorem dX4_goesOn_106 : decode cX4_goesOn 106 = .ok (.istore 4, 2) := dk_54 4 (dk_at dksX4_goesOn_4 14 rfl rfl)
theorem dX4_goesOn_108 : decode cX4_goesOn 108 = .ok (.iload 4, 2) := dk_21 4 (dk_at dksX4_goesOn_4 16 rfl rfl)
theorem dX4_goesOn_110 : decode cX4_goesOn 110 = .ok (.aload_n 0, 1) := dk_42 (dk_at dksX4_goesOn_4 18 rfl rfl)
theorem dX4_goesOn_111 : decode cX4_goesOn 111 = .ok (.getfield 282, 3) := dk_180 1 26 (dk_at dksX4_goesOn_4 19 rfl rfl)
theorem dX4_goesOn_114 : decode cX4_goesOn 114 = .ok (.if_icmp .gt 34, 3) := dk_163 0 34 (dk_at dksX4_goesOn_5 0 rfl rfl)
theorem dX4_goesOn_117 : decode cX4_goesOn 117 = .ok (.aload_n 0, 1) := dk_42 (dk_at dksX4_goesOn_5 3 rfl rfl)
theorem dX4_goesOn_118 : decode cX4_goesOn 118 = .ok (.aload_n 0, 1) := dk_42 (dk_at dksX4_goesOn_5 4 rfl rfl)
theorem dX4_goesOn_119 : decode cX4_goesOn 119 = .ok (.getfield 54, 3) := dk_180 0 54 (dk_at dksX4_goesOn_5 5 rfl rfl)
theorem dX4_goesOn_122 : decode cX4_goesOn 122 = .ok (.iload 4, 2) := dk_21 4 (dk_at dksX4_goesOn_5 8 rfl rfl)
theorem dX4_goesOn_124 : decode cX4_goesOn 124 = .ok (.iaload, 1) := dk_46 (dk_at dksX4_goesOn_5 10 rfl rfl)
theorem dX4_goesOn_125 : decode cX4_goesOn 125 = .ok (.iload 4, 2) := dk_21 4 (dk_at dksX4_goesOn_5 11 rfl rfl)
theorem dX4_goesOn_127 : decode cX4_goesOn 127 = .ok (.aload_n 0, 1) := dk_42 (dk_at dksX4_goesOn_5 13 rfl rfl)
theorem dX4_goesOn_128 : decode cX4_goesOn 128 = .ok (.getfield 282, 3) := dk_180 1 26 (dk_at dksX4_goesOn_5 14 rfl rfl)
theorem dX4_goesOn_131 : decode cX4_goesOn 131 = .ok (.if_icmp .ge 7, 3) := dk_162 0 7 (dk_at dksX4_goesOn_5 17 rfl rfl)
theorem dX4_goesOn_134 : decode cX4_goesOn 134 = .ok (.iconst 1, 1) := dk_4 (dk_at dksX4_goesOn_5 20 rfl rfl)
theorem dX4_goesOn_135 : decode cX4_goesOn 135 = .ok (.goto 4, 3) := dk_167 0 4 (dk_at dksX4_goesOn_5 21 rfl rfl)
theorem dX4_goesOn_138 : decode cX4_goesOn 138 = .ok (.iconst 0, 1) := dk_3 (dk_at dksX4_goesOn_6 0 rfl rfl)
theorem dX4_goesOn_139 : decode cX4_goesOn 139 = .ok (.invokevirtual 334, 3) := dk_182 1 78 (dk_at dksX4_goesOn_6 1 rfl rfl)
theorem dX4_goesOn_142 : decode cX4_goesOn 142 = .ok (.iinc 4 1, 3) := dk_132 4 1 (dk_at dksX4_goesOn_6 4 rfl rfl)
theorem dX4_goesOn_145 : decode cX4_goesOn 145 = .ok (.goto (-37), 3) := dk_167 255 219 (dk_at dksX4_goesOn_6 7 rfl rfl)
theorem dX4_goesOn_148 : decode cX4_goesOn 148 = .ok (.iconst 1, 1) := dk_4 (dk_at dksX4_goesOn_6 10 rfl rfl)
theorem dX4_goesOn_149 : decode cX4_goesOn 149 = .ok (.ireturn, 1) := dk_172 (dk_at dksX4_goesOn_6 11 rfl rfl)
theorem c_366_0 : LkP (OkP 366) [(0, o_aload 0 1), (1, o_iload 2 1), (2, o_push 1 (.int 2)), (3, o_cv [(30, 331)] 2 3 false none), (6, o_aload 0 1), (7, o_iload 1 1), (8, o_push 1 (.int 2)), (9, o_cv [(30, 331)] 2 3 false none), (12, o_iop (fun x y => x - y)), (13, o_istore 3 1), (14, o_aload 0 1), (15, o_iload 1 1), (16, o_push 1 (.int 1)), (17, o_cv [(30, 331)] 2 3 false none), (20, o_aload 0 1), (21, o_iload 2 1), (22, o_push 1 (.int 1)), (23, o_cv [(30, 331)] 2 3 false none), (26, o_icmp (fun x y => decide (x = y)) 38), (29, o_iload 3 1), (30, o_aload 0 1), (31, o_push 1 (.int 0)), (32, o_cv [(30, 328)] 1 3 false none), (35, o_icmp (fun x y => decide (x ≤ y)) 40), (38, o_push 1 (.int 0)), (39, o_ret 5), (40, o_aload 0 1), (41, o_aload 0 1), (42, o_iload 1 1), (43, o_push 1 (.int 1)), (44, o_cv [(30, 331)] 2 3 false none), (47, o_aload 0 1), (48, o_iload 2 1), (49, o_push 1 (.int 1)), (50, o_cv [(30, 331)] 2 3 false none), (53, o_iload 3 1), (54, o_cv [(30, 345)] 3 3 true none), (57, o_aload 0 1), (58, o_get 172), (61, o_push 3 (.int 1000000000))] := lkp_c (P := OkP 366) ⟨(PuOK.ok (ok_aload_n dX4_goesOn_0 rfl)), m_aload⟩ (
  lkp_c (P := OkP 366) ⟨(PuOK.ok (ok_iload_n dX4_goesOn_1 rfl)), m_iload⟩ (
  lkp_c (P := OkP 366) ⟨(PuOK.ok (ok_iconst dX4_goesOn_2 rfl)), m_push⟩ (
  lkp_c (P := OkP 366) ⟨ok_cv (List.forall_mem_cons.mpr ⟨tg_V (ci := 30) (r := CLr 30) (y := 331) rfl ⟨rfl, by decide⟩ rfl q3383 q3385 qs68 q139 q3386 ⟨cn_34.1, cn_34.2, pd_1⟩ dX4_goesOn_3, (List.forall_mem_nil _)⟩) hd_no, m_cv⟩ (
  lkp_c (P := OkP 366) ⟨(PuOK.ok (ok_aload_n dX4_goesOn_6 rfl)), m_aload⟩ (
  lkp_c (P := OkP 366) ⟨(PuOK.ok (ok_iload_n dX4_goesOn_7 rfl)), m_iload⟩ (
  lkp_c (P := OkP 366) ⟨(PuOK.ok (ok_iconst dX4_goesOn_8 rfl)), m_push⟩ (
  lkp_c (P := OkP 366) ⟨ok_cv (List.forall_mem_cons.mpr ⟨tg_V (ci := 30) (r := CLr 30) (y := 331) rfl ⟨rfl, by decide⟩ rfl q3383 q3385 qs68 q139 q3386 ⟨cn_34.1, cn_34.2, pd_1⟩ dX4_goesOn_9, (List.forall_mem_nil _)⟩) hd_no, m_cv⟩ (
  lkp_c (P := OkP 366) ⟨(PuOK.ok (ok_isub dX4_goesOn_12)), m_iop⟩ (
  lkp_c (P := OkP 366) ⟨(PuOK.ok (ok_istore_n dX4_goesOn_13 rfl)), m_istore⟩ (
  lkp_c (P := OkP 366) ⟨(PuOK.ok (ok_aload_n dX4_goesOn_14 rfl)), m_aload⟩ (
  lkp_c (P := OkP 366) ⟨(PuOK.ok (ok_iload_n dX4_goesOn_15 rfl)), m_iload⟩ (
  lkp_c (P := OkP 366) ⟨(PuOK.ok (ok_iconst dX4_goesOn_16 rfl)), m_push⟩ (
  lkp_c (P := OkP 366) ⟨ok_cv (List.forall_mem_cons.mpr ⟨tg_V (ci := 30) (r := CLr 30) (y := 331) rfl ⟨rfl, by decide⟩ rfl q3383 q3385 qs68 q139 q3386 ⟨cn_34.1, cn_34.2, pd_1⟩ dX4_goesOn_17, (List.forall_mem_nil _)⟩) hd_no, m_cv⟩ (
  lkp_c (P := OkP 366) ⟨(PuOK.ok (ok_aload_n dX4_goesOn_20 rfl)), m_aload⟩ (
  lkp_c (P := OkP 366) ⟨(PuOK.ok (ok_iload_n dX4_goesOn_21 rfl)), m_iload⟩ (
  lkp_c (P := OkP 366) ⟨(PuOK.ok (ok_iconst dX4_goesOn_22 rfl)), m_push⟩ (
  lkp_c (P := OkP 366) ⟨ok_cv (List.forall_mem_cons.mpr ⟨tg_V (ci := 30) (r := CLr 30) (y := 331) rfl ⟨rfl, by decide⟩ rfl q3383 q3385 qs68 q139 q3386 ⟨cn_34.1, cn_34.2, pd_1⟩ dX4_goesOn_23, (List.forall_mem_nil _)⟩) hd_no, m_cv⟩ (
  lkp_c (P := OkP 366) ⟨(PuOK.ok (ok_icmp_eq dX4_goesOn_26 rfl)), m_icmp⟩ (
  lkp_c (P := OkP 366) ⟨(PuOK.ok (ok_iload_n dX4_goesOn_29 rfl)), m_iload⟩ (
  lkp_c (P := OkP 366) ⟨(PuOK.ok (ok_aload_n dX4_goesOn_30 rfl)), m_aload⟩ (
  lkp_c (P := OkP 366) ⟨(PuOK.ok (ok_iconst dX4_goesOn_31 rfl)), m_push⟩ (
  lkp_c (P := OkP 366) ⟨ok_cv (List.forall_mem_cons.mpr ⟨tg_V (ci := 30) (r := CLr 30) (y := 328) rfl ⟨rfl, by decide⟩ rfl q3371 q3373 qs66 q139 q3374 ⟨cn_34.1, cn_34.2, pd_48⟩ dX4_goesOn_32, (List.forall_mem_nil _)⟩) hd_no, m_cv⟩ (
  lkp_c (P := OkP 366) ⟨(PuOK.ok (ok_icmp_le dX4_goesOn_35 rfl)), m_icmp⟩ (
  lkp_c (P := OkP 366) ⟨(PuOK.ok (ok_iconst dX4_goesOn_38 rfl)), m_push⟩ (
  lkp_c (P := OkP 366) ⟨ok_iret rfl rfl (by decide) dX4_goesOn_39, m_ret⟩ (
  lkp_c (P := OkP 366) ⟨(PuOK.ok (ok_aload_n dX4_goesOn_40 rfl)), m_aload⟩ (
  lkp_c (P := OkP 366) ⟨(PuOK.ok (ok_aload_n dX4_goesOn_41 rfl)), m_aload⟩ (
  lkp_c (P := OkP 366) ⟨(PuOK.ok (ok_iload_n dX4_goesOn_42 rfl)), m_iload⟩ (
  lkp_c (P := OkP 366) ⟨(PuOK.ok (ok_iconst dX4_goesOn_43 rfl)), m_push⟩ (
  lkp_c (P := OkP 366) ⟨ok_cv (List.forall_mem_cons.mpr ⟨tg_V (ci := 30) (r := CLr 30) (y := 331) rfl ⟨rfl, by decide⟩ rfl q3383 q3385 qs68 q139 q3386 ⟨cn_34.1, cn_34.2, pd_1⟩ dX4_goesOn_44, (List.forall_mem_nil _)⟩) hd_no, m_cv⟩ (
  lkp_c (P := OkP 366) ⟨(PuOK.ok (ok_aload_n dX4_goesOn_47 rfl)), m_aload⟩ (
  lkp_c (P := OkP 366) ⟨(PuOK.ok (ok_iload_n dX4_goesOn_48 rfl)), m_iload⟩ (
  lkp_c (P := OkP 366) ⟨(PuOK.ok (ok_iconst dX4_goesOn_49 rfl)), m_push⟩ (
  lkp_c (P := OkP 366) ⟨ok_cv (List.forall_mem_cons.mpr ⟨tg_V (ci := 30) (r := CLr 30) (y := 331) rfl ⟨rfl, by decide⟩ rfl q3383 q3385 qs68 q139 q3386 ⟨cn_34.1, cn_34.2, pd_1⟩ dX4_goesOn_50, (List.forall_mem_nil _)⟩) hd_no, m_cv⟩ (
  lkp_c (P := OkP 366) ⟨(PuOK.ok (ok_iload_n dX4_goesOn_53 rfl)), m_iload⟩ (
  lkp_c (P := OkP 366) ⟨ok_cv (List.forall_mem_cons.mpr ⟨tg_V (ci := 30) (r := CLr 30) (y := 345) rfl ⟨rfl, by decide⟩ rfl q3440 q3442 qs77 q139 q3443 ⟨cn_34.1, cn_34.2, pd_105⟩ dX4_goesOn_54, (List.forall_mem_nil _)⟩) hd_no, m_cv⟩ (
  lkp_c (P := OkP 366) ⟨(PuOK.ok (ok_aload_n dX4_goesOn_57 rfl)), m_aload⟩ (
  lkp_c (P := OkP 366) ⟨ok_get ⟨"TollRoadModel", q3104, Or.inl rfl⟩ dX4_goesOn_58, m_get⟩ (
  lkp_c (P := OkP 366) ⟨(PuOK.ok (ok_ldcw q3444 dX4_goesOn_61)), m_push⟩ (
  trivial))))))))))))))))))))))))))))))))))))))))
theorem c_366_1 : LkP (OkP 366) [(64, o_icmp (fun x y => decide (¬ x = y)) 69), (67, o_push 1 (.int 0)), (68, o_ret 5), (69, o_aload 0 1), (70, o_get 180), (73, o_aload 0 1), (74, o_get 185), (77, o_push 1 (.int 1)), (78, o_iop (fun x y => x - y)), (79, o_dup2), (80, o_rdI 0), (81, o_aload 0 1), (82, o_get 172), (85, o_iop (fun x y => x + y)), (86, o_wrI 0), (87, o_aload 0 1), (88, o_get 181), (91, o_aload 0 1), (92, o_get 185), (95, o_push 1 (.int 1)), (96, o_iop (fun x y => x - y)), (97, o_dup2), (98, o_rdI 0), (99, o_aload 0 1), (100, o_get 174), (103, o_iop (fun x y => x + y)), (104, o_wrI 0), (105, o_push 1 (.int 1)), (106, o_istore 4 2), (108, o_iload 4 2), (110, o_aload 0 1), (111, o_get 173), (114, o_icmp (fun x y => decide (y < x)) 148), (117, o_aload 0 1), (118, o_aload 0 1), (119, o_get 171), (122, o_iload 4 2), (124, o_rdI 0), (125, o_iload 4 2), (127, o_aload 0 1)] := lkp_c (P := OkP 366) ⟨(PuOK.ok (ok_icmp_ne dX4_goesOn_64 rfl)), m_icmp⟩ (
  lkp_c (P := OkP 366) ⟨(PuOK.ok (ok_iconst dX4_goesOn_67 rfl)), m_push⟩ (
  lkp_c (P := OkP 366) ⟨ok_iret rfl rfl (by decide) dX4_goesOn_68, m_ret⟩ (
  lkp_c (P := OkP 366) ⟨(PuOK.ok (ok_aload_n dX4_goesOn_69 rfl)), m_aload⟩ (
  lkp_c (P := OkP 366) ⟨ok_get ⟨"TollRoadModel", q3112, Or.inl rfl⟩ dX4_goesOn_70, m_get⟩ (
  lkp_c (P := OkP 366) ⟨(PuOK.ok (ok_aload_n dX4_goesOn_73 rfl)), m_aload⟩ (
  lkp_c (P := OkP 366) ⟨ok_get ⟨"TollRoadModel", q3117, Or.inl rfl⟩ dX4_goesOn_74, m_get⟩ (
  lkp_c (P := OkP 366) ⟨(PuOK.ok (ok_iconst dX4_goesOn_77 rfl)), m_push⟩ (
  lkp_c (P := OkP 366) ⟨(PuOK.ok (ok_isub dX4_goesOn_78)), m_iop⟩ (
  lkp_c (P := OkP 366) ⟨(PuOK.ok (ok_dup2 dX4_goesOn_79)), m_dup2⟩ (
  lkp_c (P := OkP 366) ⟨ok_iald dX4_goesOn_80, m_rdI⟩ (
  lkp_c (P := OkP 366) ⟨(PuOK.ok (ok_aload_n dX4_goesOn_81 rfl)), m_aload⟩ (
  lkp_c (P := OkP 366) ⟨ok_get ⟨"TollRoadModel", q3104, Or.inl rfl⟩ dX4_goesOn_82, m_get⟩ (
  lkp_c (P := OkP 366) ⟨(PuOK.ok (ok_iadd dX4_goesOn_85)), m_iop⟩ (
  lkp_c (P := OkP 366) ⟨ok_iast dX4_goesOn_86, m_wrI⟩ (
  lkp_c (P := OkP 366) ⟨(PuOK.ok (ok_aload_n dX4_goesOn_87 rfl)), m_aload⟩ (
  lkp_c (P := OkP 366) ⟨ok_get ⟨"TollRoadModel", q3113, Or.inl rfl⟩ dX4_goesOn_88, m_get⟩ (
  lkp_c (P := OkP 366) ⟨(PuOK.ok (ok_aload_n dX4_goesOn_91 rfl)), m_aload⟩ (
  lkp_c (P := OkP 366) ⟨ok_get ⟨"TollRoadModel", q3117, Or.inl rfl⟩ dX4_goesOn_92, m_get⟩ (
  lkp_c (P := OkP 366) ⟨(PuOK.ok (ok_iconst dX4_goesOn_95 rfl)), m_push⟩ (
  lkp_c (P := OkP 366) ⟨(PuOK.ok (ok_isub dX4_goesOn_96)), m_iop⟩ (
  lkp_c (P := OkP 366) ⟨(PuOK.ok (ok_dup2 dX4_goesOn_97)), m_dup2⟩ (
  lkp_c (P := OkP 366) ⟨ok_iald dX4_goesOn_98, m_rdI⟩ (
  lkp_c (P := OkP 366) ⟨(PuOK.ok (ok_aload_n dX4_goesOn_99 rfl)), m_aload⟩ (
  lkp_c (P := OkP 366) ⟨ok_get ⟨"TollRoadModel", q3106, Or.inl rfl⟩ dX4_goesOn_100, m_get⟩ (
  lkp_c (P := OkP 366) ⟨(PuOK.ok (ok_iadd dX4_goesOn_103)), m_iop⟩ (
  lkp_c (P := OkP 366) ⟨ok_iast dX4_goesOn_104, m_wrI⟩ (
  lkp_c (P := OkP 366) ⟨(PuOK.ok (ok_iconst dX4_goesOn_105 rfl)), m_push⟩ (
  lkp_c (P := OkP 366) ⟨(PuOK.ok (ok_istore dX4_goesOn_106)), m_istore⟩ (
  lkp_c (P := OkP 366) ⟨(PuOK.ok (ok_iload dX4_goesOn_108)), m_iload⟩ (
  lkp_c (P := OkP 366) ⟨(PuOK.ok (ok_aload_n dX4_goesOn_110 rfl)), m_aload⟩ (
  lkp_c (P := OkP 366) ⟨ok_get ⟨"TollRoadModel", q3105, Or.inl rfl⟩ dX4_goesOn_111, m_get⟩ (
  lkp_c (P := OkP 366) ⟨(PuOK.ok (ok_icmp_gt dX4_goesOn_114 rfl)), m_icmp⟩ (
  lkp_c (P := OkP 366) ⟨(PuOK.ok (ok_aload_n dX4_goesOn_117 rfl)), m_aload⟩ (
  lkp_c (P := OkP 366) ⟨(PuOK.ok (ok_aload_n dX4_goesOn_118 rfl)), m_aload⟩ (
  lkp_c (P := OkP 366) ⟨ok_get ⟨"TollRoadModel", q3103, Or.inl rfl⟩ dX4_goesOn_119, m_get⟩ (
  lkp_c (P := OkP 366) ⟨(PuOK.ok (ok_iload dX4_goesOn_122)), m_iload⟩ (
  lkp_c (P := OkP 366) ⟨ok_iald dX4_goesOn_124, m_rdI⟩ (
  lkp_c (P := OkP 366) ⟨(PuOK.ok (ok_iload dX4_goesOn_125)), m_iload⟩ (
  lkp_c (P := OkP 366) ⟨(PuOK.ok (ok_aload_n dX4_goesOn_127 rfl)), m_aload⟩ (
  trivial))))))))))))))))))))))))))))))))))))))))
theorem c_366_2 : LkP (OkP 366) [(128, o_get 173), (131, o_icmp (fun x y => decide (y ≤ x)) 138), (134, o_push 1 (.int 1)), (135, o_goto 139), (138, o_push 1 (.int 0)), (139, o_cv [(30, 367)] 2 3 true none), (142, o_iinc 4 1), (145, o_goto 108), (148, o_push 1 (.int 1)), (149, o_ret 5)] := lkp_c (P := OkP 366) ⟨ok_get ⟨"TollRoadModel", q3105, Or.inl rfl⟩ dX4_goesOn_128, m_get⟩ (
  lkp_c (P := OkP 366) ⟨(PuOK.ok (ok_icmp_ge dX4_goesOn_131 rfl)), m_icmp⟩ (
  lkp_c (P := OkP 366) ⟨(PuOK.ok (ok_iconst dX4_goesOn_134 rfl)), m_push⟩ (
  lkp_c (P := OkP 366) ⟨(PuOK.ok (ok_goto dX4_goesOn_135 rfl)), m_goto⟩ (
  lkp_c (P := OkP 366) ⟨(PuOK.ok (ok_iconst dX4_goesOn_138 rfl)), m_push⟩ (
  lkp_c (P := OkP 366) ⟨ok_cv (List.forall_mem_cons.mpr ⟨tg_V (ci := 30) (r := CLr 30) (y := 367) rfl ⟨rfl, by decide⟩ rfl q3531 q3533 qs90 q139 q3534 ⟨cn_34.1, cn_34.2, pd_104⟩ dX4_goesOn_139, (List.forall_mem_nil _)⟩) hd_no, m_cv⟩ (
  lkp_c (P := OkP 366) ⟨(PuOK.ok (ok_iinc dX4_goesOn_142 rfl)), m_iinc⟩ (
  lkp_c (P := OkP 366) ⟨(PuOK.ok (ok_goto dX4_goesOn_145 rfl)), m_goto⟩ (
  lkp_c (P := OkP 366) ⟨(PuOK.ok (ok_iconst dX4_goesOn_148 rfl)), m_push⟩ (
  lkp_c (P := OkP 366) ⟨ok_iret rfl rfl (by decide) dX4_goesOn_149, m_ret⟩ (
  trivial))))))))))
theorem mt_366 : MtOK TB NT IT 366 := ⟨by decide +kernel, rfl, (fun h => by cases h), Or.inl ⟨rfl, rfl⟩, rfl, by decide, lk2_all (P := OkP 366) ⟨c_366_0, c_366_1, c_366_2, trivial⟩⟩
def dkwX4_addPlace_1 : List UInt8 := [180, 1, 72, 4, 96, 181, 1, 72, 177]
abbrev dktX4_addPlace_1 : List UInt8 := dkwX4_addPlace_1 ++ []
def dkwX4_addPlace_0 : List UInt8 := [42, 180, 0, 72, 42, 180, 1, 72, 27, 79, 42, 180, 0, 75, 42, 180, 1, 72, 28, 84, 42, 89]
abbrev dktX4_addPlace_0 : List UInt8 := dkwX4_addPlace_0 ++ dktX4_addPlace_1
theorem dksX4_addPlace_0 : cX4_addPlace.data.toList.drop 0 = dktX4_addPlace_0 := by decide +kernel
theorem dksX4_addPlace_1 : cX4_addPlace.data.toList.drop 22 = dktX4_addPlace_1 := dk_seg dksX4_addPlace_0 22 rfl rfl
theorem dX4_addPlace_0 : decode cX4_addPlace 0 = .ok (.aload_n 0, 1) := dk_42 (dk_at dksX4_addPlace_0 0 rfl rfl)
theorem dX4_addPlace_1 : decode cX4_addPlace 1 = .ok (.getfield 72, 3) := dk_180 0 72 (dk_at dksX4_addPlace_0 1 rfl rfl)
theorem dX4_addPlace_4 : decode cX4_addPlace 4 = .ok (.aload_n 0, 1) := dk_42 (dk_at dksX4_addPlace_0 4 rfl rfl)
theorem dX4_addPlace_5 : decode cX4_addPlace 5 = .ok (.getfield 328, 3) := dk_180 1 72 (dk_at dksX4_addPlace_0 5 rfl rfl)
theorem dX4_addPlace_8 : decode cX4_addPlace 8 = .ok (.iload_n 1, 1) := dk_27 (dk_at dksX4_addPlace_0 8 rfl rfl)
theorem dX4_addPlace_9 : decode cX4_addPlace 9 = .ok (.iastore, 1) := dk_79 (dk_at dksX4_addPlace_0 9 rfl rfl)
theorem dX4_addPlace_10 : decode cX4_addPlace 10 = .ok (.aload_n 0, 1) := dk_42 (dk_at dksX4_addPlace_0 10 rfl rfl)
theorem dX4_addPlace_11 : decode cX4_addPlace 11 = .ok (.getfield 75, 3) := dk_180 0 75 (dk_at dksX4_addPlace_0 11 rfl rfl)
theorem dX4_addPlace_14 : decode cX4_addPlace 14 = .ok (.aload_n 0, 1) := dk_42 (dk_at dksX4_addPlace_0 14 rfl rfl)
theorem dX4_addPlace_15 : decode cX4_addPlace 15 = .ok (.getfield 328, 3) := dk_180 1 72 (dk_at dksX4_addPlace_0 15 rfl rfl)
theorem dX4_addPlace_18 : decode cX4_addPlace 18 = .ok (.iload_n 2, 1) := dk_28 (dk_at dksX4_addPlace_0 18 rfl rfl)
theorem dX4_addPlace_19 : decode cX4_addPlace 19 = .ok (.bastore, 1) := dk_84 (dk_at dksX4_addPlace_0 19 rfl rfl)
theorem dX4_addPlace_20 : decode cX4_addPlace 20 = .ok (.aload_n 0, 1) := dk_42 (dk_at dksX4_addPlace_0 20 rfl rfl)
theorem dX4_addPlace_21 : decode cX4_addPlace 21 = .ok (.dup, 1) := dk_89 (dk_at dksX4_addPlace_0 21 rfl rfl)
theorem dX4_addPlace_22 : decode cX4_addPlace 22 = .ok (.getfield 328, 3) := dk_180 1 72 (dk_at dksX4_addPlace_1 0 rfl rfl)
theorem dX4_addPlace_25 : decode cX4_addPlace 25 = .ok (.iconst 1, 1) := dk_4 (dk_at dksX4_addPlace_1 3 rfl rfl)
theorem dX4_addPlace_26 : decode cX4_addPlace 26 = .ok (.iadd, 1) := dk_96 (dk_at dksX4_addPlace_1 4 rfl rfl)
theorem dX4_addPlace_27 : decode cX4_addPlace 27 = .ok (.putfield 328, 3) := dk_181 1 72 (dk_at dksX4_addPlace_1 5 rfl rfl)
theorem dX4_addPlace_30 : decode cX4_addPlace 30 = .ok (.return_, 1) := dk_177 (dk_at dksX4_addPlace_1 8 rfl rfl)
theorem c_367_0 : LkP (OkP 367) [(0, o_aload 0 1), (1, o_get 182), (4, o_aload 0 1), (5, o_get 186), (8, o_iload 1 1), (9, o_wrI 0), (10, o_aload 0 1), (11, o_get 183), (14, o_aload 0 1), (15, o_get 186), (18, o_iload 2 1), (19, o_wrI 2), (20, o_aload 0 1), (21, o_dup), (22, o_get 186), (25, o_push 1 (.int 1)), (26, o_iop (fun x y => x + y)), (27, o_put 186 1), (30, o_vret)] := lkp_c (P := OkP 367) ⟨(PuOK.ok (ok_aload_n dX4_addPlace_0 rfl)), m_aload⟩ (
  lkp_c (P := OkP 367) ⟨ok_get ⟨"TollRoadModel", q3114, Or.inl rfl⟩ dX4_addPlace_1, m_get⟩ (
  lkp_c (P := OkP 367) ⟨(PuOK.ok (ok_aload_n dX4_addPlace_4 rfl)), m_aload⟩ (
  lkp_c (P := OkP 367) ⟨ok_get ⟨"TollRoadModel", q3118, Or.inl rfl⟩ dX4_addPlace_5, m_get⟩ (
  lkp_c (P := OkP 367) ⟨(PuOK.ok (ok_iload_n dX4_addPlace_8 rfl)), m_iload⟩ (
  lkp_c (P := OkP 367) ⟨ok_iast dX4_addPlace_9, m_wrI⟩ (
  lkp_c (P := OkP 367) ⟨(PuOK.ok (ok_aload_n dX4_addPlace_10 rfl)), m_aload⟩ (
  lkp_c (P := OkP 367) ⟨ok_get ⟨"TollRoadModel", q3115, Or.inl rfl⟩ dX4_addPlace_11, m_get⟩ (
  lkp_c (P := OkP 367) ⟨(PuOK.ok (ok_aload_n dX4_addPlace_14 rfl)), m_aload⟩ (
  lkp_c (P := OkP 367) ⟨ok_get ⟨"TollRoadModel", q3118, Or.inl rfl⟩ dX4_addPlace_15, m_get⟩ (
  lkp_c (P := OkP 367) ⟨(PuOK.ok (ok_iload_n dX4_addPlace_18 rfl)), m_iload⟩ (
  lkp_c (P := OkP 367) ⟨ok_zast dX4_addPlace_19, m_wrI⟩ (
  lkp_c (P := OkP 367) ⟨(PuOK.ok (ok_aload_n dX4_addPlace_20 rfl)), m_aload⟩ (
  lkp_c (P := OkP 367) ⟨(PuOK.ok (ok_dup dX4_addPlace_21)), m_dup⟩ (
  lkp_c (P := OkP 367) ⟨ok_get ⟨"TollRoadModel", q3118, Or.inl rfl⟩ dX4_addPlace_22, m_get⟩ (
  lkp_c (P := OkP 367) ⟨(PuOK.ok (ok_iconst dX4_addPlace_25 rfl)), m_push⟩ (
  lkp_c (P := OkP 367) ⟨(PuOK.ok (ok_iadd dX4_addPlace_26)), m_iop⟩ (
  lkp_c (P := OkP 367) ⟨ok_put ⟨"TollRoadModel", q3118, Or.inl rfl⟩ rfl fd_186 rfl dX4_addPlace_27, m_put⟩ (
  lkp_c (P := OkP 367) ⟨ok_vret rfl dX4_addPlace_30, m_vret⟩ (
  trivial)))))))))))))))))))
theorem mt_367 : MtOK TB NT IT 367 := ⟨by decide +kernel, rfl, (fun h => by cases h), Or.inl ⟨rfl, rfl⟩, rfl, by decide, lk2_all (P := OkP 367) ⟨c_367_0, trivial⟩⟩
def dkwX4_beginTrip_2 : List UInt8 := [182, 0, 234, 3, 182, 1, 78, 177]
abbrev dktX4_beginTrip_2 : List UInt8 := dkwX4_beginTrip_2 ++ []
def dkwX4_beginTrip_1 : List UInt8 := [180, 0, 69, 42, 180, 1, 75, 3, 79, 42, 89, 180, 1, 75, 4, 96, 181, 1, 75, 42, 42, 27, 4]
abbrev dktX4_beginTrip_1 : List UInt8 := dkwX4_beginTrip_1 ++ dktX4_beginTrip_2
def dkwX4_beginTrip_0 : List UInt8 := [42, 180, 0, 63, 42, 180, 1, 75, 42, 180, 1, 72, 79, 42, 180, 0, 66, 42, 180, 1, 75, 3, 79, 42]
abbrev dktX4_beginTrip_0 : List UInt8 := dkwX4_beginTrip_0 ++ dktX4_beginTrip_1
theorem dksX4_beginTrip_0 : cX4_beginTrip.data.toList.drop 0 = dktX4_beginTrip_0 := by decide +kernel
theorem dksX4_beginTrip_1 : cX4_beginTrip.data.toList.drop 24 = dktX4_beginTrip_1 := dk_seg dksX4_beginTrip_0 24 rfl rfl
theorem dksX4_beginTrip_2 : cX4_beginTrip.data.toList.drop 47 = dktX4_beginTrip_2 := dk_seg dksX4_beginTrip_1 23 rfl rfl
theorem dX4_beginTrip_0 : decode cX4_beginTrip 0 = .ok (.aload_n 0, 1) := dk_42 (dk_at dksX4_beginTrip_0 0 rfl rfl)
theorem dX4_beginTrip_1 : decode cX4_beginTrip 1 = .ok (.getfield 63, 3) := dk_180 0 63 (dk_at dksX4_beginTrip_0 1 rfl rfl)
theorem dX4_beginTrip_4 : decode cX4_beginTrip 4 = .ok (.aload_n 0, 1) := dk_42 (dk_at dksX4_beginTrip_0 4 rfl rfl)
theorem dX4_beginTrip_5 : decode cX4_beginTrip 5 = .ok (.getfield 331, 3) := dk_180 1 75 (dk_at dksX4_beginTrip_0 5 rfl rfl)
theorem dX4_beginTrip_8 : decode cX4_beginTrip 8 = .ok (.aload_n 0, 1) := dk_42 (dk_at dksX4_beginTrip_0 8 rfl rfl)
theorem dX4_beginTrip_9 : decode cX4_beginTrip 9 = .ok (.getfield 328, 3) := dk_180 1 72 (dk_at dksX4_beginTrip_0 9 rfl rfl)
theorem dX4_beginTrip_12 : decode cX4_beginTrip 12 = .ok (.iastore, 1) := dk_79 (dk_at dksX4_beginTrip_0 12 rfl rfl)
theorem dX4_beginTrip_13 : decode cX4_beginTrip 13 = .ok (.aload_n 0, 1) := dk_42 (dk_at dksX4_beginTrip_0 13 rfl rfl)
theorem dX4_beginTrip_14 : decode cX4_beginTrip 14 = .ok (.getfield 66, 3) := dk_180 0 66 (dk_at dksX4_beginTrip_0 14 rfl rfl)
theorem dX4_beginTrip_17 : decode cX4_beginTrip 17 = .ok (.aload_n 0, 1) := dk_42 (dk_at dksX4_beginTrip_0 17 rfl rfl)
theorem dX4_beginTrip_18 : decode cX4_beginTrip 18 = .ok (.getfield 331, 3) := dk_180 1 75 (dk_at dksX4_beginTrip_0 18 rfl rfl)
theorem dX4_beginTrip_21 : decode cX4_beginTrip 21 = .ok (.iconst 0, 1) := dk_3 (dk_at dksX4_beginTrip_0 21 rfl rfl)
theorem dX4_beginTrip_22 : decode cX4_beginTrip 22 = .ok (.iastore, 1) := dk_79 (dk_at dksX4_beginTrip_0 22 rfl rfl)
theorem dX4_beginTrip_23 : decode cX4_beginTrip 23 = .ok (.aload_n 0, 1) := dk_42 (dk_at dksX4_beginTrip_0 23 rfl rfl)
theorem dX4_beginTrip_24 : decode cX4_beginTrip 24 = .ok (.getfield 69, 3) := dk_180 0 69 (dk_at dksX4_beginTrip_1 0 rfl rfl)
theorem dX4_beginTrip_27 : decode cX4_beginTrip 27 = .ok (.aload_n 0, 1) := dk_42 (dk_at dksX4_beginTrip_1 3 rfl rfl)
theorem dX4_beginTrip_28 : decode cX4_beginTrip 28 = .ok (.getfield 331, 3) := dk_180 1 75 (dk_at dksX4_beginTrip_1 4 rfl rfl)
theorem dX4_beginTrip_31 : decode cX4_beginTrip 31 = .ok (.iconst 0, 1) := dk_3 (dk_at dksX4_beginTrip_1 7 rfl rfl)
theorem dX4_beginTrip_32 : decode cX4_beginTrip 32 = .ok (.iastore, 1) := dk_79 (dk_at dksX4_beginTrip_1 8 rfl rfl)
theorem dX4_beginTrip_33 : decode cX4_beginTrip 33 = .ok (.aload_n 0, 1) := dk_42 (dk_at dksX4_beginTrip_1 9 rfl rfl)
theorem dX4_beginTrip_34 : decode cX4_beginTrip 34 = .ok (.dup, 1) := dk_89 (dk_at dksX4_beginTrip_1 10 rfl rfl)
theorem dX4_beginTrip_35 : decode cX4_beginTrip 35 = .ok (.getfield 331, 3) := dk_180 1 75 (dk_at dksX4_beginTrip_1 11 rfl rfl)
theorem dX4_beginTrip_38 : decode cX4_beginTrip 38 = .ok (.iconst 1, 1) := dk_4 (dk_at dksX4_beginTrip_1 14 rfl rfl)
theorem dX4_beginTrip_39 : decode cX4_beginTrip 39 = .ok (.iadd, 1) := dk_96 (dk_at dksX4_beginTrip_1 15 rfl rfl)
theorem dX4_beginTrip_40 : decode cX4_beginTrip 40 = .ok (.putfield 331, 3) := dk_181 1 75 (dk_at dksX4_beginTrip_1 16 rfl rfl)
theorem dX4_beginTrip_43 : decode cX4_beginTrip 43 = .ok (.aload_n 0, 1) := dk_42 (dk_at dksX4_beginTrip_1 19 rfl rfl)
theorem dX4_beginTrip_44 : decode cX4_beginTrip 44 = .ok (.aload_n 0, 1) := dk_42 (dk_at dksX4_beginTrip_1 20 rfl rfl)
theorem dX4_beginTrip_45 : decode cX4_beginTrip 45 = .ok (.iload_n 1, 1) := dk_27 (dk_at dksX4_beginTrip_1 21 rfl rfl)
theorem dX4_beginTrip_46 : decode cX4_beginTrip 46 = .ok (.iconst 1, 1) := dk_4 (dk_at dksX4_beginTrip_1 22 rfl rfl)
theorem dX4_beginTrip_47 : decode cX4_beginTrip 47 = .ok (.invokevirtual 234, 3) := dk_182 0 234 (dk_at dksX4_beginTrip_2 0 rfl rfl)
theorem dX4_beginTrip_50 : decode cX4_beginTrip 50 = .ok (.iconst 0, 1) := dk_3 (dk_at dksX4_beginTrip_2 3 rfl rfl)
theorem dX4_beginTrip_51 : decode cX4_beginTrip 51 = .ok (.invokevirtual 334, 3) := dk_182 1 78 (dk_at dksX4_beginTrip_2 4 rfl rfl)
theorem dX4_beginTrip_54 : decode cX4_beginTrip 54 = .ok (.return_, 1) := dk_177 (dk_at dksX4_beginTrip_2 7 rfl rfl)
theorem c_368_0 : LkP (OkP 368) [(0, o_aload 0 1), (1, o_get 179), (4, o_aload 0 1), (5, o_get 185), (8, o_aload 0 1), (9, o_get 186), (12, o_wrI 0), (13, o_aload 0 1), (14, o_get 180), (17, o_aload 0 1), (18, o_get 185), (21, o_push 1 (.int 0)), (22, o_wrI 0), (23, o_aload 0 1), (24, o_get 181), (27, o_aload 0 1), (28, o_get 185), (31, o_push 1 (.int 0)), (32, o_wrI 0), (33, o_aload 0 1), (34, o_dup), (35, o_get 185), (38, o_push 1 (.int 1)), (39, o_iop (fun x y => x + y)), (40, o_put 185 1), (43, o_aload 0 1), (44, o_aload 0 1), (45, o_iload 1 1), (46, o_push 1 (.int 1)), (47, o_cv [(30, 331)] 2 3 false none), (50, o_push 1 (.int 0)), (51, o_cv [(30, 367)] 2 3 true none), (54, o_vret)] := lkp_c (P := OkP 368) ⟨(PuOK.ok (ok_aload_n dX4_beginTrip_0 rfl)), m_aload⟩ (
  lkp_c (P := OkP 368) ⟨ok_get ⟨"TollRoadModel", q3111, Or.inl rfl⟩ dX4_beginTrip_1, m_get⟩ (
  lkp_c (P := OkP 368) ⟨(PuOK.ok (ok_aload_n dX4_beginTrip_4 rfl)), m_aload⟩ (
  lkp_c (P := OkP 368) ⟨ok_get ⟨"TollRoadModel", q3117, Or.inl rfl⟩ dX4_beginTrip_5, m_get⟩ (
  lkp_c (P := OkP 368) ⟨(PuOK.ok (ok_aload_n dX4_beginTrip_8 rfl)), m_aload⟩ (
  lkp_c (P := OkP 368) ⟨ok_get ⟨"TollRoadModel", q3118, Or.inl rfl⟩ dX4_beginTrip_9, m_get⟩ (
  lkp_c (P := OkP 368) ⟨ok_iast dX4_beginTrip_12, m_wrI⟩ (
  lkp_c (P := OkP 368) ⟨(PuOK.ok (ok_aload_n dX4_beginTrip_13 rfl)), m_aload⟩ (
  lkp_c (P := OkP 368) ⟨ok_get ⟨"TollRoadModel", q3112, Or.inl rfl⟩ dX4_beginTrip_14, m_get⟩ (
  lkp_c (P := OkP 368) ⟨(PuOK.ok (ok_aload_n dX4_beginTrip_17 rfl)), m_aload⟩ (
  lkp_c (P := OkP 368) ⟨ok_get ⟨"TollRoadModel", q3117, Or.inl rfl⟩ dX4_beginTrip_18, m_get⟩ (
  lkp_c (P := OkP 368) ⟨(PuOK.ok (ok_iconst dX4_beginTrip_21 rfl)), m_push⟩ (
  lkp_c (P := OkP 368) ⟨ok_iast dX4_beginTrip_22, m_wrI⟩ (
  lkp_c (P := OkP 368) ⟨(PuOK.ok (ok_aload_n dX4_beginTrip_23 rfl)), m_aload⟩ (
  lkp_c (P := OkP 368) ⟨ok_get ⟨"TollRoadModel", q3113, Or.inl rfl⟩ dX4_beginTrip_24, m_get⟩ (
  lkp_c (P := OkP 368) ⟨(PuOK.ok (ok_aload_n dX4_beginTrip_27 rfl)), m_aload⟩ (
  lkp_c (P := OkP 368) ⟨ok_get ⟨"TollRoadModel", q3117, Or.inl rfl⟩ dX4_beginTrip_28, m_get⟩ (
  lkp_c (P := OkP 368) ⟨(PuOK.ok (ok_iconst dX4_beginTrip_31 rfl)), m_push⟩ (
  lkp_c (P := OkP 368) ⟨ok_iast dX4_beginTrip_32, m_wrI⟩ (
  lkp_c (P := OkP 368) ⟨(PuOK.ok (ok_aload_n dX4_beginTrip_33 rfl)), m_aload⟩ (
  lkp_c (P := OkP 368) ⟨(PuOK.ok (ok_dup dX4_beginTrip_34)), m_dup⟩ (
  lkp_c (P := OkP 368) ⟨ok_get ⟨"TollRoadModel", q3117, Or.inl rfl⟩ dX4_beginTrip_35, m_get⟩ (
  lkp_c (P := OkP 368) ⟨(PuOK.ok (ok_iconst dX4_beginTrip_38 rfl)), m_push⟩ (
  lkp_c (P := OkP 368) ⟨(PuOK.ok (ok_iadd dX4_beginTrip_39)), m_iop⟩ (
  lkp_c (P := OkP 368) ⟨ok_put ⟨"TollRoadModel", q3117, Or.inl rfl⟩ rfl fd_185 rfl dX4_beginTrip_40, m_put⟩ (
  lkp_c (P := OkP 368) ⟨(PuOK.ok (ok_aload_n dX4_beginTrip_43 rfl)), m_aload⟩ (
  lkp_c (P := OkP 368) ⟨(PuOK.ok (ok_aload_n dX4_beginTrip_44 rfl)), m_aload⟩ (
  lkp_c (P := OkP 368) ⟨(PuOK.ok (ok_iload_n dX4_beginTrip_45 rfl)), m_iload⟩ (
  lkp_c (P := OkP 368) ⟨(PuOK.ok (ok_iconst dX4_beginTrip_46 rfl)), m_push⟩ (
  lkp_c (P := OkP 368) ⟨ok_cv (List.forall_mem_cons.mpr ⟨tg_V (ci := 30) (r := CLr 30) (y := 331) rfl ⟨rfl, by decide⟩ rfl q3383 q3385 qs68 q139 q3386 ⟨cn_34.1, cn_34.2, pd_1⟩ dX4_beginTrip_47, (List.forall_mem_nil _)⟩) hd_no, m_cv⟩ (
  lkp_c (P := OkP 368) ⟨(PuOK.ok (ok_iconst dX4_beginTrip_50 rfl)), m_push⟩ (
  lkp_c (P := OkP 368) ⟨ok_cv (List.forall_mem_cons.mpr ⟨tg_V (ci := 30) (r := CLr 30) (y := 367) rfl ⟨rfl, by decide⟩ rfl q3531 q3533 qs90 q139 q3534 ⟨cn_34.1, cn_34.2, pd_104⟩ dX4_beginTrip_51, (List.forall_mem_nil _)⟩) hd_no, m_cv⟩ (
  lkp_c (P := OkP 368) ⟨ok_vret rfl dX4_beginTrip_54, m_vret⟩ (
  trivial)))))))))))))))))))))))))))))))))
theorem mt_368 : MtOK TB NT IT 368 := ⟨by decide +kernel, rfl, (fun h => by cases h), Or.inl ⟨rfl, rfl⟩, rfl, by decide, lk2_all (P := OkP 368) ⟨c_368_0, trivial⟩⟩
def dkwX4_trip_4 : List UInt8 := [42, 180, 0, 66, 28, 46, 172, 42, 28, 4, 182, 1, 101, 172, 42, 5, 182, 0, 87, 172]
abbrev dktX4_trip_4 : List UInt8 := dkwX4_trip_4 ++ []
def dkwX4_trip_3 : List UInt8 := [182, 1, 104, 172, 42, 28, 182, 1, 107, 172, 42, 180, 0, 69, 28, 46, 42, 27, 3, 182, 1, 2, 104, 172]
abbrev dktX4_trip_3 : List UInt8 := dkwX4_trip_3 ++ dktX4_trip_4
def dkwX4_trip_2 : List UInt8 := [42, 28, 3, 182, 1, 97, 172, 42, 28, 4, 182, 1, 97, 172, 42, 28, 3, 182, 1, 101, 172, 42, 28]
abbrev dktX4_trip_2 : List UInt8 := dkwX4_trip_2 ++ dktX4_trip_3
def dkwX4_trip_1 : List UInt8 := [170, 0, 0, 0, 0, 0, 108, 0, 0, 0, 0, 0, 0, 0, 7, 0, 0, 0, 47, 0, 0, 0, 54, 0, 0, 0, 61, 0, 0, 0, 68, 0, 0, 0, 74, 0, 0, 0, 80, 0, 0, 0, 94, 0, 0, 0, 101]
abbrev dktX4_trip_1 : List UInt8 := dkwX4_trip_1 ++ dktX4_trip_2
def dkwX4_trip_0 : List UInt8 := [42, 3, 181, 0, 81, 42, 27, 28, 182, 1, 94, 154, 0, 9, 42, 4, 182, 0, 87, 172, 29]
abbrev dktX4_trip_0 : List UInt8 := dkwX4_trip_0 ++ dktX4_trip_1
theorem dksX4_trip_0 : cX4_trip.data.toList.drop 0 = dktX4_trip_0 := by decide +kernel
theorem dksX4_trip_1 : cX4_trip.data.toList.drop 21 = dktX4_trip_1 := dk_seg dksX4_trip_0 21 rfl rfl
theorem dksX4_trip_2 : cX4_trip.data.toList.drop 68 = dktX4_trip_2 := dk_seg dksX4_trip_1 47 rfl rfl
theorem dksX4_trip_3 : cX4_trip.data.toList.drop 91 = dktX4_trip_3 := dk_seg dksX4_trip_2 23 rfl rfl
theorem dksX4_trip_4 : cX4_trip.data.toList.drop 115 = dktX4_trip_4 := dk_seg dksX4_trip_3 24 rfl rfl
theorem dX4_trip_0 : decode cX4_trip 0 = .ok (.aload_n 0, 1) := dk_42 (dk_at dksX4_trip_0 0 rfl rfl)
theorem dX4_trip_1 : decode cX4_trip 1 = .ok (.iconst 0, 1) := dk_3 (dk_at dksX4_trip_0 1 rfl rfl)
theorem dX4_trip_2 : decode cX4_trip 2 = .ok (.putfield 81, 3) := dk_181 0 81 (dk_at dksX4_trip_0 2 rfl rfl)
theorem dX4_trip_5 : decode cX4_trip 5 = .ok (.aload_n 0, 1) := dk_42 (dk_at dksX4_trip_0 5 rfl rfl)
theorem dX4_trip_6 : decode cX4_trip 6 = .ok (.iload_n 1, 1) := dk_27 (dk_at dksX4_trip_0 6 rfl rfl)
theorem dX4_trip_7 : decode cX4_trip 7 = .ok (.iload_n 2, 1) := dk_28 (dk_at dksX4_trip_0 7 rfl rfl)
theorem dX4_trip_8 : decode cX4_trip 8 = .ok (.invokevirtual 350, 3) := dk_182 1 94 (dk_at dksX4_trip_0 8 rfl rfl)
theorem dX4_trip_11 : decode cX4_trip 11 = .ok (.ifCond .ne 9, 3) := dk_154 0 9 (dk_at dksX4_trip_0 11 rfl rfl)
theorem dX4_trip_14 : decode cX4_trip 14 = .ok (.aload_n 0, 1) := dk_42 (dk_at dksX4_trip_0 14 rfl rfl)
theorem dX4_trip_15 : decode cX4_trip 15 = .ok (.iconst 1, 1) := dk_4 (dk_at dksX4_trip_0 15 rfl rfl)
theorem dX4_trip_16 : decode cX4_trip 16 = .ok (.invokevirtual 87, 3) := dk_182 0 87 (dk_at dksX4_trip_0 16 rfl rfl)
theorem dX4_trip_19 : decode cX4_trip 19 = .ok (.ireturn, 1) := dk_172 (dk_at dksX4_trip_0 19 rfl rfl)
theorem dX4_trip_20 : decode cX4_trip 20 = .ok (.iload_n 3, 1) := dk_29 (dk_at dksX4_trip_0 20 rfl rfl)
theorem dX4_trip_21 : decode cX4_trip 21 = .ok (.tableswitch 108 0 7 #[47, 54, 61, 68, 74, 80, 94, 101], 47) := by decide +kernel
theorem dX4_trip_68 : decode cX4_trip 68 = .ok (.aload_n 0, 1) := dk_42 (dk_at dksX4_trip_2 0 rfl rfl)
theorem dX4_trip_69 : decode cX4_trip 69 = .ok (.iload_n 2, 1) := dk_28 (dk_at dksX4_trip_2 1 rfl rfl)
theorem dX4_trip_70 : decode cX4_trip 70 = .ok (.iconst 0, 1) := dk_3 (dk_at dksX4_trip_2 2 rfl rfl)
theorem dX4_trip_71 : decode cX4_trip 71 = .ok (.invokevirtual 353, 3) := dk_182 1 97 (dk_at dksX4_trip_2 3 rfl rfl)
theorem dX4_trip_74 : decode cX4_trip 74 = .ok (.ireturn, 1) := dk_172 (dk_at dksX4_trip_2 6 rfl rfl)
theorem dX4_trip_75 : decode cX4_trip 75 = .ok (.aload_n 0, 1) := dk_42 (dk_at dksX4_trip_2 7 rfl rfl)
theorem dX4_trip_76 : decode cX4_trip 76 = .ok (.iload_n 2, 1) := dk_28 (dk_at dksX4_trip_2 8 rfl rfl)
theorem dX4_trip_77 : decode cX4_trip 77 = .ok (.iconst 1, 1) := dk_4 (dk_at dksX4_trip_2 9 rfl rfl)
theorem dX4_trip_78 : decode cX4_trip 78 = .ok (.invokevirtual 353, 3) := dk_182 1 97 (dk_at dksX4_trip_2 10 rfl rfl)
theorem dX4_trip_81 : decode cX4_trip 81 = .ok (.ireturn, 1) := dk_172 (dk_at dksX4_trip_2 13 rfl rfl)
theorem dX4_trip_82 : decode cX4_trip 82 = .ok (.aload_n 0, 1) := dk_42 (dk_at dksX4_trip_2 14 rfl rfl)
theorem dX4_trip_83 : decode cX4_trip 83 = .ok (.iload_n 2, 1) := dk_28 (dk_at dksX4_trip_2 15 rfl rfl)
theorem dX4_trip_84 : decode cX4_trip 84 = .ok (.iconst 0, 1) := dk_3 (dk_at dksX4_trip_2 16 rfl rfl)
theorem dX4_trip_85 : decode cX4_trip 85 = .ok (.invokevirtual 357, 3) := dk_182 1 101 (dk_at dksX4_trip_2 17 rfl rfl)
theorem dX4_trip_88 : decode cX4_trip 88 = .ok (.ireturn, 1) := dk_172 (dk_at dksX4_trip_2 20 rfl rfl)
theorem dX4_trip_89 : decode cX4_trip 89 = .ok (.aload_n 0, 1) := dk_42 (dk_at dksX4_trip_2 21 rfl rfl)
theorem dX4_trip_90 : decode cX4_trip 90 = .ok (.iload_n 2, 1) := dk_28 (dk_at dksX4_trip_2 22 rfl rfl)
theorem dX4_trip_91 : decode cX4_trip 91 = .ok (.invokevirtual 360, 3) := dk_182 1 104 (dk_at dksX4_trip_3 0 rfl rfl)
theorem dX4_trip_94 : decode cX4_trip 94 = .ok (.ireturn, 1) := dk_172 (dk_at dksX4_trip_3 3 rfl rfl)
theorem dX4_trip_95 : decode cX4_trip 95 = .ok (.aload_n 0, 1) := dk_42 (dk_at dksX4_trip_3 4 rfl rfl)
theorem dX4_trip_96 : decode cX4_trip 96 = .ok (.iload_n 2, 1) := dk_28 (dk_at dksX4_trip_3 5 rfl rfl)
theorem dX4_trip_97 : decode cX4_trip 97 = .ok (.invokevirtual 363, 3) := dk_182 1 107 (dk_at dksX4_trip_3 6 rfl rfl)
theorem dX4_trip_100 : decode cX4_trip 100 = .ok (.ireturn, 1) := dk_172 (dk_at dksX4_trip_3 9 rfl rfl)
theorem dX4_trip_101 : decode cX4_trip 101 = .ok (.aload_n 0, 1) := dk_42 (dk_at dksX4_trip_3 10 rfl rfl)
theorem dX4_trip_102 : decode cX4_trip 102 = .ok (.getfield 69, 3) := dk_180 0 69 (dk_at dksX4_trip_3 11 rfl rfl)
theorem dX4_trip_105 : decode cX4_trip 105 = .ok (.iload_n 2, 1) := dk_28 (dk_at dksX4_trip_3 14 rfl rfl)
theorem dX4_trip_106 : decode cX4_trip 106 = .ok (.iaload, 1) := dk_46 (dk_at dksX4_trip_3 15 rfl rfl)
theorem dX4_trip_107 : decode cX4_trip 107 = .ok (.aload_n 0, 1) := dk_42 (dk_at dksX4_trip_3 16 rfl rfl)
theorem dX4_trip_108 : decode cX4_trip 108 = .ok (.iload_n 1, 1) := dk_27 (dk_at dksX4_trip_3 17 rfl rfl)
theorem dX4_trip_109 : decode cX4_trip 109 = .ok (.iconst 0, 1) := dk_3 (dk_at dksX4_trip_3 18 rfl rfl)
theorem dX4_trip_110 : decode cX4_trip 110 = .ok (.invokevirtual 258, 3) := dk_182 1 2 (dk_at dksX4_trip_3 19 rfl rfl)
theorem dX4_trip_113 : decode cX4_trip 113 = .ok (.imul, 1) := dk_104 (dk_at dksX4_trip_3 22 rfl rfl)
theorem dX4_trip_114 : decode cX4_trip 114 = .ok (.ireturn, 1) := dk_172 (dk_at dksX4_trip_3 23 rfl rfl)
theorem dX4_trip_115 : decode cX4_trip 115 = .ok (.aload_n 0, 1) := dk_42 (dk_at dksX4_trip_4 0 rfl rfl)
theorem dX4_trip_116 : decode cX4_trip 116 = .ok (.getfield 66, 3) := dk_180 0 66 (dk_at dksX4_trip_4 1 rfl rfl)
theorem dX4_trip_119 : decode cX4_trip 119 = .ok (.iload_n 2, 1) := dk_28 (dk_at dksX4_trip_4 4 rfl rfl)
theorem dX4_trip_120 : decode cX4_trip 120 = .ok (.iaload, 1) := dk_46 (dk_at dksX4_trip_4 5 rfl rfl)
theorem dX4_trip_121 : decode cX4_trip 121 = .ok (.ireturn, 1) := dk_172 (dk_at dksX4_trip_4 6 rfl rfl)
theorem dX4_trip_122 : decode cX4_trip 122 = .ok (.aload_n 0, 1) := dk_42 (dk_at dksX4_trip_4 7 rfl rfl)
theorem dX4_trip_123 : decode cX4_trip 123 = .ok (.iload_n 2, 1) := dk_28 (dk_at dksX4_trip_4 8 rfl rfl)
theorem dX4_trip_124 : decode cX4_trip 124 = .ok (.iconst 1, 1) := dk_4 (dk_at dksX4_trip_4 9 rfl rfl)
theorem dX4_trip_125 : decode cX4_trip 125 = .ok (.invokevirtual 357, 3) := dk_182 1 101 (dk_at dksX4_trip_4 10 rfl rfl)
theorem dX4_trip_128 : decode cX4_trip 128 = .ok (.ireturn, 1) := dk_172 (dk_at dksX4_trip_4 13 rfl rfl)
theorem dX4_trip_129 : decode cX4_trip 129 = .ok (.aload_n 0, 1) := dk_42 (dk_at dksX4_trip_4 14 rfl rfl)
theorem dX4_trip_130 : decode cX4_trip 130 = .ok (.iconst 2, 1) := dk_5 (dk_at dksX4_trip_4 15 rfl rfl)
theorem dX4_trip_131 : decode cX4_trip 131 = .ok (.invokevirtual 87, 3) := dk_182 0 87 (dk_at dksX4_trip_4 16 rfl rfl)
theorem dX4_trip_134 : decode cX4_trip 134 = .ok (.ireturn, 1) := dk_172 (dk_at dksX4_trip_4 19 rfl rfl)
theorem c_369_0 : LkP (OkP 369) [(0, o_aload 0 1), (1, o_push 1 (.int 0)), (2, o_put 155 1), (5, o_aload 0 1), (6, o_iload 1 1), (7, o_iload 2 1), (8, o_cv [(30, 370)] 2 3 false none), (11, o_if (fun x => decide (¬ x = 0)) 20), (14, o_aload 0 1), (15, o_push 1 (.int 1)), (16, o_cv [(30, 291)] 1 3 false none), (19, o_ret 1), (20, o_iload 3 1), (21, o_sw (swt 0 [68, 75, 82, 89, 95, 101, 115, 122] 129))] := lkp_c (P := OkP 369) ⟨(PuOK.ok (ok_aload_n dX4_trip_0 rfl)), m_aload⟩ (
  lkp_c (P := OkP 369) ⟨(PuOK.ok (ok_iconst dX4_trip_1 rfl)), m_push⟩ (
  lkp_c (P := OkP 369) ⟨ok_put ⟨"TollRoadModel", q3087, Or.inl rfl⟩ rfl fd_155 rfl dX4_trip_2, m_put⟩ (
  lkp_c (P := OkP 369) ⟨(PuOK.ok (ok_aload_n dX4_trip_5 rfl)), m_aload⟩ (
  lkp_c (P := OkP 369) ⟨(PuOK.ok (ok_iload_n dX4_trip_6 rfl)), m_iload⟩ (
  lkp_c (P := OkP 369) ⟨(PuOK.ok (ok_iload_n dX4_trip_7 rfl)), m_iload⟩ (
  lkp_c (P := OkP 369) ⟨ok_cv (List.forall_mem_cons.mpr ⟨tg_V (ci := 30) (r := CLr 30) (y := 370) rfl ⟨rfl, by decide⟩ rfl q3543 q3545 qs92 q139 q3546 ⟨cn_34.1, cn_34.2, pd_126⟩ dX4_trip_8, (List.forall_mem_nil _)⟩) hd_no, m_cv⟩ (
  lkp_c (P := OkP 369) ⟨(PuOK.ok (ok_if_ne dX4_trip_11 rfl)), m_if⟩ (
  lkp_c (P := OkP 369) ⟨(PuOK.ok (ok_aload_n dX4_trip_14 rfl)), m_aload⟩ (
  lkp_c (P := OkP 369) ⟨(PuOK.ok (ok_iconst dX4_trip_15 rfl)), m_push⟩ (
  lkp_c (P := OkP 369) ⟨ok_cv (List.forall_mem_cons.mpr ⟨tg_V (ci := 30) (r := CLr 30) (y := 291) rfl ⟨rfl, by decide⟩ rfl q3206 q3208 qs42 q139 q3209 ⟨cn_34.1, cn_34.2, pd_48⟩ dX4_trip_16, (List.forall_mem_nil _)⟩) hd_no, m_cv⟩ (
  lkp_c (P := OkP 369) ⟨ok_iret rfl rfl (by decide) dX4_trip_19, m_ret⟩ (
  lkp_c (P := OkP 369) ⟨(PuOK.ok (ok_iload_n dX4_trip_20 rfl)), m_iload⟩ (
  lkp_c (P := OkP 369) ⟨(PuOK.ok (ok_tsw dX4_trip_21 (by decide +kernel))), m_sw⟩ (
  trivial))))))))))))))
theorem c_369_1 : LkP (OkP 369) [(68, o_aload 0 1), (69, o_iload 2 1), (70, o_push 1 (.int 0)), (71, o_cv [(30, 371)] 2 3 false none), (74, o_ret 1), (75, o_aload 0 1), (76, o_iload 2 1), (77, o_push 1 (.int 1)), (78, o_cv [(30, 371)] 2 3 false none), (81, o_ret 1), (82, o_aload 0 1), (83, o_iload 2 1), (84, o_push 1 (.int 0)), (85, o_cv [(30, 372)] 2 3 false none), (88, o_ret 1), (89, o_aload 0 1), (90, o_iload 2 1), (91, o_cv [(30, 373)] 1 3 false none), (94, o_ret 1), (95, o_aload 0 1), (96, o_iload 2 1), (97, o_cv [(30, 374)] 1 3 false none), (100, o_ret 1), (101, o_aload 0 1), (102, o_get 181), (105, o_iload 2 1), (106, o_rdI 0), (107, o_aload 0 1), (108, o_iload 1 1), (109, o_push 1 (.int 0)), (110, o_cv [(30, 339)] 2 3 false none), (113, o_iop (fun x y => x * y)), (114, o_ret 1), (115, o_aload 0 1), (116, o_get 180), (119, o_iload 2 1), (120, o_rdI 0), (121, o_ret 1), (122, o_aload 0 1), (123, o_iload 2 1), (124, o_push 1 (.int 1)), (125, o_cv [(30, 372)] 2 3 false none)] := lkp_c (P := OkP 369) ⟨(PuOK.ok (ok_aload_n dX4_trip_68 rfl)), m_aload⟩ (
  lkp_c (P := OkP 369) ⟨(PuOK.ok (ok_iload_n dX4_trip_69 rfl)), m_iload⟩ (
  lkp_c (P := OkP 369) ⟨(PuOK.ok (ok_iconst dX4_trip_70 rfl)), m_push⟩ (
  lkp_c (P := OkP 369) ⟨ok_cv (List.forall_mem_cons.mpr ⟨tg_V (ci := 30) (r := CLr 30) (y := 371) rfl ⟨rfl, by decide⟩ rfl q3547 q3549 qs93 q139 q3550 ⟨cn_34.1, cn_34.2, pd_72⟩ dX4_trip_71, (List.forall_mem_nil _)⟩) hd_no, m_cv⟩ (
  lkp_c (P := OkP 369) ⟨ok_iret rfl rfl (by decide) dX4_trip_74, m_ret⟩ (
  lkp_c (P := OkP 369) ⟨(PuOK.ok (ok_aload_n dX4_trip_75 rfl)), m_aload⟩ (
  lkp_c (P := OkP 369) ⟨(PuOK.ok (ok_iload_n dX4_trip_76 rfl)), m_iload⟩ (
  lkp_c (P := OkP 369) ⟨(PuOK.ok (ok_iconst dX4_trip_77 rfl)), m_push⟩ (
  lkp_c (P := OkP 369) ⟨ok_cv (List.forall_mem_cons.mpr ⟨tg_V (ci := 30) (r := CLr 30) (y := 371) rfl ⟨rfl, by decide⟩ rfl q3547 q3549 qs93 q139 q3550 ⟨cn_34.1, cn_34.2, pd_72⟩ dX4_trip_78, (List.forall_mem_nil _)⟩) hd_no, m_cv⟩ (
  lkp_c (P := OkP 369) ⟨ok_iret rfl rfl (by decide) dX4_trip_81, m_ret⟩ (
  lkp_c (P := OkP 369) ⟨(PuOK.ok (ok_aload_n dX4_trip_82 rfl)), m_aload⟩ (
  lkp_c (P := OkP 369) ⟨(PuOK.ok (ok_iload_n dX4_trip_83 rfl)), m_iload⟩ (
  lkp_c (P := OkP 369) ⟨(PuOK.ok (ok_iconst dX4_trip_84 rfl)), m_push⟩ (
  lkp_c (P := OkP 369) ⟨ok_cv (List.forall_mem_cons.mpr ⟨tg_V (ci := 30) (r := CLr 30) (y := 372) rfl ⟨rfl, by decide⟩ rfl q3551 q3553 qs94 q139 q3554 ⟨cn_34.1, cn_34.2, pd_72⟩ dX4_trip_85, (List.forall_mem_nil _)⟩) hd_no, m_cv⟩ (
  lkp_c (P := OkP 369) ⟨ok_iret rfl rfl (by decide) dX4_trip_88, m_ret⟩ (
  lkp_c (P := OkP 369) ⟨(PuOK.ok (ok_aload_n dX4_trip_89 rfl)), m_aload⟩ (
  lkp_c (P := OkP 369) ⟨(PuOK.ok (ok_iload_n dX4_trip_90 rfl)), m_iload⟩ (
  lkp_c (P := OkP 369) ⟨ok_cv (List.forall_mem_cons.mpr ⟨tg_V (ci := 30) (r := CLr 30) (y := 373) rfl ⟨rfl, by decide⟩ rfl q3555 q3557 qs95 q139 q3558 ⟨cn_34.1, cn_34.2, pd_48⟩ dX4_trip_91, (List.forall_mem_nil _)⟩) hd_no, m_cv⟩ (
  lkp_c (P := OkP 369) ⟨ok_iret rfl rfl (by decide) dX4_trip_94, m_ret⟩ (
  lkp_c (P := OkP 369) ⟨(PuOK.ok (ok_aload_n dX4_trip_95 rfl)), m_aload⟩ (
  lkp_c (P := OkP 369) ⟨(PuOK.ok (ok_iload_n dX4_trip_96 rfl)), m_iload⟩ (
  lkp_c (P := OkP 369) ⟨ok_cv (List.forall_mem_cons.mpr ⟨tg_V (ci := 30) (r := CLr 30) (y := 374) rfl ⟨rfl, by decide⟩ rfl q3559 q3561 qs96 q139 q3562 ⟨cn_34.1, cn_34.2, pd_48⟩ dX4_trip_97, (List.forall_mem_nil _)⟩) hd_no, m_cv⟩ (
  lkp_c (P := OkP 369) ⟨ok_iret rfl rfl (by decide) dX4_trip_100, m_ret⟩ (
  lkp_c (P := OkP 369) ⟨(PuOK.ok (ok_aload_n dX4_trip_101 rfl)), m_aload⟩ (
  lkp_c (P := OkP 369) ⟨ok_get ⟨"TollRoadModel", q3113, Or.inl rfl⟩ dX4_trip_102, m_get⟩ (
  lkp_c (P := OkP 369) ⟨(PuOK.ok (ok_iload_n dX4_trip_105 rfl)), m_iload⟩ (
  lkp_c (P := OkP 369) ⟨ok_iald dX4_trip_106, m_rdI⟩ (
  lkp_c (P := OkP 369) ⟨(PuOK.ok (ok_aload_n dX4_trip_107 rfl)), m_aload⟩ (
  lkp_c (P := OkP 369) ⟨(PuOK.ok (ok_iload_n dX4_trip_108 rfl)), m_iload⟩ (
  lkp_c (P := OkP 369) ⟨(PuOK.ok (ok_iconst dX4_trip_109 rfl)), m_push⟩ (
  lkp_c (P := OkP 369) ⟨ok_cv (List.forall_mem_cons.mpr ⟨tg_V (ci := 30) (r := CLr 30) (y := 339) rfl ⟨rfl, by decide⟩ rfl q3415 q3417 qs73 q139 q3418 ⟨cn_34.1, cn_34.2, pd_1⟩ dX4_trip_110, (List.forall_mem_nil _)⟩) hd_no, m_cv⟩ (
  lkp_c (P := OkP 369) ⟨(PuOK.ok (ok_imul dX4_trip_113)), m_iop⟩ (
  lkp_c (P := OkP 369) ⟨ok_iret rfl rfl (by decide) dX4_trip_114, m_ret⟩ (
  lkp_c (P := OkP 369) ⟨(PuOK.ok (ok_aload_n dX4_trip_115 rfl)), m_aload⟩ (
  lkp_c (P := OkP 369) ⟨ok_get ⟨"TollRoadModel", q3112, Or.inl rfl⟩ dX4_trip_116, m_get⟩ (
  lkp_c (P := OkP 369) ⟨(PuOK.ok (ok_iload_n dX4_trip_119 rfl)), m_iload⟩ (
  lkp_c (P := OkP 369) ⟨ok_iald dX4_trip_120, m_rdI⟩ (
  lkp_c (P := OkP 369) ⟨ok_iret rfl rfl (by decide) dX4_trip_121, m_ret⟩ (
  lkp_c (P := OkP 369) ⟨(PuOK.ok (ok_aload_n dX4_trip_122 rfl)), m_aload⟩ (
  lkp_c (P := OkP 369) ⟨(PuOK.ok (ok_iload_n dX4_trip_123 rfl)), m_iload⟩ (
  lkp_c (P := OkP 369) ⟨(PuOK.ok (ok_iconst dX4_trip_124 rfl)), m_push⟩ (
  lkp_c (P := OkP 369) ⟨ok_cv (List.forall_mem_cons.mpr ⟨tg_V (ci := 30) (r := CLr 30) (y := 372) rfl ⟨rfl, by decide⟩ rfl q3551 q3553 qs94 q139 q3554 ⟨cn_34.1, cn_34.2, pd_72⟩ dX4_trip_125, (List.forall_mem_nil _)⟩) hd_no, m_cv⟩ (
  trivial))))))))))))))))))))))))))))))))))))))))))
theorem c_369_2 : LkP (OkP 369) [(128, o_ret 1), (129, o_aload 0 1), (130, o_push 1 (.int 2)), (131, o_cv [(30, 291)] 1 3 false none), (134, o_ret 1)] := lkp_c (P := OkP 369) ⟨ok_iret rfl rfl (by decide) dX4_trip_128, m_ret⟩ (
  lkp_c (P := OkP 369) ⟨(PuOK.ok (ok_aload_n dX4_trip_129 rfl)), m_aload⟩ (
  lkp_c (P := OkP 369) ⟨(PuOK.ok (ok_iconst dX4_trip_130 rfl)), m_push⟩ (
  lkp_c (P := OkP 369) ⟨ok_cv (List.forall_mem_cons.mpr ⟨tg_V (ci := 30) (r := CLr 30) (y := 291) rfl ⟨rfl, by decide⟩ rfl q3206 q3208 qs42 q139 q3209 ⟨cn_34.1, cn_34.2, pd_48⟩ dX4_trip_131, (List.forall_mem_nil _)⟩) hd_no, m_cv⟩ (
  lkp_c (P := OkP 369) ⟨ok_iret rfl rfl (by decide) dX4_trip_134, m_ret⟩ (
  trivial)))))
theorem mt_369 : MtOK TB NT IT 369 := ⟨by decide +kernel, rfl, (fun h => by cases h), Or.inl ⟨rfl, rfl⟩, rfl, by decide, lk2_all (P := OkP 369) ⟨c_369_0, c_369_1, c_369_2, trivial⟩⟩
def dkwX4_isTrip_1 : List UInt8 := [184, 0, 91, 172]
abbrev dktX4_isTrip_1 : List UInt8 := dkwX4_isTrip_1 ++ []
def dkwX4_isTrip_0 : List UInt8 := [42, 27, 182, 0, 255, 154, 0, 5, 3, 172, 42, 27, 182, 1, 91, 28, 3, 42, 180, 1, 75, 4, 100]
abbrev dktX4_isTrip_0 : List UInt8 := dkwX4_isTrip_0 ++ dktX4_isTrip_1
theorem dksX4_isTrip_0 : cX4_isTrip.data.toList.drop 0 = dktX4_isTrip_0 := by decide +kernel
theorem dksX4_isTrip_1 : cX4_isTrip.data.toList.drop 23 = dktX4_isTrip_1 := dk_seg dksX4_isTrip_0 23 rfl rfl
theorem dX4_isTrip_0 : decode cX4_isTrip 0 = .ok (.aload_n 0, 1) := dk_42 (dk_at dksX4_isTrip_0 0 rfl rfl)
theorem dX4_isTrip_1 : decode cX4_isTrip 1 = .ok (.iload_n 1, 1) := dk_27 (dk_at dksX4_isTrip_0 1 rfl rfl)
theorem dX4_isTrip_2 : decode cX4_isTrip 2 = .ok (.invokevirtual 255, 3) := dk_182 0 255 (dk_at dksX4_isTrip_0 2 rfl rfl)
theorem dX4_isTrip_5 : decode cX4_isTrip 5 = .ok (.ifCond .ne 5, 3) := dk_154 0 5 (dk_at dksX4_isTrip_0 5 rfl rfl)
theorem dX4_isTrip_8 : decode cX4_isTrip 8 = .ok (.iconst 0, 1) := dk_3 (dk_at dksX4_isTrip_0 8 rfl rfl)
theorem dX4_isTrip_9 : decode cX4_isTrip 9 = .ok (.ireturn, 1) := dk_172 (dk_at dksX4_isTrip_0 9 rfl rfl)
theorem dX4_isTrip_10 : decode cX4_isTrip 10 = .ok (.aload_n 0, 1) := dk_42 (dk_at dksX4_isTrip_0 10 rfl rfl)
theorem dX4_isTrip_11 : decode cX4_isTrip 11 = .ok (.iload_n 1, 1) := dk_27 (dk_at dksX4_isTrip_0 11 rfl rfl)
theorem dX4_isTrip_12 : decode cX4_isTrip 12 = .ok (.invokevirtual 347, 3) := dk_182 1 91 (dk_at dksX4_isTrip_0 12 rfl rfl)
theorem dX4_isTrip_15 : decode cX4_isTrip 15 = .ok (.iload_n 2, 1) := dk_28 (dk_at dksX4_isTrip_0 15 rfl rfl)
theorem dX4_isTrip_16 : decode cX4_isTrip 16 = .ok (.iconst 0, 1) := dk_3 (dk_at dksX4_isTrip_0 16 rfl rfl)
theorem dX4_isTrip_17 : decode cX4_isTrip 17 = .ok (.aload_n 0, 1) := dk_42 (dk_at dksX4_isTrip_0 17 rfl rfl)
theorem dX4_isTrip_18 : decode cX4_isTrip 18 = .ok (.getfield 331, 3) := dk_180 1 75 (dk_at dksX4_isTrip_0 18 rfl rfl)
theorem dX4_isTrip_21 : decode cX4_isTrip 21 = .ok (.iconst 1, 1) := dk_4 (dk_at dksX4_isTrip_0 21 rfl rfl)
theorem dX4_isTrip_22 : decode cX4_isTrip 22 = .ok (.isub, 1) := dk_100 (dk_at dksX4_isTrip_0 22 rfl rfl)
theorem dX4_isTrip_23 : decode cX4_isTrip 23 = .ok (.invokestatic 91, 3) := dk_184 0 91 (dk_at dksX4_isTrip_1 0 rfl rfl)
theorem dX4_isTrip_26 : decode cX4_isTrip 26 = .ok (.ireturn, 1) := dk_172 (dk_at dksX4_isTrip_1 3 rfl rfl)
theorem c_370_0 : LkP (OkP 370) [(0, o_aload 0 1), (1, o_iload 1 1), (2, o_cv [(30, 338)] 1 3 false none), (5, o_if (fun x => decide (¬ x = 0)) 10), (8, o_push 1 (.int 0)), (9, o_ret 5), (10, o_aload 0 1), (11, o_iload 1 1), (12, o_cv [(30, 364)] 1 3 true none), (15, o_iload 2 1), (16, o_push 1 (.int 0)), (17, o_aload 0 1), (18, o_get 185), (21, o_push 1 (.int 1)), (22, o_iop (fun x y => x - y)), (23, o_cs 293 3 false none), (26, o_ret 5)] := lkp_c (P := OkP 370) ⟨(PuOK.ok (ok_aload_n dX4_isTrip_0 rfl)), m_aload⟩ (
  lkp_c (P := OkP 370) ⟨(PuOK.ok (ok_iload_n dX4_isTrip_1 rfl)), m_iload⟩ (
  lkp_c (P := OkP 370) ⟨ok_cv (List.forall_mem_cons.mpr ⟨tg_V (ci := 30) (r := CLr 30) (y := 338) rfl ⟨rfl, by decide⟩ rfl q3411 q3413 qs72 q139 q3414 ⟨cn_34.1, cn_34.2, pd_77⟩ dX4_isTrip_2, (List.forall_mem_nil _)⟩) hd_no, m_cv⟩ (
  lkp_c (P := OkP 370) ⟨(PuOK.ok (ok_if_ne dX4_isTrip_5 rfl)), m_if⟩ (
  lkp_c (P := OkP 370) ⟨(PuOK.ok (ok_iconst dX4_isTrip_8 rfl)), m_push⟩ (
  lkp_c (P := OkP 370) ⟨ok_iret rfl rfl (by decide) dX4_isTrip_9, m_ret⟩ (
  lkp_c (P := OkP 370) ⟨(PuOK.ok (ok_aload_n dX4_isTrip_10 rfl)), m_aload⟩ (
  lkp_c (P := OkP 370) ⟨(PuOK.ok (ok_iload_n dX4_isTrip_11 rfl)), m_iload⟩ (
  lkp_c (P := OkP 370) ⟨ok_cv (List.forall_mem_cons.mpr ⟨tg_V (ci := 30) (r := CLr 30) (y := 364) rfl ⟨rfl, by decide⟩ rfl q3519 q3521 qs87 q139 q3522 ⟨cn_34.1, cn_34.2, pd_9⟩ dX4_isTrip_12, (List.forall_mem_nil _)⟩) hd_no, m_cv⟩ (
  lkp_c (P := OkP 370) ⟨(PuOK.ok (ok_iload_n dX4_isTrip_15 rfl)), m_iload⟩ (
  lkp_c (P := OkP 370) ⟨(PuOK.ok (ok_iconst dX4_isTrip_16 rfl)), m_push⟩ (
  lkp_c (P := OkP 370) ⟨(PuOK.ok (ok_aload_n dX4_isTrip_17 rfl)), m_aload⟩ (
  lkp_c (P := OkP 370) ⟨ok_get ⟨"TollRoadModel", q3117, Or.inl rfl⟩ dX4_isTrip_18, m_get⟩ (
  lkp_c (P := OkP 370) ⟨(PuOK.ok (ok_iconst dX4_isTrip_21 rfl)), m_push⟩ (
  lkp_c (P := OkP 370) ⟨(PuOK.ok (ok_isub dX4_isTrip_22)), m_iop⟩ (
  lkp_c (P := OkP 370) ⟨ok_cs (tg_S ⟨rfl, by decide⟩ q3214 q3215 q139 q3216 ⟨cn_34.1, cn_34.2, pd_121⟩ dX4_isTrip_23) hd_no, m_cs⟩ (
  lkp_c (P := OkP 370) ⟨ok_iret rfl rfl (by decide) dX4_isTrip_26, m_ret⟩ (
  trivial)))))))))))))))))
theorem mt_370 : MtOK TB NT IT 370 := ⟨by decide +kernel, rfl, (fun h => by cases h), Or.inl ⟨rfl, rfl⟩, rfl, by decide, lk2_all (P := OkP 370) ⟨c_370_0, trivial⟩⟩
def dkwX4_timeOf_2 : List UInt8 := [62, 132, 4, 1, 167, 255, 211, 29, 172]
abbrev dktX4_timeOf_2 : List UInt8 := dkwX4_timeOf_2 ++ []
def dkwX4_timeOf_1 : List UInt8 := [160, 0, 25, 28, 154, 0, 8, 29, 2, 160, 0, 16, 42, 42, 180, 0, 57, 21, 4, 46, 5, 182, 0, 234]
abbrev dktX4_timeOf_1 : List UInt8 := dkwX4_timeOf_1 ++ dktX4_timeOf_2
def dkwX4_timeOf_0 : List UInt8 := [2, 62, 3, 54, 4, 21, 4, 42, 180, 1, 69, 162, 0, 42, 42, 180, 0, 60, 21, 4, 46, 27]
abbrev dktX4_timeOf_0 : List UInt8 := dkwX4_timeOf_0 ++ dktX4_timeOf_1
theorem dksX4_timeOf_0 : cX4_timeOf.data.toList.drop 0 = dktX4_timeOf_0 := by decide +kernel
theorem dksX4_timeOf_1 : cX4_timeOf.data.toList.drop 22 = dktX4_timeOf_1 := dk_seg dksX4_timeOf_0 22 rfl rfl
theorem dksX4_timeOf_2 : cX4_timeOf.data.toList.drop 46 = dktX4_timeOf_2 := dk_seg dksX4_timeOf_1 24 rfl rfl
theorem dX4_timeOf_0 : decode cX4_timeOf 0 = .ok (.iconst (-1), 1) := dk_2 (dk_at dksX4_timeOf_0 0 rfl rfl)
theorem dX4_timeOf_1 : decode cX4_timeOf 1 = .ok (.istore_n 3, 1) := dk_62 (dk_at dksX4_timeOf_0 1 rfl rfl)
theorem dX4_timeOf_2 : decode cX4_timeOf 2 = .ok (.iconst 0, 1) := dk_3 (dk_at dksX4_timeOf_0 2 rfl rfl)
theorem dX4_timeOf_3 : decode cX4_timeOf 3 = .ok (.istore 4, 2) := dk_54 4 (dk_at dksX4_timeOf_0 3 rfl rfl)
theorem dX4_timeOf_5 : decode cX4_timeOf 5 = .ok (.iload 4, 2) := dk_21 4 (dk_at dksX4_timeOf_0 5 rfl rfl)
theorem dX4_timeOf_7 : decode cX4_timeOf 7 = .ok (.aload_n 0, 1) := dk_42 (dk_at dksX4_timeOf_0 7 rfl rfl)
theorem dX4_timeOf_8 : decode cX4_timeOf 8 = .ok (.getfield 325, 3) := dk_180 1 69 (dk_at dksX4_timeOf_0 8 rfl rfl)
theorem dX4_timeOf_11 : decode cX4_timeOf 11 = .ok (.if_icmp .ge 42, 3) := dk_162 0 42 (dk_at dksX4_timeOf_0 11 rfl rfl)
theorem dX4_timeOf_14 : decode cX4_timeOf 14 = .ok (.aload_n 0, 1) := dk_42 (dk_at dksX4_timeOf_0 14 rfl rfl)
theorem dX4_timeOf_15 : decode cX4_timeOf 15 = .ok (.getfield 60, 3) := dk_180 0 60 (dk_at dksX4_timeOf_0 15 rfl rfl)
theorem dX4_timeOf_18 : decode cX4_timeOf 18 = .ok (.iload 4, 2) := dk_21 4 (dk_at dksX4_timeOf_0 18 rfl rfl)
theorem dX4_timeOf_20 : decode cX4_timeOf 20 = .ok (.iaload, 1) := dk_46 (dk_at dksX4_timeOf_0 20 rfl rfl)
theorem dX4_timeOf_21 : decode cX4_timeOf 21 = .ok (.iload_n 1, 1) := dk_27 (dk_at dksX4_timeOf_0 21 rfl rfl)
theorem dX4_timeOf_22 : decode cX4_timeOf 22 = .ok (.if_icmp .ne 25, 3) := dk_160 0 25 (dk_at dksX4_timeOf_1 0 rfl rfl)
theorem dX4_timeOf_25 : decode cX4_timeOf 25 = .ok (.iload_n 2, 1) := dk_28 (dk_at dksX4_timeOf_1 3 rfl rfl)
theorem dX4_timeOf_26 : decode cX4_timeOf 26 = .ok (.ifCond .ne 8, 3) := dk_154 0 8 (dk_at dksX4_timeOf_1 4 rfl rfl)
theorem dX4_timeOf_29 : decode cX4_timeOf 29 = .ok (.iload_n 3, 1) := dk_29 (dk_at dksX4_timeOf_1 7 rfl rfl)
theorem dX4_timeOf_30 : decode cX4_timeOf 30 = .ok (.iconst (-1), 1) := dk_2 (dk_at dksX4_timeOf_1 8 rfl rfl)
theorem dX4_timeOf_31 : decode cX4_timeOf 31 = .ok (.if_icmp .ne 16, 3) := dk_160 0 16 (dk_at dksX4_timeOf_1 9 rfl rfl)
theorem dX4_timeOf_34 : decode cX4_timeOf 34 = .ok (.aload_n 0, 1) := dk_42 (dk_at dksX4_timeOf_1 12 rfl rfl)
theorem dX4_timeOf_35 : decode cX4_timeOf 35 = .ok (.aload_n 0, 1) := dk_42 (dk_at dksX4_timeOf_1 13 rfl rfl)
theorem dX4_timeOf_36 : decode cX4_timeOf 36 = .ok (.getfield 57, 3) := dk_180 0 57 (dk_at dksX4_timeOf_1 14 rfl rfl)
theorem dX4_timeOf_39 : decode cX4_timeOf 39 = .ok (.iload 4, 2) := dk_21 4 (dk_at dksX4_timeOf_1 17 rfl rfl)
theorem dX4_timeOf_41 : decode cX4_timeOf 41 = .ok (.iaload, 1) := dk_46 (dk_at dksX4_timeOf_1 19 rfl rfl)
theorem dX4_timeOf_42 : decode cX4_timeOf 42 = .ok (.iconst 2, 1) := dk_5 (dk_at dksX4_timeOf_1 20 rfl rfl)
theorem dX4_timeOf_43 : decode cX4_timeOf 43 = .ok (.invokevirtual 234, 3) := dk_182 0 234 (dk_at dksX4_timeOf_1 21 rfl rfl)
theorem dX4_timeOf_46 : decode cX4_timeOf 46 = .ok (.istore_n 3, 1) := dk_62 (dk_at dksX4_timeOf_2 0 rfl rfl)
theorem dX4_timeOf_47 : decode cX4_timeOf 47 = .ok (.iinc 4 1, 3) := dk_132 4 1 (dk_at dksX4_timeOf_2 1 rfl rfl)
theorem dX4_timeOf_50 : decode cX4_timeOf 50 = .ok (.goto (-45), 3) := dk_167 255 211 (dk_at dksX4_timeOf_2 4 rfl rfl)
theorem dX4_timeOf_53 : decode cX4_timeOf 53 = .ok (.iload_n 3, 1) := dk_29 (dk_at dksX4_timeOf_2 7 rfl rfl)
theorem dX4_timeOf_54 : decode cX4_timeOf 54 = .ok (.ireturn, 1) := dk_172 (dk_at dksX4_timeOf_2 8 rfl rfl)
theorem c_371_0 : LkP (OkP 371) [(0, o_push 1 (.int (-1))), (1, o_istore 3 1), (2, o_push 1 (.int 0)), (3, o_istore 4 2), (5, o_iload 4 2), (7, o_aload 0 1), (8, o_get 184), (11, o_icmp (fun x y => decide (y ≤ x)) 53), (14, o_aload 0 1), (15, o_get 178), (18, o_iload 4 2), (20, o_rdI 0), (21, o_iload 1 1), (22, o_icmp (fun x y => decide (¬ x = y)) 47), (25, o_iload 2 1), (26, o_if (fun x => decide (¬ x = 0)) 34), (29, o_iload 3 1), (30, o_push 1 (.int (-1))), (31, o_icmp (fun x y => decide (¬ x = y)) 47), (34, o_aload 0 1), (35, o_aload 0 1), (36, o_get 177), (39, o_iload 4 2), (41, o_rdI 0), (42, o_push 1 (.int 2)), (43, o_cv [(30, 331)] 2 3 false none), (46, o_istore 3 1), (47, o_iinc 4 1), (50, o_goto 5), (53, o_iload 3 1), (54, o_ret 1)] := lkp_c (P := OkP 371) ⟨(PuOK.ok (ok_iconst dX4_timeOf_0 rfl)), m_push⟩ (
  lkp_c (P := OkP 371) ⟨(PuOK.ok (ok_istore_n dX4_timeOf_1 rfl)), m_istore⟩ (
  lkp_c (P := OkP 371) ⟨(PuOK.ok (ok_iconst dX4_timeOf_2 rfl)), m_push⟩ (
  lkp_c (P := OkP 371) ⟨(PuOK.ok (ok_istore dX4_timeOf_3)), m_istore⟩ (
  lkp_c (P := OkP 371) ⟨(PuOK.ok (ok_iload dX4_timeOf_5)), m_iload⟩ (
  lkp_c (P := OkP 371) ⟨(PuOK.ok (ok_aload_n dX4_timeOf_7 rfl)), m_aload⟩ (
  lkp_c (P := OkP 371) ⟨ok_get ⟨"TollRoadModel", q3116, Or.inl rfl⟩ dX4_timeOf_8, m_get⟩ (
  lkp_c (P := OkP 371) ⟨(PuOK.ok (ok_icmp_ge dX4_timeOf_11 rfl)), m_icmp⟩ (
  lkp_c (P := OkP 371) ⟨(PuOK.ok (ok_aload_n dX4_timeOf_14 rfl)), m_aload⟩ (
  lkp_c (P := OkP 371) ⟨ok_get ⟨"TollRoadModel", q3110, Or.inl rfl⟩ dX4_timeOf_15, m_get⟩ (
  lkp_c (P := OkP 371) ⟨(PuOK.ok (ok_iload dX4_timeOf_18)), m_iload⟩ (
  lkp_c (P := OkP 371) ⟨ok_iald dX4_timeOf_20, m_rdI⟩ (
  lkp_c (P := OkP 371) ⟨(PuOK.ok (ok_iload_n dX4_timeOf_21 rfl)), m_iload⟩ (
  lkp_c (P := OkP 371) ⟨(PuOK.ok (ok_icmp_ne dX4_timeOf_22 rfl)), m_icmp⟩ (
  lkp_c (P := OkP 371) ⟨(PuOK.ok (ok_iload_n dX4_timeOf_25 rfl)), m_iload⟩ (
  lkp_c (P := OkP 371) ⟨(PuOK.ok (ok_if_ne dX4_timeOf_26 rfl)), m_if⟩ (
  lkp_c (P := OkP 371) ⟨(PuOK.ok (ok_iload_n dX4_timeOf_29 rfl)), m_iload⟩ (
  lkp_c (P := OkP 371) ⟨(PuOK.ok (ok_iconst dX4_timeOf_30 rfl)), m_push⟩ (
  lkp_c (P := OkP 371) ⟨(PuOK.ok (ok_icmp_ne dX4_timeOf_31 rfl)), m_icmp⟩ (
  lkp_c (P := OkP 371) ⟨(PuOK.ok (ok_aload_n dX4_timeOf_34 rfl)), m_aload⟩ (
  lkp_c (P := OkP 371) ⟨(PuOK.ok (ok_aload_n dX4_timeOf_35 rfl)), m_aload⟩ (
  lkp_c (P := OkP 371) ⟨ok_get ⟨"TollRoadModel", q3109, Or.inl rfl⟩ dX4_timeOf_36, m_get⟩ (
  lkp_c (P := OkP 371) ⟨(PuOK.ok (ok_iload dX4_timeOf_39)), m_iload⟩ (
  lkp_c (P := OkP 371) ⟨ok_iald dX4_timeOf_41, m_rdI⟩ (
  lkp_c (P := OkP 371) ⟨(PuOK.ok (ok_iconst dX4_timeOf_42 rfl)), m_push⟩ (
  lkp_c (P := OkP 371) ⟨ok_cv (List.forall_mem_cons.mpr ⟨tg_V (ci := 30) (r := CLr 30) (y := 331) rfl ⟨rfl, by decide⟩ rfl q3383 q3385 qs68 q139 q3386 ⟨cn_34.1, cn_34.2, pd_1⟩ dX4_timeOf_43, (List.forall_mem_nil _)⟩) hd_no, m_cv⟩ (
  lkp_c (P := OkP 371) ⟨(PuOK.ok (ok_istore_n dX4_timeOf_46 rfl)), m_istore⟩ (
  lkp_c (P := OkP 371) ⟨(PuOK.ok (ok_iinc dX4_timeOf_47 rfl)), m_iinc⟩ (
  lkp_c (P := OkP 371) ⟨(PuOK.ok (ok_goto dX4_timeOf_50 rfl)), m_goto⟩ (
  lkp_c (P := OkP 371) ⟨(PuOK.ok (ok_iload_n dX4_timeOf_53 rfl)), m_iload⟩ (
  lkp_c (P := OkP 371) ⟨ok_iret rfl rfl (by decide) dX4_timeOf_54, m_ret⟩ (
  trivial)))))))))))))))))))))))))))))))
theorem mt_371 : MtOK TB NT IT 371 := ⟨by decide +kernel, rfl, (fun h => by cases h), Or.inl ⟨rfl, rfl⟩, rfl, by decide, lk2_all (P := OkP 371) ⟨c_371_0, trivial⟩⟩
def dkwX4_readsOn_3 : List UInt8 := [167, 255, 193, 29, 172]
abbrev dktX4_readsOn_3 : List UInt8 := dkwX4_readsOn_3 ++ []
def dkwX4_readsOn_2 : List UInt8 := [167, 0, 4, 3, 54, 5, 29, 21, 5, 153, 0, 7, 4, 167, 0, 4, 3, 96, 62, 132, 4, 1]
abbrev dktX4_readsOn_2 : List UInt8 := dkwX4_readsOn_2 ++ dktX4_readsOn_3
def dkwX4_readsOn_1 : List UInt8 := [160, 0, 27, 28, 153, 0, 19, 42, 42, 180, 0, 57, 21, 4, 46, 6, 182, 0, 234, 4, 160, 0, 7, 4]
abbrev dktX4_readsOn_1 : List UInt8 := dkwX4_readsOn_1 ++ dktX4_readsOn_2
def dkwX4_readsOn_0 : List UInt8 := [3, 62, 3, 54, 4, 21, 4, 42, 180, 1, 69, 162, 0, 60, 42, 180, 0, 60, 21, 4, 46, 27]
abbrev dktX4_readsOn_0 : List UInt8 := dkwX4_readsOn_0 ++ dktX4_readsOn_1
theorem dksX4_readsOn_0 : cX4_readsOn.data.toList.drop 0 = dktX4_readsOn_0 := by decide +kernel
theorem dksX4_readsOn_1 : cX4_readsOn.data.toList.drop 22 = dktX4_readsOn_1 := dk_seg dksX4_readsOn_0 22 rfl rfl
theorem dksX4_readsOn_2 : cX4_readsOn.data.toList.drop 46 = dktX4_readsOn_2 := dk_seg dksX4_readsOn_1 24 rfl rfl
theorem dksX4_readsOn_3 : cX4_readsOn.data.toList.drop 68 = dktX4_readsOn_3 := dk_seg dksX4_readsOn_2 22 rfl rfl
theorem dX4_readsOn_0 : decode cX4_readsOn 0 = .ok (.iconst 0, 1) := dk_3 (dk_at dksX4_readsOn_0 0 rfl rfl)
theorem dX4_readsOn_1 : decode cX4_readsOn 1 = .ok (.istore_n 3, 1) := dk_62 (dk_at dksX4_readsOn_0 1 rfl rfl)
theorem dX4_readsOn_2 : decode cX4_readsOn 2 = .ok (.iconst 0, 1) := dk_3 (dk_at dksX4_readsOn_0 2 rfl rfl)
theorem dX4_readsOn_3 : decode cX4_readsOn 3 = .ok (.istore 4, 2) := dk_54 4 (dk_at dksX4_readsOn_0 3 rfl rfl)
theorem dX4_readsOn_5 : decode cX4_readsOn 5 = .ok (.iload 4, 2) := dk_21 4 (dk_at dksX4_readsOn_0 5 rfl rfl)
theorem dX4_readsOn_7 : decode cX4_readsOn 7 = .ok (.aload_n 0, 1) := dk_42 (dk_at dksX4_readsOn_0 7 rfl rfl)
theorem dX4_readsOn_8 : decode cX4_readsOn 8 = .ok (.getfield 325, 3) := dk_180 1 69 (dk_at dksX4_readsOn_0 8 rfl rfl)
theorem dX4_readsOn_11 : decode cX4_readsOn 11 = .ok (.if_icmp .ge 60, 3) := dk_162 0 60 (dk_at dksX4_readsOn_0 11 rfl rfl)
theorem dX4_readsOn_14 : decode cX4_readsOn 14 = .ok (.aload_n 0, 1) := dk_42 (dk_at dksX4_readsOn_0 14 rfl rfl)
theorem dX4_readsOn_15 : decode cX4_readsOn 15 = .ok (.getfield 60, 3) := dk_180 0 60 (dk_at dksX4_readsOn_0 15 rfl rfl)
theorem dX4_readsOn_18 : decode cX4_readsOn 18 = .ok (.iload 4, 2) := dk_21 4 (dk_at dksX4_readsOn_0 18 rfl rfl)
theorem dX4_readsOn_20 : decode cX4_readsOn 20 = .ok (.iaload, 1) := dk_46 (dk_at dksX4_readsOn_0 20 rfl rfl)
theorem dX4_readsOn_21 : decode cX4_readsOn 21 = .ok (.iload_n 1, 1) := dk_27 (dk_at dksX4_readsOn_0 21 rfl rfl)
theorem dX4_readsOn_22 : decode cX4_readsOn 22 = .ok (.if_icmp .ne 27, 3) := dk_160 0 27 (dk_at dksX4_readsOn_1 0 rfl rfl)
theorem dX4_readsOn_25 : decode cX4_readsOn 25 = .ok (.iload_n 2, 1) := dk_28 (dk_at dksX4_readsOn_1 3 rfl rfl)
theorem dX4_readsOn_26 : decode cX4_readsOn 26 = .ok (.ifCond .eq 19, 3) := dk_153 0 19 (dk_at dksX4_readsOn_1 4 rfl rfl)
theorem dX4_readsOn_29 : decode cX4_readsOn 29 = .ok (.aload_n 0, 1) := dk_42 (dk_at dksX4_readsOn_1 7 rfl rfl)
theorem dX4_readsOn_30 : decode cX4_readsOn 30 = .ok (.aload_n 0, 1) := dk_42 (dk_at dksX4_readsOn_1 8 rfl rfl)
theorem dX4_readsOn_31 : decode cX4_readsOn 31 = .ok (.getfield 57, 3) := dk_180 0 57 (dk_at dksX4_readsOn_1 9 rfl rfl)
theorem dX4_readsOn_34 : decode cX4_readsOn 34 = .ok (.iload 4, 2) := dk_21 4 (dk_at dksX4_readsOn_1 12 rfl rfl)
theorem dX4_readsOn_36 : decode cX4_readsOn 36 = .ok (.iaload, 1) := dk_46 (dk_at dksX4_readsOn_1 14 rfl rfl)
theorem dX4_readsOn_37 : decode cX4_readsOn 37 = .ok (.iconst 3, 1) := dk_6 (dk_at dksX4_readsOn_1 15 rfl rfl)
theorem dX4_readsOn_38 : decode cX4_readsOn 38 = .ok (.invokevirtual 234, 3) := dk_182 0 234 (dk_at dksX4_readsOn_1 16 rfl rfl)
theorem dX4_readsOn_41 : decode cX4_readsOn 41 = .ok (.iconst 1, 1) := dk_4 (dk_at dksX4_readsOn_1 19 rfl rfl)
theorem dX4_readsOn_42 : decode cX4_readsOn 42 = .ok (.if_icmp .ne 7, 3) := dk_160 0 7 (dk_at dksX4_readsOn_1 20 rfl rfl)
theorem dX4_readsOn_45 : decode cX4_readsOn 45 = .ok (.iconst 1, 1) := dk_4 (dk_at dksX4_readsOn_1 23 rfl rfl)
theorem dX4_readsOn_46 : decode cX4_readsOn 46 = .ok (.goto 4, 3) := dk_167 0 4 (dk_at dksX4_readsOn_2 0 rfl rfl)
theorem dX4_readsOn_49 : decode cX4_readsOn 49 = .ok (.iconst 0, 1) := dk_3 (dk_at dksX4_readsOn_2 3 rfl rfl)
theorem dX4_readsOn_50 : decode cX4_readsOn 50 = .ok (.istore 5, 2) := dk_54 5 (dk_at dksX4_readsOn_2 4 rfl rfl)
theorem dX4_readsOn_52 : decode cX4_readsOn 52 = .ok (.iload_n 3, 1) := dk_29 (dk_at dksX4_readsOn_2 6 rfl rfl)
theorem dX4_readsOn_53 : decode cX4_readsOn 53 = .ok (.iload 5, 2) := dk_21 5 (dk_at dksX4_readsOn_2 7 rfl rfl)
theorem dX4_readsOn_55 : decode cX4_readsOn 55 = .ok (.ifCond .eq 7, 3) := dk_153 0 7 (dk_at dksX4_readsOn_2 9 rfl rfl)
theorem dX4_readsOn_58 : decode cX4_readsOn 58 = .ok (.iconst 1, 1) := dk_4 (dk_at dksX4_readsOn_2 12 rfl rfl)
theorem dX4_readsOn_59 : decode cX4_readsOn 59 = .ok (.goto 4, 3) := dk_167 0 4 (dk_at dksX4_readsOn_2 13 rfl rfl)
theorem dX4_readsOn_62 : decode cX4_readsOn 62 = .ok (.iconst 0, 1) := dk_3 (dk_at dksX4_readsOn_2 16 rfl rfl)
theorem dX4_readsOn_63 : decode cX4_readsOn 63 = .ok (.iadd, 1) := dk_96 (dk_at dksX4_readsOn_2 17 rfl rfl)
theorem dX4_readsOn_64 : decode cX4_readsOn 64 = .ok (.istore_n 3, 1) := dk_62 (dk_at dksX4_readsOn_2 18 rfl rfl)
theorem dX4_readsOn_65 : decode cX4_readsOn 65 = .ok (.iinc 4 1, 3) := dk_132 4 1 (dk_at dksX4_readsOn_2 19 rfl rfl)
theorem dX4_readsOn_68 : decode cX4_readsOn 68 = .ok (.goto (-63), 3) := dk_167 255 193 (dk_at dksX4_readsOn_3 0 rfl rfl)
theorem dX4_readsOn_71 : decode cX4_readsOn 71 = .ok (.iload_n 3, 1) := dk_29 (dk_at dksX4_readsOn_3 3 rfl rfl)
theorem dX4_readsOn_72 : decode cX4_readsOn 72 = .ok (.ireturn, 1) := dk_172 (dk_at dksX4_readsOn_3 4 rfl rfl)
theorem c_372_0 : LkP (OkP 372) [(0, o_push 1 (.int 0)), (1, o_istore 3 1), (2, o_push 1 (.int 0)), (3, o_istore 4 2), (5, o_iload 4 2), (7, o_aload 0 1), (8, o_get 184), (11, o_icmp (fun x y => decide (y ≤ x)) 71), (14, o_aload 0 1), (15, o_get 178), (18, o_iload 4 2), (20, o_rdI 0), (21, o_iload 1 1), (22, o_icmp (fun x y => decide (¬ x = y)) 49), (25, o_iload 2 1), (26, o_if (fun x => decide (x = 0)) 45), (29, o_aload 0 1), (30, o_aload 0 1), (31, o_get 177), (34, o_iload 4 2), (36, o_rdI 0), (37, o_push 1 (.int 3)), (38, o_cv [(30, 331)] 2 3 false none), (41, o_push 1 (.int 1)), (42, o_icmp (fun x y => decide (¬ x = y)) 49), (45, o_push 1 (.int 1)), (46, o_goto 50), (49, o_push 1 (.int 0)), (50, o_istore 5 2), (52, o_iload 3 1), (53, o_iload 5 2), (55, o_if (fun x => decide (x = 0)) 62), (58, o_push 1 (.int 1)), (59, o_goto 63), (62, o_push 1 (.int 0)), (63, o_iop (fun x y => x + y))] := lkp_c (P := OkP 372) ⟨(PuOK.ok (ok_iconst dX4_readsOn_0 rfl)), m_push⟩ (
  lkp_c (P := OkP 372) ⟨(PuOK.ok (ok_istore_n dX4_readsOn_1 rfl)), m_istore⟩ (
  lkp_c (P := OkP 372) ⟨(PuOK.ok (ok_iconst dX4_readsOn_2 rfl)), m_push⟩ (
  lkp_c (P := OkP 372) ⟨(PuOK.ok (ok_istore dX4_readsOn_3)), m_istore⟩ (
  lkp_c (P := OkP 372) ⟨(PuOK.ok (ok_iload dX4_readsOn_5)), m_iload⟩ (
  lkp_c (P := OkP 372) ⟨(PuOK.ok (ok_aload_n dX4_readsOn_7 rfl)), m_aload⟩ (
  lkp_c (P := OkP 372) ⟨ok_get ⟨"TollRoadModel", q3116, Or.inl rfl⟩ dX4_readsOn_8, m_get⟩ (
  lkp_c (P := OkP 372) ⟨(PuOK.ok (ok_icmp_ge dX4_readsOn_11 rfl)), m_icmp⟩ (
  lkp_c (P := OkP 372) ⟨(PuOK.ok (ok_aload_n dX4_readsOn_14 rfl)), m_aload⟩ (
  lkp_c (P := OkP 372) ⟨ok_get ⟨"TollRoadModel", q3110, Or.inl rfl⟩ dX4_readsOn_15, m_get⟩ (
  lkp_c (P := OkP 372) ⟨(PuOK.ok (ok_iload dX4_readsOn_18)), m_iload⟩ (
  lkp_c (P := OkP 372) ⟨ok_iald dX4_readsOn_20, m_rdI⟩ (
  lkp_c (P := OkP 372) ⟨(PuOK.ok (ok_iload_n dX4_readsOn_21 rfl)), m_iload⟩ (
  lkp_c (P := OkP 372) ⟨(PuOK.ok (ok_icmp_ne dX4_readsOn_22 rfl)), m_icmp⟩ (
  lkp_c (P := OkP 372) ⟨(PuOK.ok (ok_iload_n dX4_readsOn_25 rfl)), m_iload⟩ (
  lkp_c (P := OkP 372) ⟨(PuOK.ok (ok_if_eq dX4_readsOn_26 rfl)), m_if⟩ (
  lkp_c (P := OkP 372) ⟨(PuOK.ok (ok_aload_n dX4_readsOn_29 rfl)), m_aload⟩ (
  lkp_c (P := OkP 372) ⟨(PuOK.ok (ok_aload_n dX4_readsOn_30 rfl)), m_aload⟩ (
  lkp_c (P := OkP 372) ⟨ok_get ⟨"TollRoadModel", q3109, Or.inl rfl⟩ dX4_readsOn_31, m_get⟩ (
  lkp_c (P := OkP 372) ⟨(PuOK.ok (ok_iload dX4_readsOn_34)), m_iload⟩ (
  lkp_c (P := OkP 372) ⟨ok_iald dX4_readsOn_36, m_rdI⟩ (
  lkp_c (P := OkP 372) ⟨(PuOK.ok (ok_iconst dX4_readsOn_37 rfl)), m_push⟩ (
  lkp_c (P := OkP 372) ⟨ok_cv (List.forall_mem_cons.mpr ⟨tg_V (ci := 30) (r := CLr 30) (y := 331) rfl ⟨rfl, by decide⟩ rfl q3383 q3385 qs68 q139 q3386 ⟨cn_34.1, cn_34.2, pd_1⟩ dX4_readsOn_38, (List.forall_mem_nil _)⟩) hd_no, m_cv⟩ (
  lkp_c (P := OkP 372) ⟨(PuOK.ok (ok_iconst dX4_readsOn_41 rfl)), m_push⟩ (
  lkp_c (P := OkP 372) ⟨(PuOK.ok (ok_icmp_ne dX4_readsOn_42 rfl)), m_icmp⟩ (
  lkp_c (P := OkP 372) ⟨(PuOK.ok (ok_iconst dX4_readsOn_45 rfl)), m_push⟩ (
  lkp_c (P := OkP 372) ⟨(PuOK.ok (ok_goto dX4_readsOn_46 rfl)), m_goto⟩ (
  lkp_c (P := OkP 372) ⟨(PuOK.ok (ok_iconst dX4_readsOn_49 rfl)), m_push⟩ (
  lkp_c (P := OkP 372) ⟨(PuOK.ok (ok_istore dX4_readsOn_50)), m_istore⟩ (
  lkp_c (P := OkP 372) ⟨(PuOK.ok (ok_iload_n dX4_readsOn_52 rfl)), m_iload⟩ (
  lkp_c (P := OkP 372) ⟨(PuOK.ok (ok_iload dX4_readsOn_53)), m_iload⟩ (
  lkp_c (P := OkP 372) ⟨(PuOK.ok (ok_if_eq dX4_readsOn_55 rfl)), m_if⟩ (
  lkp_c (P := OkP 372) ⟨(PuOK.ok (ok_iconst dX4_readsOn_58 rfl)), m_push⟩ (
  lkp_c (P := OkP 372) ⟨(PuOK.ok (ok_goto dX4_readsOn_59 rfl)), m_goto⟩ (
  lkp_c (P := OkP 372) ⟨(PuOK.ok (ok_iconst dX4_readsOn_62 rfl)), m_push⟩ (
  lkp_c (P := OkP 372) ⟨(PuOK.ok (ok_iadd dX4_readsOn_63)), m_iop⟩ (
  trivial))))))))))))))))))))))))))))))))))))
theorem c_372_1 : LkP (OkP 372) [(64, o_istore 3 1), (65, o_iinc 4 1), (68, o_goto 5), (71, o_iload 3 1), (72, o_ret 1)] := lkp_c (P := OkP 372) ⟨(PuOK.ok (ok_istore_n dX4_readsOn_64 rfl)), m_istore⟩ (
  lkp_c (P := OkP 372) ⟨(PuOK.ok (ok_iinc dX4_readsOn_65 rfl)), m_iinc⟩ (
  lkp_c (P := OkP 372) ⟨(PuOK.ok (ok_goto dX4_readsOn_68 rfl)), m_goto⟩ (
  lkp_c (P := OkP 372) ⟨(PuOK.ok (ok_iload_n dX4_readsOn_71 rfl)), m_iload⟩ (
  lkp_c (P := OkP 372) ⟨ok_iret rfl rfl (by decide) dX4_readsOn_72, m_ret⟩ (
  trivial)))))
theorem mt_372 : MtOK TB NT IT 372 := ⟨by decide +kernel, rfl, (fun h => by cases h), Or.inl ⟨rfl, rfl⟩, rfl, by decide, lk2_all (P := OkP 372) ⟨c_372_0, c_372_1, trivial⟩⟩
def dkwX4_placesOf_0 : List UInt8 := [42, 180, 0, 63, 27, 4, 96, 46, 42, 180, 0, 63, 27, 46, 100, 172]
abbrev dktX4_placesOf_0 : List UInt8 := dkwX4_placesOf_0 ++ []
theorem dksX4_placesOf_0 : cX4_placesOf.data.toList.drop 0 = dktX4_placesOf_0 := by decide +kernel
theorem dX4_placesOf_0 : decode cX4_placesOf 0 = .ok (.aload_n 0, 1) := dk_42 (dk_at dksX4_placesOf_0 0 rfl rfl)
theorem dX4_placesOf_1 : decode cX4_placesOf 1 = .ok (.getfield 63, 3) := dk_180 0 63 (dk_at dksX4_placesOf_0 1 rfl rfl)
theorem dX4_placesOf_4 : decode cX4_placesOf 4 = .ok (.iload_n 1, 1) := dk_27 (dk_at dksX4_placesOf_0 4 rfl rfl)
theorem dX4_placesOf_5 : decode cX4_placesOf 5 = .ok (.iconst 1, 1) := dk_4 (dk_at dksX4_placesOf_0 5 rfl rfl)
theorem dX4_placesOf_6 : decode cX4_placesOf 6 = .ok (.iadd, 1) := dk_96 (dk_at dksX4_placesOf_0 6 rfl rfl)
theorem dX4_placesOf_7 : decode cX4_placesOf 7 = .ok (.iaload, 1) := dk_46 (dk_at dksX4_placesOf_0 7 rfl rfl)
theorem dX4_placesOf_8 : decode cX4_placesOf 8 = .ok (.aload_n 0, 1) := dk_42 (dk_at dksX4_placesOf_0 8 rfl rfl)
theorem dX4_placesOf_9 : decode cX4_placesOf 9 = .ok (.getfield 63, 3) := dk_180 0 63 (dk_at dksX4_placesOf_0 9 rfl rfl)
theorem dX4_placesOf_12 : decode cX4_placesOf 12 = .ok (.iload_n 1, 1) := dk_27 (dk_at dksX4_placesOf_0 12 rfl rfl)
theorem dX4_placesOf_13 : decode cX4_placesOf 13 = .ok (.iaload, 1) := dk_46 (dk_at dksX4_placesOf_0 13 rfl rfl)
theorem dX4_placesOf_14 : decode cX4_placesOf 14 = .ok (.isub, 1) := dk_100 (dk_at dksX4_placesOf_0 14 rfl rfl)
theorem dX4_placesOf_15 : decode cX4_placesOf 15 = .ok (.ireturn, 1) := dk_172 (dk_at dksX4_placesOf_0 15 rfl rfl)
theorem c_373_0 : LkP (OkP 373) [(0, o_aload 0 1), (1, o_get 179), (4, o_iload 1 1), (5, o_push 1 (.int 1)), (6, o_iop (fun x y => x + y)), (7, o_rdI 0), (8, o_aload 0 1), (9, o_get 179), (12, o_iload 1 1), (13, o_rdI 0), (14, o_iop (fun x y => x - y)), (15, o_ret 1)] := lkp_c (P := OkP 373) ⟨(PuOK.ok (ok_aload_n dX4_placesOf_0 rfl)), m_aload⟩ (
  lkp_c (P := OkP 373) ⟨ok_get ⟨"TollRoadModel", q3111, Or.inl rfl⟩ dX4_placesOf_1, m_get⟩ (
  lkp_c (P := OkP 373) ⟨(PuOK.ok (ok_iload_n dX4_placesOf_4 rfl)), m_iload⟩ (
  lkp_c (P := OkP 373) ⟨(PuOK.ok (ok_iconst dX4_placesOf_5 rfl)), m_push⟩ (
  lkp_c (P := OkP 373) ⟨(PuOK.ok (ok_iadd dX4_placesOf_6)), m_iop⟩ (
  lkp_c (P := OkP 373) ⟨ok_iald dX4_placesOf_7, m_rdI⟩ (
  lkp_c (P := OkP 373) ⟨(PuOK.ok (ok_aload_n dX4_placesOf_8 rfl)), m_aload⟩ (
  lkp_c (P := OkP 373) ⟨ok_get ⟨"TollRoadModel", q3111, Or.inl rfl⟩ dX4_placesOf_9, m_get⟩ (
  lkp_c (P := OkP 373) ⟨(PuOK.ok (ok_iload_n dX4_placesOf_12 rfl)), m_iload⟩ (
  lkp_c (P := OkP 373) ⟨ok_iald dX4_placesOf_13, m_rdI⟩ (
  lkp_c (P := OkP 373) ⟨(PuOK.ok (ok_isub dX4_placesOf_14)), m_iop⟩ (
  lkp_c (P := OkP 373) ⟨ok_iret rfl rfl (by decide) dX4_placesOf_15, m_ret⟩ (
  trivial))))))))))))
theorem mt_373 : MtOK TB NT IT 373 := ⟨by decide +kernel, rfl, (fun h => by cases h), Or.inl ⟨rfl, rfl⟩, rfl, by decide, lk2_all (P := OkP 373) ⟨c_373_0, trivial⟩⟩
def dkwX4_missingOf_1 : List UInt8 := [180, 0, 75, 29, 51, 153, 0, 7, 4, 167, 0, 4, 3, 96, 61, 132, 3, 1, 167, 255, 224, 28, 172]
abbrev dktX4_missingOf_1 : List UInt8 := dkwX4_missingOf_1 ++ []
def dkwX4_missingOf_0 : List UInt8 := [3, 61, 42, 180, 0, 63, 27, 46, 62, 29, 42, 180, 0, 63, 27, 4, 96, 46, 162, 0, 26, 28, 42]
abbrev dktX4_missingOf_0 : List UInt8 := dkwX4_missingOf_0 ++ dktX4_missingOf_1
theorem dksX4_missingOf_0 : cX4_missingOf.data.toList.drop 0 = dktX4_missingOf_0 := by decide +kernel
theorem dksX4_missingOf_1 : cX4_missingOf.data.toList.drop 23 = dktX4_missingOf_1 := dk_seg dksX4_missingOf_0 23 rfl rfl
theorem dX4_missingOf_0 : decode cX4_missingOf 0 = .ok (.iconst 0, 1) := dk_3 (dk_at dksX4_missingOf_0 0 rfl rfl)
theorem dX4_missingOf_1 : decode cX4_missingOf 1 = .ok (.istore_n 2, 1) := dk_61 (dk_at dksX4_missingOf_0 1 rfl rfl)
theorem dX4_missingOf_2 : decode cX4_missingOf 2 = .ok (.aload_n 0, 1) := dk_42 (dk_at dksX4_missingOf_0 2 rfl rfl)
theorem dX4_missingOf_3 : decode cX4_missingOf 3 = .ok (.getfield 63, 3) := dk_180 0 63 (dk_at dksX4_missingOf_0 3 rfl rfl)
theorem dX4_missingOf_6 : decode cX4_missingOf 6 = .ok (.iload_n 1, 1) := dk_27 (dk_at dksX4_missingOf_0 6 rfl rfl)
theorem dX4_missingOf_7 : decode cX4_missingOf 7 = .ok (.iaload, 1) := dk_46 (dk_at dksX4_missingOf_0 7 rfl rfl)
theorem dX4_missingOf_8 : decode cX4_missingOf 8 = .ok (.istore_n 3, 1) := dk_62 (dk_at dksX4_missingOf_0 8 rfl rfl)
theorem dX4_missingOf_9 : decode cX4_missingOf 9 = .ok (.iload_n 3, 1) := dk_29 (dk_at dksX4_missingOf_0 9 rfl rfl)
theorem dX4_missingOf_10 : decode cX4_missingOf 10 = .ok (.aload_n 0, 1) := dk_42 (dk_at dksX4_missingOf_0 10 rfl rfl)
theorem dX4_missingOf_11 : decode cX4_missingOf 11 = .ok (.getfield 63, 3) := dk_180 0 63 (dk_at dksX4_missingOf_0 11 rfl rfl)
theorem dX4_missingOf_14 : decode cX4_missingOf 14 = .ok (.iload_n 1, 1) := dk_27 (dk_at dksX4_missingOf_0 14 rfl rfl)
theorem dX4_missingOf_15 : decode cX4_missingOf 15 = .ok (.iconst 1, 1) := dk_4 (dk_at dksX4_missingOf_0 15 rfl rfl)
theorem dX4_missingOf_16 : decode cX4_missingOf 16 = .ok (.iadd, 1) := dk_96 (dk_at dksX4_missingOf_0 16 rfl rfl)
theorem dX4_missingOf_17 : decode cX4_missingOf 17 = .ok (.iaload, 1) := dk_46 (dk_at dksX4_missingOf_0 17 rfl rfl)
theorem dX4_missingOf_18 : decode cX4_missingOf 18 = .ok (.if_icmp .ge 26, 3) := dk_162 0 26 (dk_at dksX4_missingOf_0 18 rfl rfl)
theorem dX4_missingOf_21 : decode cX4_missingOf 21 = .ok (.iload_n 2, 1) := dk_28 (dk_at dksX4_missingOf_0 21 rfl rfl)
theorem dX4_missingOf_22 : decode cX4_missingOf 22 = .ok (.aload_n 0, 1) := dk_42 (dk_at dksX4_missingOf_0 22 rfl rfl)
theorem dX4_missingOf_23 : decode cX4_missingOf 23 = .ok (.getfield 75, 3) := dk_180 0 75 (dk_at dksX4_missingOf_1 0 rfl rfl)
theorem dX4_missingOf_26 : decode cX4_missingOf 26 = .ok (.iload_n 3, 1) := dk_29 (dk_at dksX4_missingOf_1 3 rfl rfl)
theorem dX4_missingOf_27 : decode cX4_missingOf 27 = .ok (.baload, 1) := dk_51 (dk_at dksX4_missingOf_1 4 rfl rfl)
theorem dX4_missingOf_28 : decode cX4_missingOf 28 = .ok (.ifCond .eq 7, 3) := dk_153 0 7 (dk_at dksX4_missingOf_1 5 rfl rfl)
theorem dX4_missingOf_31 : decode cX4_missingOf 31 = .ok (.iconst 1, 1) := dk_4 (dk_at dksX4_missingOf_1 8 rfl rfl)
theorem dX4_missingOf_32 : decode cX4_missingOf 32 = .ok (.goto 4, 3) := dk_167 0 4 (dk_at dksX4_missingOf_1 9 rfl rfl)
theorem dX4_missingOf_35 : decode cX4_missingOf 35 = .ok (.iconst 0, 1) := dk_3 (dk_at dksX4_missingOf_1 12 rfl rfl)
theorem dX4_missingOf_36 : decode cX4_missingOf 36 = .ok (.iadd, 1) := dk_96 (dk_at dksX4_missingOf_1 13 rfl rfl)
theorem dX4_missingOf_37 : decode cX4_missingOf 37 = .ok (.istore_n 2, 1) := dk_61 (dk_at dksX4_missingOf_1 14 rfl rfl)
theorem dX4_missingOf_38 : decode cX4_missingOf 38 = .ok (.iinc 3 1, 3) := dk_132 3 1 (dk_at dksX4_missingOf_1 15 rfl rfl)
theorem dX4_missingOf_41 : decode cX4_missingOf 41 = .ok (.goto (-32), 3) := dk_167 255 224 (dk_at dksX4_missingOf_1 18 rfl rfl)
theorem dX4_missingOf_44 : decode cX4_missingOf 44 = .ok (.iload_n 2, 1) := dk_28 (dk_at dksX4_missingOf_1 21 rfl rfl)
theorem dX4_missingOf_45 : decode cX4_missingOf 45 = .ok (.ireturn, 1) := dk_172 (dk_at dksX4_missingOf_1 22 rfl rfl)
theorem c_374_0 : LkP (OkP 374) [(0, o_push 1 (.int 0)), (1, o_istore 2 1), (2, o_aload 0 1), (3, o_get 179), (6, o_iload 1 1), (7, o_rdI 0), (8, o_istore 3 1), (9, o_iload 3 1), (10, o_aload 0 1), (11, o_get 179), (14, o_iload 1 1), (15, o_push 1 (.int 1)), (16, o_iop (fun x y => x + y)), (17, o_rdI 0), (18, o_icmp (fun x y => decide (y ≤ x)) 44), (21, o_iload 2 1), (22, o_aload 0 1), (23, o_get 183), (26, o_iload 3 1), (27, o_rdI 2), (28, o_if (fun x => decide (x = 0)) 35), (31, o_push 1 (.int 1)), (32, o_goto 36), (35, o_push 1 (.int 0)), (36, o_iop (fun x y => x + y)), (37, o_istore 2 1), (38, o_iinc 3 1), (41, o_goto 9), (44, o_iload 2 1), (45, o_ret 1)] := lkp_c (P := OkP 374) ⟨(PuOK.ok (ok_iconst dX4_missingOf_0 rfl)), m_push⟩ (
  lkp_c (P := OkP 374) ⟨(PuOK.ok (ok_istore_n dX4_missingOf_1 rfl)), m_istore⟩ (
  lkp_c (P := OkP 374) ⟨(PuOK.ok (ok_aload_n dX4_missingOf_2 rfl)), m_aload⟩ (
  lkp_c (P := OkP 374) ⟨ok_get ⟨"TollRoadModel", q3111, Or.inl rfl⟩ dX4_missingOf_3, m_get⟩ (
  lkp_c (P := OkP 374) ⟨(PuOK.ok (ok_iload_n dX4_missingOf_6 rfl)), m_iload⟩ (
  lkp_c (P := OkP 374) ⟨ok_iald dX4_missingOf_7, m_rdI⟩ (
  lkp_c (P := OkP 374) ⟨(PuOK.ok (ok_istore_n dX4_missingOf_8 rfl)), m_istore⟩ (
  lkp_c (P := OkP 374) ⟨(PuOK.ok (ok_iload_n dX4_missingOf_9 rfl)), m_iload⟩ (
  lkp_c (P := OkP 374) ⟨(PuOK.ok (ok_aload_n dX4_missingOf_10 rfl)), m_aload⟩ (
  lkp_c (P := OkP 374) ⟨ok_get ⟨"TollRoadModel", q3111, Or.inl rfl⟩ dX4_missingOf_11, m_get⟩ (
  lkp_c (P := OkP 374) ⟨(PuOK.ok (ok_iload_n dX4_missingOf_14 rfl)), m_iload⟩ (
  lkp_c (P := OkP 374) ⟨(PuOK.ok (ok_iconst dX4_missingOf_15 rfl)), m_push⟩ (
  lkp_c (P := OkP 374) ⟨(PuOK.ok (ok_iadd dX4_missingOf_16)), m_iop⟩ (
  lkp_c (P := OkP 374) ⟨ok_iald dX4_missingOf_17, m_rdI⟩ (
  lkp_c (P := OkP 374) ⟨(PuOK.ok (ok_icmp_ge dX4_missingOf_18 rfl)), m_icmp⟩ (
  lkp_c (P := OkP 374) ⟨(PuOK.ok (ok_iload_n dX4_missingOf_21 rfl)), m_iload⟩ (
  lkp_c (P := OkP 374) ⟨(PuOK.ok (ok_aload_n dX4_missingOf_22 rfl)), m_aload⟩ (
  lkp_c (P := OkP 374) ⟨ok_get ⟨"TollRoadModel", q3115, Or.inl rfl⟩ dX4_missingOf_23, m_get⟩ (
  lkp_c (P := OkP 374) ⟨(PuOK.ok (ok_iload_n dX4_missingOf_26 rfl)), m_iload⟩ (
  lkp_c (P := OkP 374) ⟨ok_zald dX4_missingOf_27, m_rdI⟩ (
  lkp_c (P := OkP 374) ⟨(PuOK.ok (ok_if_eq dX4_missingOf_28 rfl)), m_if⟩ (
  lkp_c (P := OkP 374) ⟨(PuOK.ok (ok_iconst dX4_missingOf_31 rfl)), m_push⟩ (
  lkp_c (P := OkP 374) ⟨(PuOK.ok (ok_goto dX4_missingOf_32 rfl)), m_goto⟩ (
  lkp_c (P := OkP 374) ⟨(PuOK.ok (ok_iconst dX4_missingOf_35 rfl)), m_push⟩ (
  lkp_c (P := OkP 374) ⟨(PuOK.ok (ok_iadd dX4_missingOf_36)), m_iop⟩ (
  lkp_c (P := OkP 374) ⟨(PuOK.ok (ok_istore_n dX4_missingOf_37 rfl)), m_istore⟩ (
  lkp_c (P := OkP 374) ⟨(PuOK.ok (ok_iinc dX4_missingOf_38 rfl)), m_iinc⟩ (
  lkp_c (P := OkP 374) ⟨(PuOK.ok (ok_goto dX4_missingOf_41 rfl)), m_goto⟩ (
  lkp_c (P := OkP 374) ⟨(PuOK.ok (ok_iload_n dX4_missingOf_44 rfl)), m_iload⟩ (
  lkp_c (P := OkP 374) ⟨ok_iret rfl rfl (by decide) dX4_missingOf_45, m_ret⟩ (
  trivial))))))))))))))))))))))))))))))
theorem mt_374 : MtOK TB NT IT 374 := ⟨by decide +kernel, rfl, (fun h => by cases h), Or.inl ⟨rfl, rfl⟩, rfl, by decide, lk2_all (P := OkP 374) ⟨c_374_0, trivial⟩⟩
def dkwX4_tripGantry_2 : List UInt8 := [46, 172]
abbrev dktX4_tripGantry_2 : List UInt8 := dkwX4_tripGantry_2 ++ []
def dkwX4_tripGantry_1 : List UInt8 := [184, 0, 91, 154, 0, 9, 42, 4, 182, 0, 87, 172, 42, 180, 0, 72, 42, 180, 0, 63, 28, 46, 29, 96]
abbrev dktX4_tripGantry_1 : List UInt8 := dkwX4_tripGantry_1 ++ dktX4_tripGantry_2
def dkwX4_tripGantry_0 : List UInt8 := [42, 3, 181, 0, 81, 42, 27, 28, 182, 1, 94, 153, 0, 18, 29, 3, 42, 28, 182, 1, 104, 4, 100]
abbrev dktX4_tripGantry_0 : List UInt8 := dkwX4_tripGantry_0 ++ dktX4_tripGantry_1
theorem dksX4_tripGantry_0 : cX4_tripGantry.data.toList.drop 0 = dktX4_tripGantry_0 := by decide +kernel
theorem dksX4_tripGantry_1 : cX4_tripGantry.data.toList.drop 23 = dktX4_tripGantry_1 := dk_seg dksX4_tripGantry_0 23 rfl rfl
theorem dksX4_tripGantry_2 : cX4_tripGantry.data.toList.drop 47 = dktX4_tripGantry_2 := dk_seg dksX4_tripGantry_1 24 rfl rfl
theorem dX4_tripGantry_0 : decode cX4_tripGantry 0 = .ok (.aload_n 0, 1) := dk_42 (dk_at dksX4_tripGantry_0 0 rfl rfl)
theorem dX4_tripGantry_1 : decode cX4_tripGantry 1 = .ok (.iconst 0, 1) := dk_3 (dk_at dksX4_tripGantry_0 1 rfl rfl)
theorem dX4_tripGantry_2 : decode cX4_tripGantry 2 = .ok (.putfield 81, 3) := dk_181 0 81 (dk_at dksX4_tripGantry_0 2 rfl rfl)
theorem dX4_tripGantry_5 : decode cX4_tripGantry 5 = .ok (.aload_n 0, 1) := dk_42 (dk_at dksX4_tripGantry_0 5 rfl rfl)
theorem dX4_tripGantry_6 : decode cX4_tripGantry 6 = .ok (.iload_n 1, 1) := dk_27 (dk_at dksX4_tripGantry_0 6 rfl rfl)
theorem dX4_tripGantry_7 : decode cX4_tripGantry 7 = .ok (.iload_n 2, 1) := dk_28 (dk_at dksX4_tripGantry_0 7 rfl rfl)
theorem dX4_tripGantry_8 : decode cX4_tripGantry 8 = .ok (.invokevirtual 350, 3) := dk_182 1 94 (dk_at dksX4_tripGantry_0 8 rfl rfl)
theorem dX4_tripGantry_11 : decode cX4_tripGantry 11 = .ok (.ifCond .eq 18, 3) := dk_153 0 18 (dk_at dksX4_tripGantry_0 11 rfl rfl)
theorem dX4_tripGantry_14 : decode cX4_tripGantry 14 = .ok (.iload_n 3, 1) := dk_29 (dk_at dksX4_tripGantry_0 14 rfl rfl)
theorem dX4_tripGantry_15 : decode cX4_tripGantry 15 = .ok (.iconst 0, 1) := dk_3 (dk_at dksX4_tripGantry_0 15 rfl rfl)
theorem dX4_tripGantry_16 : decode cX4_tripGantry 16 = .ok (.aload_n 0, 1) := dk_42 (dk_at dksX4_tripGantry_0 16 rfl rfl)
theorem dX4_tripGantry_17 : decode cX4_tripGantry 17 = .ok (.iload_n 2, 1) := dk_28 (dk_at dksX4_tripGantry_0 17 rfl rfl)
theorem dX4_tripGantry_18 : decode cX4_tripGantry 18 = .ok (.invokevirtual 360, 3) := dk_182 1 104 (dk_at dksX4_tripGantry_0 18 rfl rfl)
theorem dX4_tripGantry_21 : decode cX4_tripGantry 21 = .ok (.iconst 1, 1) := dk_4 (dk_at dksX4_tripGantry_0 21 rfl rfl)
theorem dX4_tripGantry_22 : decode cX4_tripGantry 22 = .ok (.isub, 1) := dk_100 (dk_at dksX4_tripGantry_0 22 rfl rfl)
theorem dX4_tripGantry_23 : decode cX4_tripGantry 23 = .ok (.invokestatic 91, 3) := dk_184 0 91 (dk_at dksX4_tripGantry_1 0 rfl rfl)
theorem dX4_tripGantry_26 : decode cX4_tripGantry 26 = .ok (.ifCond .ne 9, 3) := dk_154 0 9 (dk_at dksX4_tripGantry_1 3 rfl rfl)
theorem dX4_tripGantry_29 : decode cX4_tripGantry 29 = .ok (.aload_n 0, 1) := dk_42 (dk_at dksX4_tripGantry_1 6 rfl rfl)
theorem dX4_tripGantry_30 : decode cX4_tripGantry 30 = .ok (.iconst 1, 1) := dk_4 (dk_at dksX4_tripGantry_1 7 rfl rfl)
theorem dX4_tripGantry_31 : decode cX4_tripGantry 31 = .ok (.invokevirtual 87, 3) := dk_182 0 87 (dk_at dksX4_tripGantry_1 8 rfl rfl)
theorem dX4_tripGantry_34 : decode cX4_tripGantry 34 = .ok (.ireturn, 1) := dk_172 (dk_at dksX4_tripGantry_1 11 rfl rfl)
theorem dX4_tripGantry_35 : decode cX4_tripGantry 35 = .ok (.aload_n 0, 1) := dk_42 (dk_at dksX4_tripGantry_1 12 rfl rfl)
theorem dX4_tripGantry_36 : decode cX4_tripGantry 36 = .ok (.getfield 72, 3) := dk_180 0 72 (dk_at dksX4_tripGantry_1 13 rfl rfl)
theorem dX4_tripGantry_39 : decode cX4_tripGantry 39 = .ok (.aload_n 0, 1) := dk_42 (dk_at dksX4_tripGantry_1 16 rfl rfl)
theorem dX4_tripGantry_40 : decode cX4_tripGantry 40 = .ok (.getfield 63, 3) := dk_180 0 63 (dk_at dksX4_tripGantry_1 17 rfl rfl)
theorem dX4_tripGantry_43 : decode cX4_tripGantry 43 = .ok (.iload_n 2, 1) := dk_28 (dk_at dksX4_tripGantry_1 20 rfl rfl)
theorem dX4_tripGantry_44 : decode cX4_tripGantry 44 = .ok (.iaload, 1) := dk_46 (dk_at dksX4_tripGantry_1 21 rfl rfl)
theorem dX4_tripGantry_45 : decode cX4_tripGantry 45 = .ok (.iload_n 3, 1) := dk_29 (dk_at dksX4_tripGantry_1 22 rfl rfl)
theorem dX4_tripGantry_46 : decode cX4_tripGantry 46 = .ok (.iadd, 1) := dk_96 (dk_at dksX4_tripGantry_1 23 rfl rfl)
theorem dX4_tripGantry_47 : decode cX4_tripGantry 47 = .ok (.iaload, 1) := dk_46 (dk_at dksX4_tripGantry_2 0 rfl rfl)
theorem dX4_tripGantry_48 : decode cX4_tripGantry 48 = .ok (.ireturn, 1) := dk_172 (dk_at dksX4_tripGantry_2 1 rfl rfl)
theorem c_375_0 : LkP (OkP 375) [(0, o_aload 0 1), (1, o_push 1 (.int 0)), (2, o_put 155 1), (5, o_aload 0 1), (6, o_iload 1 1), (7, o_iload 2 1), (8, o_cv [(30, 370)] 2 3 false none), (11, o_if (fun x => decide (x = 0)) 29), (14, o_iload 3 1), (15, o_push 1 (.int 0)), (16, o_aload 0 1), (17, o_iload 2 1), (18, o_cv [(30, 373)] 1 3 false none), (21, o_push 1 (.int 1)), (22, o_iop (fun x y => x - y)), (23, o_cs 293 3 false none), (26, o_if (fun x => decide (¬ x = 0)) 35), (29, o_aload 0 1), (30, o_push 1 (.int 1)), (31, o_cv [(30, 291)] 1 3 false none), (34, o_ret 1), (35, o_aload 0 1), (36, o_get 182), (39, o_aload 0 1), (40, o_get 179), (43, o_iload 2 1), (44, o_rdI 0), (45, o_iload 3 1), (46, o_iop (fun x y => x + y)), (47, o_rdI 0), (48, o_ret 1)] := lkp_c (P := OkP 375) ⟨(PuOK.ok (ok_aload_n dX4_tripGantry_0 rfl)), m_aload⟩ (
  lkp_c (P := OkP 375) ⟨(PuOK.ok (ok_iconst dX4_tripGantry_1 rfl)), m_push⟩ (
  lkp_c (P := OkP 375) ⟨ok_put ⟨"TollRoadModel", q3087, Or.inl rfl⟩ rfl fd_155 rfl dX4_tripGantry_2, m_put⟩ (
  lkp_c (P := OkP 375) ⟨(PuOK.ok (ok_aload_n dX4_tripGantry_5 rfl)), m_aload⟩ (
  lkp_c (P := OkP 375) ⟨(PuOK.ok (ok_iload_n dX4_tripGantry_6 rfl)), m_iload⟩ (
  lkp_c (P := OkP 375) ⟨(PuOK.ok (ok_iload_n dX4_tripGantry_7 rfl)), m_iload⟩ (
  lkp_c (P := OkP 375) ⟨ok_cv (List.forall_mem_cons.mpr ⟨tg_V (ci := 30) (r := CLr 30) (y := 370) rfl ⟨rfl, by decide⟩ rfl q3543 q3545 qs92 q139 q3546 ⟨cn_34.1, cn_34.2, pd_126⟩ dX4_tripGantry_8, (List.forall_mem_nil _)⟩) hd_no, m_cv⟩ (
  lkp_c (P := OkP 375) ⟨(PuOK.ok (ok_if_eq dX4_tripGantry_11 rfl)), m_if⟩ (
  lkp_c (P := OkP 375) ⟨(PuOK.ok (ok_iload_n dX4_tripGantry_14 rfl)), m_iload⟩ (
  lkp_c (P := OkP 375) ⟨(PuOK.ok (ok_iconst dX4_tripGantry_15 rfl)), m_push⟩ (
  lkp_c (P := OkP 375) ⟨(PuOK.ok (ok_aload_n dX4_tripGantry_16 rfl)), m_aload⟩ (
  lkp_c (P := OkP 375) ⟨(PuOK.ok (ok_iload_n dX4_tripGantry_17 rfl)), m_iload⟩ (
  lkp_c (P := OkP 375) ⟨ok_cv (List.forall_mem_cons.mpr ⟨tg_V (ci := 30) (r := CLr 30) (y := 373) rfl ⟨rfl, by decide⟩ rfl q3555 q3557 qs95 q139 q3558 ⟨cn_34.1, cn_34.2, pd_48⟩ dX4_tripGantry_18, (List.forall_mem_nil _)⟩) hd_no, m_cv⟩ (
  lkp_c (P := OkP 375) ⟨(PuOK.ok (ok_iconst dX4_tripGantry_21 rfl)), m_push⟩ (
  lkp_c (P := OkP 375) ⟨(PuOK.ok (ok_isub dX4_tripGantry_22)), m_iop⟩ (
  lkp_c (P := OkP 375) ⟨ok_cs (tg_S ⟨rfl, by decide⟩ q3214 q3215 q139 q3216 ⟨cn_34.1, cn_34.2, pd_121⟩ dX4_tripGantry_23) hd_no, m_cs⟩ (
  lkp_c (P := OkP 375) ⟨(PuOK.ok (ok_if_ne dX4_tripGantry_26 rfl)), m_if⟩ (
  lkp_c (P := OkP 375) ⟨(PuOK.ok (ok_aload_n dX4_tripGantry_29 rfl)), m_aload⟩ (
  lkp_c (P := OkP 375) ⟨(PuOK.ok (ok_iconst dX4_tripGantry_30 rfl)), m_push⟩ (
  lkp_c (P := OkP 375) ⟨ok_cv (List.forall_mem_cons.mpr ⟨tg_V (ci := 30) (r := CLr 30) (y := 291) rfl ⟨rfl, by decide⟩ rfl q3206 q3208 qs42 q139 q3209 ⟨cn_34.1, cn_34.2, pd_48⟩ dX4_tripGantry_31, (List.forall_mem_nil _)⟩) hd_no, m_cv⟩ (
  lkp_c (P := OkP 375) ⟨ok_iret rfl rfl (by decide) dX4_tripGantry_34, m_ret⟩ (
  lkp_c (P := OkP 375) ⟨(PuOK.ok (ok_aload_n dX4_tripGantry_35 rfl)), m_aload⟩ (
  lkp_c (P := OkP 375) ⟨ok_get ⟨"TollRoadModel", q3114, Or.inl rfl⟩ dX4_tripGantry_36, m_get⟩ (
  lkp_c (P := OkP 375) ⟨(PuOK.ok (ok_aload_n dX4_tripGantry_39 rfl)), m_aload⟩ (
  lkp_c (P := OkP 375) ⟨ok_get ⟨"TollRoadModel", q3111, Or.inl rfl⟩ dX4_tripGantry_40, m_get⟩ (
  lkp_c (P := OkP 375) ⟨(PuOK.ok (ok_iload_n dX4_tripGantry_43 rfl)), m_iload⟩ (
  lkp_c (P := OkP 375) ⟨ok_iald dX4_tripGantry_44, m_rdI⟩ (
  lkp_c (P := OkP 375) ⟨(PuOK.ok (ok_iload_n dX4_tripGantry_45 rfl)), m_iload⟩ (
  lkp_c (P := OkP 375) ⟨(PuOK.ok (ok_iadd dX4_tripGantry_46)), m_iop⟩ (
  lkp_c (P := OkP 375) ⟨ok_iald dX4_tripGantry_47, m_rdI⟩ (
  lkp_c (P := OkP 375) ⟨ok_iret rfl rfl (by decide) dX4_tripGantry_48, m_ret⟩ (
  trivial)))))))))))))))))))))))))))))))
theorem mt_375 : MtOK TB NT IT 375 := ⟨by decide +kernel, rfl, (fun h => by cases h), Or.inl ⟨rfl, rfl⟩, rfl, by decide, lk2_all (P := OkP 375) ⟨c_375_0, trivial⟩⟩
def dkwX4_bill_1 : List UInt8 := [184, 0, 91, 153, 0, 12, 42, 27, 28, 182, 1, 135, 167, 0, 8, 42, 5, 182, 0, 87, 172]
abbrev dktX4_bill_1 : List UInt8 := dkwX4_bill_1 ++ []
def dkwX4_bill_0 : List UInt8 := [42, 3, 181, 0, 81, 42, 27, 182, 0, 255, 154, 0, 9, 42, 4, 182, 0, 87, 172, 28, 3, 19, 1, 134]
abbrev dktX4_bill_0 : List UInt8 := dkwX4_bill_0 ++ dktX4_bill_1
theorem dksX4_bill_0 : cX4_bill.data.toList.drop 0 = dktX4_bill_0 := by decide +kernel
theorem dksX4_bill_1 : cX4_bill.data.toList.drop 24 = dktX4_bill_1 := dk_seg dksX4_bill_0 24 rfl rfl
theorem dX4_bill_0 : decode cX4_bill 0 = .ok (.aload_n 0, 1) := dk_42 (dk_at dksX4_bill_0 0 rfl rfl)
theorem dX4_bill_1 : decode cX4_bill 1 = .ok (.iconst 0, 1) := dk_3 (dk_at dksX4_bill_0 1 rfl rfl)
theorem dX4_bill_2 : decode cX4_bill 2 = .ok (.putfield 81, 3) := dk_181 0 81 (dk_at dksX4_bill_0 2 rfl rfl)
theorem dX4_bill_5 : decode cX4_bill 5 = .ok (.aload_n 0, 1) := dk_42 (dk_at dksX4_bill_0 5 rfl rfl)
theorem dX4_bill_6 : decode cX4_bill 6 = .ok (.iload_n 1, 1) := dk_27 (dk_at dksX4_bill_0 6 rfl rfl)
theorem dX4_bill_7 : decode cX4_bill 7 = .ok (.invokevirtual 255, 3) := dk_182 0 255 (dk_at dksX4_bill_0 7 rfl rfl)
theorem dX4_bill_10 : decode cX4_bill 10 = .ok (.ifCond .ne 9, 3) := dk_154 0 9 (dk_at dksX4_bill_0 10 rfl rfl)
theorem dX4_bill_13 : decode cX4_bill 13 = .ok (.aload_n 0, 1) := dk_42 (dk_at dksX4_bill_0 13 rfl rfl)
theorem dX4_bill_14 : decode cX4_bill 14 = .ok (.iconst 1, 1) := dk_4 (dk_at dksX4_bill_0 14 rfl rfl)
theorem dX4_bill_15 : decode cX4_bill 15 = .ok (.invokevirtual 87, 3) := dk_182 0 87 (dk_at dksX4_bill_0 15 rfl rfl)
theorem dX4_bill_18 : decode cX4_bill 18 = .ok (.ireturn, 1) := dk_172 (dk_at dksX4_bill_0 18 rfl rfl)
theorem dX4_bill_19 : decode cX4_bill 19 = .ok (.iload_n 2, 1) := dk_28 (dk_at dksX4_bill_0 19 rfl rfl)
theorem dX4_bill_20 : decode cX4_bill 20 = .ok (.iconst 0, 1) := dk_3 (dk_at dksX4_bill_0 20 rfl rfl)
theorem dX4_bill_21 : decode cX4_bill 21 = .ok (.ldc_w 390, 3) := dk_19 1 134 (dk_at dksX4_bill_0 21 rfl rfl)
theorem dX4_bill_24 : decode cX4_bill 24 = .ok (.invokestatic 91, 3) := dk_184 0 91 (dk_at dksX4_bill_1 0 rfl rfl)
theorem dX4_bill_27 : decode cX4_bill 27 = .ok (.ifCond .eq 12, 3) := dk_153 0 12 (dk_at dksX4_bill_1 3 rfl rfl)
theorem dX4_bill_30 : decode cX4_bill 30 = .ok (.aload_n 0, 1) := dk_42 (dk_at dksX4_bill_1 6 rfl rfl)
theorem dX4_bill_31 : decode cX4_bill 31 = .ok (.iload_n 1, 1) := dk_27 (dk_at dksX4_bill_1 7 rfl rfl)
theorem dX4_bill_32 : decode cX4_bill 32 = .ok (.iload_n 2, 1) := dk_28 (dk_at dksX4_bill_1 8 rfl rfl)
theorem dX4_bill_33 : decode cX4_bill 33 = .ok (.invokevirtual 391, 3) := dk_182 1 135 (dk_at dksX4_bill_1 9 rfl rfl)
theorem dX4_bill_36 : decode cX4_bill 36 = .ok (.goto 8, 3) := dk_167 0 8 (dk_at dksX4_bill_1 12 rfl rfl)
theorem dX4_bill_39 : decode cX4_bill 39 = .ok (.aload_n 0, 1) := dk_42 (dk_at dksX4_bill_1 15 rfl rfl)
theorem dX4_bill_40 : decode cX4_bill 40 = .ok (.iconst 2, 1) := dk_5 (dk_at dksX4_bill_1 16 rfl rfl)
theorem dX4_bill_41 : decode cX4_bill 41 = .ok (.invokevirtual 87, 3) := dk_182 0 87 (dk_at dksX4_bill_1 17 rfl rfl)
theorem dX4_bill_44 : decode cX4_bill 44 = .ok (.ireturn, 1) := dk_172 (dk_at dksX4_bill_1 20 rfl rfl)
theorem c_376_0 : LkP (OkP 376) [(0, o_aload 0 1), (1, o_push 1 (.int 0)), (2, o_put 155 1), (5, o_aload 0 1), (6, o_iload 1 1), (7, o_cv [(30, 338)] 1 3 false none), (10, o_if (fun x => decide (¬ x = 0)) 19), (13, o_aload 0 1), (14, o_push 1 (.int 1)), (15, o_cv [(30, 291)] 1 3 false none), (18, o_ret 1), (19, o_iload 2 1), (20, o_push 1 (.int 0)), (21, o_push 3 (.int 200000)), (24, o_cs 293 3 false none), (27, o_if (fun x => decide (x = 0)) 39), (30, o_aload 0 1), (31, o_iload 1 1), (32, o_iload 2 1), (33, o_cv [(30, 377)] 2 3 false none), (36, o_goto 44), (39, o_aload 0 1), (40, o_push 1 (.int 2)), (41, o_cv [(30, 291)] 1 3 false none), (44, o_ret 1)] := lkp_c (P := OkP 376) ⟨(PuOK.ok (ok_aload_n dX4_bill_0 rfl)), m_aload⟩ (
  lkp_c (P := OkP 376) ⟨(PuOK.ok (ok_iconst dX4_bill_1 rfl)), m_push⟩ (
  lkp_c (P := OkP 376) ⟨ok_put ⟨"TollRoadModel", q3087, Or.inl rfl⟩ rfl fd_155 rfl dX4_bill_2, m_put⟩ (
  lkp_c (P := OkP 376) ⟨(PuOK.ok (ok_aload_n dX4_bill_5 rfl)), m_aload⟩ (
  lkp_c (P := OkP 376) ⟨(PuOK.ok (ok_iload_n dX4_bill_6 rfl)), m_iload⟩ (
  lkp_c (P := OkP 376) ⟨ok_cv (List.forall_mem_cons.mpr ⟨tg_V (ci := 30) (r := CLr 30) (y := 338) rfl ⟨rfl, by decide⟩ rfl q3411 q3413 qs72 q139 q3414 ⟨cn_34.1, cn_34.2, pd_77⟩ dX4_bill_7, (List.forall_mem_nil _)⟩) hd_no, m_cv⟩ (
  lkp_c (P := OkP 376) ⟨(PuOK.ok (ok_if_ne dX4_bill_10 rfl)), m_if⟩ (
  lkp_c (P := OkP 376) ⟨(PuOK.ok (ok_aload_n dX4_bill_13 rfl)), m_aload⟩ (
  lkp_c (P := OkP 376) ⟨(PuOK.ok (ok_iconst dX4_bill_14 rfl)), m_push⟩ (
  lkp_c (P := OkP 376) ⟨ok_cv (List.forall_mem_cons.mpr ⟨tg_V (ci := 30) (r := CLr 30) (y := 291) rfl ⟨rfl, by decide⟩ rfl q3206 q3208 qs42 q139 q3209 ⟨cn_34.1, cn_34.2, pd_48⟩ dX4_bill_15, (List.forall_mem_nil _)⟩) hd_no, m_cv⟩ (
  lkp_c (P := OkP 376) ⟨ok_iret rfl rfl (by decide) dX4_bill_18, m_ret⟩ (
  lkp_c (P := OkP 376) ⟨(PuOK.ok (ok_iload_n dX4_bill_19 rfl)), m_iload⟩ (
  lkp_c (P := OkP 376) ⟨(PuOK.ok (ok_iconst dX4_bill_20 rfl)), m_push⟩ (
  lkp_c (P := OkP 376) ⟨(PuOK.ok (ok_ldcw q3571 dX4_bill_21)), m_push⟩ (
  lkp_c (P := OkP 376) ⟨ok_cs (tg_S ⟨rfl, by decide⟩ q3214 q3215 q139 q3216 ⟨cn_34.1, cn_34.2, pd_121⟩ dX4_bill_24) hd_no, m_cs⟩ (
  lkp_c (P := OkP 376) ⟨(PuOK.ok (ok_if_eq dX4_bill_27 rfl)), m_if⟩ (
  lkp_c (P := OkP 376) ⟨(PuOK.ok (ok_aload_n dX4_bill_30 rfl)), m_aload⟩ (
  lkp_c (P := OkP 376) ⟨(PuOK.ok (ok_iload_n dX4_bill_31 rfl)), m_iload⟩ (
  lkp_c (P := OkP 376) ⟨(PuOK.ok (ok_iload_n dX4_bill_32 rfl)), m_iload⟩ (
  lkp_c (P := OkP 376) ⟨ok_cv (List.forall_mem_cons.mpr ⟨tg_V (ci := 30) (r := CLr 30) (y := 377) rfl ⟨rfl, by decide⟩ rfl q3572 q3574 qs97 q139 q3575 ⟨cn_34.1, cn_34.2, pd_1⟩ dX4_bill_33, (List.forall_mem_nil _)⟩) hd_no, m_cv⟩ (
  lkp_c (P := OkP 376) ⟨(PuOK.ok (ok_goto dX4_bill_36 rfl)), m_goto⟩ (
  lkp_c (P := OkP 376) ⟨(PuOK.ok (ok_aload_n dX4_bill_39 rfl)), m_aload⟩ (
  lkp_c (P := OkP 376) ⟨(PuOK.ok (ok_iconst dX4_bill_40 rfl)), m_push⟩ (
  lkp_c (P := OkP 376) ⟨ok_cv (List.forall_mem_cons.mpr ⟨tg_V (ci := 30) (r := CLr 30) (y := 291) rfl ⟨rfl, by decide⟩ rfl q3206 q3208 qs42 q139 q3209 ⟨cn_34.1, cn_34.2, pd_48⟩ dX4_bill_41, (List.forall_mem_nil _)⟩) hd_no, m_cv⟩ (
  lkp_c (P := OkP 376) ⟨ok_iret rfl rfl (by decide) dX4_bill_44, m_ret⟩ (
  trivial)))))))))))))))))))))))))
theorem mt_376 : MtOK TB NT IT 376 := ⟨by decide +kernel, rfl, (fun h => by cases h), Or.inl ⟨rfl, rfl⟩, rfl, by decide, lk2_all (P := OkP 376) ⟨c_376_0, trivial⟩⟩
def dkwX4_billOne_2 : List UInt8 := [29, 172]
abbrev dktX4_billOne_2 : List UInt8 := dkwX4_billOne_2 ++ []
def dkwX4_billOne_1 : List UInt8 := [162, 0, 24, 42, 29, 28, 182, 1, 128, 153, 0, 15, 42, 27, 29, 182, 1, 131, 132, 3, 1, 167, 255, 218]
abbrev dktX4_billOne_1 : List UInt8 := dkwX4_billOne_1 ++ dktX4_billOne_2
def dkwX4_billOne_0 : List UInt8 := [42, 27, 182, 1, 91, 3, 62, 29, 42, 180, 1, 75, 162, 0, 36, 42, 180, 0, 7, 16, 13, 46, 16, 60]
abbrev dktX4_billOne_0 : List UInt8 := dkwX4_billOne_0 ++ dktX4_billOne_1
theorem dksX4_billOne_0 : cX4_billOne.data.toList.drop 0 = dktX4_billOne_0 := by decide +kernel
theorem dksX4_billOne_1 : cX4_billOne.data.toList.drop 24 = dktX4_billOne_1 := dk_seg dksX4_billOne_0 24 rfl rfl
theorem dksX4_billOne_2 : cX4_billOne.data.toList.drop 48 = dktX4_billOne_2 := dk_seg dksX4_billOne_1 24 rfl rfl
theorem dX4_billOne_0 : decode cX4_billOne 0 = .ok (.aload_n 0, 1) := dk_42 (dk_at dksX4_billOne_0 0 rfl rfl)
theorem dX4_billOne_1 : decode cX4_billOne 1 = .ok (.iload_n 1, 1) := dk_27 (dk_at dksX4_billOne_0 1 rfl rfl)
theorem dX4_billOne_2 : decode cX4_billOne 2 = .ok (.invokevirtual 347, 3) := dk_182 1 91 (dk_at dksX4_billOne_0 2 rfl rfl)
theorem dX4_billOne_5 : decode cX4_billOne 5 = .ok (.iconst 0, 1) := dk_3 (dk_at dksX4_billOne_0 5 rfl rfl)
theorem dX4_billOne_6 : decode cX4_billOne 6 = .ok (.istore_n 3, 1) := dk_62 (dk_at dksX4_billOne_0 6 rfl rfl)
theorem dX4_billOne_7 : decode cX4_billOne 7 = .ok (.iload_n 3, 1) := dk_29 (dk_at dksX4_billOne_0 7 rfl rfl)
theorem dX4_billOne_8 : decode cX4_billOne 8 = .ok (.aload_n 0, 1) := dk_42 (dk_at dksX4_billOne_0 8 rfl rfl)
theorem dX4_billOne_9 : decode cX4_billOne 9 = .ok (.getfield 331, 3) := dk_180 1 75 (dk_at dksX4_billOne_0 9 rfl rfl)
theorem dX4_billOne_12 : decode cX4_billOne 12 = .ok (.if_icmp .ge 36, 3) := dk_162 0 36 (dk_at dksX4_billOne_0 12 rfl rfl)
theorem dX4_billOne_15 : decode cX4_billOne 15 = .ok (.aload_n 0, 1) := dk_42 (dk_at dksX4_billOne_0 15 rfl rfl)
theorem dX4_billOne_16 : decode cX4_billOne 16 = .ok (.getfield 7, 3) := dk_180 0 7 (dk_at dksX4_billOne_0 16 rfl rfl)
theorem dX4_billOne_19 : decode cX4_billOne 19 = .ok (.bipush 13, 2) := dk_16 13 (dk_at dksX4_billOne_0 19 rfl rfl)
theorem dX4_billOne_21 : decode cX4_billOne 21 = .ok (.iaload, 1) := dk_46 (dk_at dksX4_billOne_0 21 rfl rfl)
theorem dX4_billOne_22 : decode cX4_billOne 22 = .ok (.bipush 60, 2) := dk_16 60 (dk_at dksX4_billOne_0 22 rfl rfl)
theorem dX4_billOne_24 : decode cX4_billOne 24 = .ok (.if_icmp .ge 24, 3) := dk_162 0 24 (dk_at dksX4_billOne_1 0 rfl rfl)
theorem dX4_billOne_27 : decode cX4_billOne 27 = .ok (.aload_n 0, 1) := dk_42 (dk_at dksX4_billOne_1 3 rfl rfl)
theorem dX4_billOne_28 : decode cX4_billOne 28 = .ok (.iload_n 3, 1) := dk_29 (dk_at dksX4_billOne_1 4 rfl rfl)
theorem dX4_billOne_29 : decode cX4_billOne 29 = .ok (.iload_n 2, 1) := dk_28 (dk_at dksX4_billOne_1 5 rfl rfl)
theorem dX4_billOne_30 : decode cX4_billOne 30 = .ok (.invokevirtual 384, 3) := dk_182 1 128 (dk_at dksX4_billOne_1 6 rfl rfl)
theorem dX4_billOne_33 : decode cX4_billOne 33 = .ok (.ifCond .eq 15, 3) := dk_153 0 15 (dk_at dksX4_billOne_1 9 rfl rfl)
theorem dX4_billOne_36 : decode cX4_billOne 36 = .ok (.aload_n 0, 1) := dk_42 (dk_at dksX4_billOne_1 12 rfl rfl)
theorem dX4_billOne_37 : decode cX4_billOne 37 = .ok (.iload_n 1, 1) := dk_27 (dk_at dksX4_billOne_1 13 rfl rfl)
theorem dX4_billOne_38 : decode cX4_billOne 38 = .ok (.iload_n 3, 1) := dk_29 (dk_at dksX4_billOne_1 14 rfl rfl)
theorem dX4_billOne_39 : decode cX4_billOne 39 = .ok (.invokevirtual 387, 3) := dk_182 1 131 (dk_at dksX4_billOne_1 15 rfl rfl)
theorem dX4_billOne_42 : decode cX4_billOne 42 = .ok (.iinc 3 1, 3) := dk_132 3 1 (dk_at dksX4_billOne_1 18 rfl rfl)
theorem dX4_billOne_45 : decode cX4_billOne 45 = .ok (.goto (-38), 3) := dk_167 255 218 (dk_at dksX4_billOne_1 21 rfl rfl)
theorem dX4_billOne_48 : decode cX4_billOne 48 = .ok (.iload_n 3, 1) := dk_29 (dk_at dksX4_billOne_2 0 rfl rfl)
theorem dX4_billOne_49 : decode cX4_billOne 49 = .ok (.ireturn, 1) := dk_172 (dk_at dksX4_billOne_2 1 rfl rfl)
theorem c_377_0 : LkP (OkP 377) [(0, o_aload 0 1), (1, o_iload 1 1), (2, o_cv [(30, 364)] 1 3 true none), (5, o_push 1 (.int 0)), (6, o_istore 3 1), (7, o_iload 3 1), (8, o_aload 0 1), (9, o_get 185), (12, o_icmp (fun x y => decide (y ≤ x)) 48), (15, o_aload 0 1), (16, o_get 148), (19, o_push 2 (.int 13)), (21, o_rdI 0), (22, o_push 2 (.int 60)), (24, o_icmp (fun x y => decide (y ≤ x)) 48), (27, o_aload 0 1), (28, o_iload 3 1), (29, o_iload 2 1), (30, o_cv [(30, 378)] 2 3 false none), (33, o_if (fun x => decide (x = 0)) 48), (36, o_aload 0 1), (37, o_iload 1 1), (38, o_iload 3 1), (39, o_cv [(30, 379)] 2 3 true none), (42, o_iinc 3 1), (45, o_goto 7), (48, o_iload 3 1), (49, o_ret 1)] := lkp_c (P := OkP 377) ⟨(PuOK.ok (ok_aload_n dX4_billOne_0 rfl)), m_aload⟩ (
  lkp_c (P := OkP 377) ⟨(PuOK.ok (ok_iload_n dX4_billOne_1 rfl)), m_iload⟩ (
  lkp_c (P := OkP 377) ⟨ok_cv (List.forall_mem_cons.mpr ⟨tg_V (ci := 30) (r := CLr 30) (y := 364) rfl ⟨rfl, by decide⟩ rfl q3519 q3521 qs87 q139 q3522 ⟨cn_34.1, cn_34.2, pd_9⟩ dX4_billOne_2, (List.forall_mem_nil _)⟩) hd_no, m_cv⟩ (
  lkp_c (P := OkP 377) ⟨(PuOK.ok (ok_iconst dX4_billOne_5 rfl)), m_push⟩ (
  lkp_c (P := OkP 377) ⟨(PuOK.ok (ok_istore_n dX4_billOne_6 rfl)), m_istore⟩ (
  lkp_c (P := OkP 377) ⟨(PuOK.ok (ok_iload_n dX4_billOne_7 rfl)), m_iload⟩ (
  lkp_c (P := OkP 377) ⟨(PuOK.ok (ok_aload_n dX4_billOne_8 rfl)), m_aload⟩ (
  lkp_c (P := OkP 377) ⟨ok_get ⟨"TollRoadModel", q3117, Or.inl rfl⟩ dX4_billOne_9, m_get⟩ (
  lkp_c (P := OkP 377) ⟨(PuOK.ok (ok_icmp_ge dX4_billOne_12 rfl)), m_icmp⟩ (
  lkp_c (P := OkP 377) ⟨(PuOK.ok (ok_aload_n dX4_billOne_15 rfl)), m_aload⟩ (
  lkp_c (P := OkP 377) ⟨ok_get ⟨"TollRoadModel", q3080, Or.inl rfl⟩ dX4_billOne_16, m_get⟩ (
  lkp_c (P := OkP 377) ⟨(PuOK.ok (ok_bipush dX4_billOne_19 rfl)), m_push⟩ (
  lkp_c (P := OkP 377) ⟨ok_iald dX4_billOne_21, m_rdI⟩ (
  lkp_c (P := OkP 377) ⟨(PuOK.ok (ok_bipush dX4_billOne_22 rfl)), m_push⟩ (
  lkp_c (P := OkP 377) ⟨(PuOK.ok (ok_icmp_ge dX4_billOne_24 rfl)), m_icmp⟩ (
  lkp_c (P := OkP 377) ⟨(PuOK.ok (ok_aload_n dX4_billOne_27 rfl)), m_aload⟩ (
  lkp_c (P := OkP 377) ⟨(PuOK.ok (ok_iload_n dX4_billOne_28 rfl)), m_iload⟩ (
  lkp_c (P := OkP 377) ⟨(PuOK.ok (ok_iload_n dX4_billOne_29 rfl)), m_iload⟩ (
  lkp_c (P := OkP 377) ⟨ok_cv (List.forall_mem_cons.mpr ⟨tg_V (ci := 30) (r := CLr 30) (y := 378) rfl ⟨rfl, by decide⟩ rfl q3576 q3578 qs98 q139 q3579 ⟨cn_34.1, cn_34.2, pd_126⟩ dX4_billOne_30, (List.forall_mem_nil _)⟩) hd_no, m_cv⟩ (
  lkp_c (P := OkP 377) ⟨(PuOK.ok (ok_if_eq dX4_billOne_33 rfl)), m_if⟩ (
  lkp_c (P := OkP 377) ⟨(PuOK.ok (ok_aload_n dX4_billOne_36 rfl)), m_aload⟩ (
  lkp_c (P := OkP 377) ⟨(PuOK.ok (ok_iload_n dX4_billOne_37 rfl)), m_iload⟩ (
  lkp_c (P := OkP 377) ⟨(PuOK.ok (ok_iload_n dX4_billOne_38 rfl)), m_iload⟩ (
  lkp_c (P := OkP 377) ⟨ok_cv (List.forall_mem_cons.mpr ⟨tg_V (ci := 30) (r := CLr 30) (y := 379) rfl ⟨rfl, by decide⟩ rfl q3580 q3582 qs99 q139 q3583 ⟨cn_34.1, cn_34.2, pd_5⟩ dX4_billOne_39, (List.forall_mem_nil _)⟩) hd_no, m_cv⟩ (
  lkp_c (P := OkP 377) ⟨(PuOK.ok (ok_iinc dX4_billOne_42 rfl)), m_iinc⟩ (
  lkp_c (P := OkP 377) ⟨(PuOK.ok (ok_goto dX4_billOne_45 rfl)), m_goto⟩ (
  lkp_c (P := OkP 377) ⟨(PuOK.ok (ok_iload_n dX4_billOne_48 rfl)), m_iload⟩ (
  lkp_c (P := OkP 377) ⟨ok_iret rfl rfl (by decide) dX4_billOne_49, m_ret⟩ (
  trivial))))))))))))))))))))))))))))
theorem mt_377 : MtOK TB NT IT 377 := ⟨by decide +kernel, rfl, (fun h => by cases h), Or.inl ⟨rfl, rfl⟩, rfl, by decide, lk2_all (P := OkP 377) ⟨c_377_0, trivial⟩⟩
def dkwX4_isEarly_0 : List UInt8 := [42, 27, 4, 182, 1, 97, 42, 3, 182, 0, 231, 96, 28, 162, 0, 7, 4, 167, 0, 4, 3, 172]
abbrev dktX4_isEarly_0 : List UInt8 := dkwX4_isEarly_0 ++ []
theorem dksX4_isEarly_0 : cX4_isEarly.data.toList.drop 0 = dktX4_isEarly_0 := by decide +kernel
theorem dX4_isEarly_0 : decode cX4_isEarly 0 = .ok (.aload_n 0, 1) := dk_42 (dk_at dksX4_isEarly_0 0 rfl rfl)
theorem dX4_isEarly_1 : decode cX4_isEarly 1 = .ok (.iload_n 1, 1) := dk_27 (dk_at dksX4_isEarly_0 1 rfl rfl)
theorem dX4_isEarly_2 : decode cX4_isEarly 2 = .ok (.iconst 1, 1) := dk_4 (dk_at dksX4_isEarly_0 2 rfl rfl)
theorem dX4_isEarly_3 : decode cX4_isEarly 3 = .ok (.invokevirtual 353, 3) := dk_182 1 97 (dk_at dksX4_isEarly_0 3 rfl rfl)
theorem dX4_isEarly_6 : decode cX4_isEarly 6 = .ok (.aload_n 0, 1) := dk_42 (dk_at dksX4_isEarly_0 6 rfl rfl)
theorem dX4_isEarly_7 : decode cX4_isEarly 7 = .ok (.iconst 0, 1) := dk_3 (dk_at dksX4_isEarly_0 7 rfl rfl)
theorem dX4_isEarly_8 : decode cX4_isEarly 8 = .ok (.invokevirtual 231, 3) := dk_182 0 231 (dk_at dksX4_isEarly_0 8 rfl rfl)
theorem dX4_isEarly_11 : decode cX4_isEarly 11 = .ok (.iadd, 1) := dk_96 (dk_at dksX4_isEarly_0 11 rfl rfl)
theorem dX4_isEarly_12 : decode cX4_isEarly 12 = .ok (.iload_n 2, 1) := dk_28 (dk_at dksX4_isEarly_0 12 rfl rfl)
theorem dX4_isEarly_13 : decode cX4_isEarly 13 = .ok (.if_icmp .ge 7, 3) := dk_162 0 7 (dk_at dksX4_isEarly_0 13 rfl rfl)
theorem dX4_isEarly_16 : decode cX4_isEarly 16 = .ok (.iconst 1, 1) := dk_4 (dk_at dksX4_isEarly_0 16 rfl rfl)
theorem dX4_isEarly_17 : decode cX4_isEarly 17 = .ok (.goto 4, 3) := dk_167 0 4 (dk_at dksX4_isEarly_0 17 rfl rfl)
theorem dX4_isEarly_20 : decode cX4_isEarly 20 = .ok (.iconst 0, 1) := dk_3 (dk_at dksX4_isEarly_0 20 rfl rfl)
theorem dX4_isEarly_21 : decode cX4_isEarly 21 = .ok (.ireturn, 1) := dk_172 (dk_at dksX4_isEarly_0 21 rfl rfl)
theorem c_378_0 : LkP (OkP 378) [(0, o_aload 0 1), (1, o_iload 1 1), (2, o_push 1 (.int 1)), (3, o_cv [(30, 371)] 2 3 false none), (6, o_aload 0 1), (7, o_push 1 (.int 0)), (8, o_cv [(30, 328)] 1 3 false none), (11, o_iop (fun x y => x + y)), (12, o_iload 2 1), (13, o_icmp (fun x y => decide (y ≤ x)) 20), (16, o_push 1 (.int 1)), (17, o_goto 21), (20, o_push 1 (.int 0)), (21, o_ret 5)] := lkp_c (P := OkP 378) ⟨(PuOK.ok (ok_aload_n dX4_isEarly_0 rfl)), m_aload⟩ (
  lkp_c (P := OkP 378) ⟨(PuOK.ok (ok_iload_n dX4_isEarly_1 rfl)), m_iload⟩ (
  lkp_c (P := OkP 378) ⟨(PuOK.ok (ok_iconst dX4_isEarly_2 rfl)), m_push⟩ (
  lkp_c (P := OkP 378) ⟨ok_cv (List.forall_mem_cons.mpr ⟨tg_V (ci := 30) (r := CLr 30) (y := 371) rfl ⟨rfl, by decide⟩ rfl q3547 q3549 qs93 q139 q3550 ⟨cn_34.1, cn_34.2, pd_72⟩ dX4_isEarly_3, (List.forall_mem_nil _)⟩) hd_no, m_cv⟩ (
  lkp_c (P := OkP 378) ⟨(PuOK.ok (ok_aload_n dX4_isEarly_6 rfl)), m_aload⟩ (
  lkp_c (P := OkP 378) ⟨(PuOK.ok (ok_iconst dX4_isEarly_7 rfl)), m_push⟩ (
  lkp_c (P := OkP 378) ⟨ok_cv (List.forall_mem_cons.mpr ⟨tg_V (ci := 30) (r := CLr 30) (y := 328) rfl ⟨rfl, by decide⟩ rfl q3371 q3373 qs66 q139 q3374 ⟨cn_34.1, cn_34.2, pd_48⟩ dX4_isEarly_8, (List.forall_mem_nil _)⟩) hd_no, m_cv⟩ (
  lkp_c (P := OkP 378) ⟨(PuOK.ok (ok_iadd dX4_isEarly_11)), m_iop⟩ (
  lkp_c (P := OkP 378) ⟨(PuOK.ok (ok_iload_n dX4_isEarly_12 rfl)), m_iload⟩ (
  lkp_c (P := OkP 378) ⟨(PuOK.ok (ok_icmp_ge dX4_isEarly_13 rfl)), m_icmp⟩ (
  lkp_c (P := OkP 378) ⟨(PuOK.ok (ok_iconst dX4_isEarly_16 rfl)), m_push⟩ (
  lkp_c (P := OkP 378) ⟨(PuOK.ok (ok_goto dX4_isEarly_17 rfl)), m_goto⟩ (
  lkp_c (P := OkP 378) ⟨(PuOK.ok (ok_iconst dX4_isEarly_20 rfl)), m_push⟩ (
  lkp_c (P := OkP 378) ⟨ok_iret rfl rfl (by decide) dX4_isEarly_21, m_ret⟩ (
  trivial))))))))))))))
theorem mt_378 : MtOK TB NT IT 378 := ⟨by decide +kernel, rfl, (fun h => by cases h), Or.inl ⟨rfl, rfl⟩, rfl, by decide, lk2_all (P := OkP 378) ⟨c_378_0, trivial⟩⟩
def dkwX4_billTrip_14 : List UInt8 := [16, 13, 92, 46, 4, 96, 79, 177]
abbrev dktX4_billTrip_14 : List UInt8 := dkwX4_billTrip_14 ++ []
def dkwX4_billTrip_13 : List UInt8 := [42, 42, 180, 0, 57, 21, 8, 46, 16, 6, 29, 182, 1, 49, 132, 8, 1, 167, 255, 206, 42, 180, 0, 7]
abbrev dktX4_billTrip_13 : List UInt8 := dkwX4_billTrip_13 ++ dktX4_billTrip_14
def dkwX4_billTrip_12 : List UInt8 := [42, 180, 0, 60, 21, 8, 46, 28, 160, 0, 30, 42, 42, 180, 0, 57, 21, 8, 46, 8, 6, 182, 1, 49]
abbrev dktX4_billTrip_12 : List UInt8 := dkwX4_billTrip_12 ++ dktX4_billTrip_13
def dkwX4_billTrip_11 : List UInt8 := [182, 1, 122, 42, 27, 21, 4, 21, 7, 182, 1, 125, 3, 54, 8, 21, 8, 42, 180, 1, 69, 162, 0, 47]
abbrev dktX4_billTrip_11 : List UInt8 := dkwX4_billTrip_11 ++ dktX4_billTrip_12
def dkwX4_billTrip_10 : List UInt8 := [167, 0, 4, 3, 182, 1, 110, 42, 29, 16, 17, 42, 28, 4, 182, 1, 101, 182, 1, 110, 42, 29, 28]
abbrev dktX4_billTrip_10 : List UInt8 := dkwX4_billTrip_10 ++ dktX4_billTrip_11
def dkwX4_billTrip_9 : List UInt8 := [16, 14, 21, 5, 182, 1, 110, 42, 29, 16, 16, 21, 4, 2, 160, 0, 12, 42, 16, 7, 182, 0, 231]
abbrev dktX4_billTrip_9 : List UInt8 := dkwX4_billTrip_9 ++ dktX4_billTrip_10
def dkwX4_billTrip_8 : List UInt8 := [42, 29, 16, 12, 3, 182, 1, 110, 42, 29, 16, 13, 42, 27, 3, 182, 1, 2, 182, 1, 110, 42, 29]
abbrev dktX4_billTrip_8 : List UInt8 := dkwX4_billTrip_8 ++ dktX4_billTrip_9
def dkwX4_billTrip_7 : List UInt8 := [182, 1, 110, 42, 29, 16, 10, 42, 28, 3, 182, 1, 101, 182, 1, 110, 42, 29, 16, 11, 3, 182, 1, 110]
abbrev dktX4_billTrip_7 : List UInt8 := dkwX4_billTrip_7 ++ dktX4_billTrip_8
def dkwX4_billTrip_6 : List UInt8 := [182, 1, 110, 42, 29, 16, 8, 42, 28, 182, 1, 104, 182, 1, 110, 42, 29, 16, 9, 42, 28, 182, 1, 107]
abbrev dktX4_billTrip_6 : List UInt8 := dkwX4_billTrip_6 ++ dktX4_billTrip_7
def dkwX4_billTrip_5 : List UInt8 := [29, 16, 6, 42, 28, 3, 182, 1, 97, 182, 1, 110, 42, 29, 16, 7, 42, 28, 4, 182, 1, 97]
abbrev dktX4_billTrip_5 : List UInt8 := dkwX4_billTrip_5 ++ dktX4_billTrip_6
def dkwX4_billTrip_4 : List UInt8 := [108, 182, 1, 110, 42, 29, 8, 42, 16, 6, 182, 0, 231, 42, 28, 4, 182, 1, 101, 104, 182, 1, 110, 42]
abbrev dktX4_billTrip_4 : List UInt8 := dkwX4_billTrip_4 ++ dktX4_billTrip_5
def dkwX4_billTrip_3 : List UInt8 := [5, 21, 7, 182, 1, 110, 42, 29, 6, 21, 6, 182, 1, 110, 42, 29, 7, 21, 6, 21, 5, 104, 16, 100]
abbrev dktX4_billTrip_3 : List UInt8 := dkwX4_billTrip_3 ++ dktX4_billTrip_4
def dkwX4_billTrip_2 : List UInt8 := [21, 5, 182, 1, 119, 54, 7, 42, 29, 3, 27, 182, 1, 110, 42, 29, 4, 21, 4, 182, 1, 110, 42, 29]
abbrev dktX4_billTrip_2 : List UInt8 := dkwX4_billTrip_2 ++ dktX4_billTrip_3
def dkwX4_billTrip_1 : List UInt8 := [182, 1, 116, 54, 5, 42, 180, 0, 69, 28, 46, 42, 27, 3, 182, 1, 2, 104, 54, 6, 42, 27, 28]
abbrev dktX4_billTrip_1 : List UInt8 := dkwX4_billTrip_1 ++ dktX4_billTrip_2
def dkwX4_billTrip_0 : List UInt8 := [42, 180, 0, 7, 16, 13, 46, 62, 42, 27, 4, 182, 1, 2, 54, 4, 42, 27, 42, 27, 182, 1, 113]
abbrev dktX4_billTrip_0 : List UInt8 := dkwX4_billTrip_0 ++ dktX4_billTrip_1
theorem dksX4_billTrip_0 : cX4_billTrip.data.toList.drop 0 = dktX4_billTrip_0 := by decide +kernel
theorem dksX4_billTrip_1 : cX4_billTrip.data.toList.drop 23 = dktX4_billTrip_1 := dk_seg dksX4_billTrip_0 23 rfl rfl
theorem dksX4_billTrip_2 : cX4_billTrip.data.toList.drop 46 = dktX4_billTrip_2 := dk_seg dksX4_billTrip_1 23 rfl rfl
theorem dksX4_billTrip_3 : cX4_billTrip.data.toList.drop 70 = dktX4_billTrip_3 := dk_seg dksX4_billTrip_2 24 rfl rfl
theorem dksX4_billTrip_4 : cX4_billTrip.data.toList.drop 94 = dktX4_billTrip_4 := dk_seg dksX4_billTrip_3 24 rfl rfl
theorem dksX4_billTrip_5 : cX4_billTrip.data.toList.drop 118 = dktX4_billTrip_5 := dk_seg dksX4_billTrip_4 24 rfl rfl
theorem dksX4_billTrip_6 : cX4_billTrip.data.toList.drop 140 = dktX4_billTrip_6 := dk_seg dksX4_billTrip_5 22 rfl rfl
theorem dksX4_billTrip_7 : cX4_billTrip.data.toList.drop 164 = dktX4_billTrip_7 := dk_seg dksX4_billTrip_6 24 rfl rfl
theorem dksX4_billTrip_8 : cX4_billTrip.data.toList.drop 188 = dktX4_billTrip_8 := dk_seg dksX4_billTrip_7 24 rfl rfl
theorem dksX4_billTrip_9 : cX4_billTrip.data.toList.drop 211 = dktX4_billTrip_9 := dk_seg dksX4_billTrip_8 23 rfl rfl
theorem dksX4_billTrip_10 : cX4_billTrip.data.toList.drop 234 = dktX4_billTrip_10 := dk_seg dksX4_billTrip_9 23 rfl rfl
theorem dksX4_billTrip_11 : cX4_billTrip.data.toList.drop 257 = dktX4_billTrip_11 := dk_seg dksX4_billTrip_10 23 rfl rfl
theorem dksX4_billTrip_12 : cX4_billTrip.data.toList.drop 281 = dktX4_billTrip_12 := dk_seg dksX4_billTrip_11 24 rfl rfl
theorem dksX4_billTrip_13 : cX4_billTrip.data.toList.drop 305 = dktX4_billTrip_13 := dk_seg dksX4_billTrip_12 24 rfl rfl
theorem dksX4_billTrip_14 : cX4_billTrip.data.toList.drop 329 = dktX4_billTrip_14 := dk_seg dksX4_billTrip_13 24 rfl rfl
theorem dX4_billTrip_0 : decode cX4_billTrip 0 = .ok (.aload_n 0, 1) := dk_42 (dk_at dksX4_billTrip_0 0 rfl rfl)
theorem dX4_billTrip_1 : decode cX4_billTrip 1 = .ok (.getfield 7, 3) := dk_180 0 7 (dk_at dksX4_billTrip_0 1 rfl rfl)
theorem dX4_billTrip_4 : decode cX4_billTrip 4 = .ok (.bipush 13, 2) := dk_16 13 (dk_at dksX4_billTrip_0 4 rfl rfl)
theorem dX4_billTrip_6 : decode cX4_billTrip 6 = .ok (.iaload, 1) := dk_46 (dk_at dksX4_billTrip_0 6 rfl rfl)
theorem dX4_billTrip_7 : decode cX4_billTrip 7 = .ok (.istore_n 3, 1) := dk_62 (dk_at dksX4_billTrip_0 7 rfl rfl)
theorem dX4_billTrip_8 : decode cX4_billTrip 8 = .ok (.aload_n 0, 1) := dk_42 (dk_at dksX4_billTrip_0 8 rfl rfl)
theorem dX4_billTrip_9 : decode cX4_billTrip 9 = .ok (.iload_n 1, 1) := dk_27 (dk_at dksX4_billTrip_0 9 rfl rfl)
theorem dX4_billTrip_10 : decode cX4_billTrip 10 = .ok (.iconst 1, 1) := dk_4 (dk_at dksX4_billTrip_0 10 rfl rfl)
theorem dX4_billTrip_11 : decode cX4_billTrip 11 = .ok (.invokevirtual 258, 3) := dk_182 1 2 (dk_at dksX4_billTrip_0 11 rfl rfl)
theorem dX4_billTrip_14 : decode cX4_billTrip 14 = .ok (.istore 4, 2) := dk_54 4 (dk_at dksX4_billTrip_0 14 rfl rfl)
theorem dX4_billTrip_16 : decode cX4_billTrip 16 = .ok (.aload_n 0, 1) := dk_42 (dk_at dksX4_billTrip_0 16 rfl rfl)
theorem dX4_billTrip_17 : decode cX4_billTrip 17 = .ok (.iload_n 1, 1) := dk_27 (dk_at dksX4_billTrip_0 17 rfl rfl)
theorem dX4_billTrip_18 : decode cX4_billTrip 18 = .ok (.aload_n 0, 1) := dk_42 (dk_at dksX4_billTrip_0 18 rfl rfl)
theorem dX4_billTrip_19 : decode cX4_billTrip 19 = .ok (.iload_n 1, 1) := dk_27 (dk_at dksX4_billTrip_0 19 rfl rfl)
theorem dX4_billTrip_20 : decode cX4_billTrip 20 = .ok (.invokevirtual 369, 3) := dk_182 1 113 (dk_at dksX4_billTrip_0 20 rfl rfl)
theorem dX4_billTrip_23 : decode cX4_billTrip 23 = .ok (.invokevirtual 372, 3) := dk_182 1 116 (dk_at dksX4_billTrip_1 0 rfl rfl)
theorem dX4_billTrip_26 : decode cX4_billTrip 26 = .ok (.istore 5, 2) := dk_54 5 (dk_at dksX4_billTrip_1 3 rfl rfl)
theorem dX4_billTrip_28 : decode cX4_billTrip 28 = .ok (.aload_n 0, 1) := dk_42 (dk_at dksX4_billTrip_1 5 rfl rfl)
theorem dX4_billTrip_29 : decode cX4_billTrip 29 = .ok (.getfield 69, 3) := dk_180 0 69 (dk_at dksX4_billTrip_1 6 rfl rfl)
theorem dX4_billTrip_32 : decode cX4_billTrip 32 = .ok (.iload_n 2, 1) := dk_28 (dk_at dksX4_billTrip_1 9 rfl rfl)
theorem dX4_billTrip_33 : decode cX4_billTrip 33 = .ok (.iaload, 1) := dk_46 (dk_at dksX4_billTrip_1 10 rfl rfl)
theorem dX4_billTrip_34 : decode cX4_billTrip 34 = .ok (.aload_n 0, 1) := dk_42 (dk_at dksX4_billTrip_1 11 rfl rfl)
theorem dX4_billTrip_35 : decode cX4_billTrip 35 = .ok (.iload_n 1, 1) := dk_27 (dk_at dksX4_billTrip_1 12 rfl rfl)
theorem dX4_billTrip_36 : decode cX4_billTrip 36 = .ok (.iconst 0, 1) := dk_3 (dk_at dksX4_billTrip_1 13 rfl rfl)
theorem dX4_billTrip_37 : decode cX4_billTrip 37 = .ok (.invokevirtual 258, 3) := dk_182 1 2 (dk_at dksX4_billTrip_1 14 rfl rfl)
theorem dX4_billTrip_40 : decode cX4_billTrip 40 = .ok (.imul, 1) := dk_104 (dk_at dksX4_billTrip_1 17 rfl rfl)
theorem dX4_billTrip_41 : decode cX4_billTrip 41 = .ok (.istore 6, 2) := dk_54 6 (dk_at dksX4_billTrip_1 18 rfl rfl)
theorem dX4_billTrip_43 : decode cX4_billTrip 43 = .ok (.aload_n 0, 1) := dk_42 (dk_at dksX4_billTrip_1 20 rfl rfl)
theorem dX4_billTrip_44 : decode cX4_billTrip 44 = .ok (.iload_n 1, 1) := dk_27 (dk_at dksX4_billTrip_1 21 rfl rfl)
theorem dX4_billTrip_45 : decode cX4_billTrip 45 = .ok (.iload_n 2, 1) := dk_28 (dk_at dksX4_billTrip_1 22 rfl rfl)
theorem dX4_billTrip_46 : decode cX4_billTrip 46 = .ok (.iload 5, 2) := dk_21 5 (dk_at dksX4_billTrip_2 0 rfl rfl)
theorem dX4_billTrip_48 : decode cX4_billTrip 48 = .ok (.invokevirtual 375, 3) := dk_182 1 119 (dk_at dksX4_billTrip_2 2 rfl rfl)
theorem dX4_billTrip_51 : decode cX4_billTrip 51 = .ok (.istore 7, 2) := dk_54 7 (dk_at dksX4_billTrip_2 5 rfl rfl)
theorem dX4_billTrip_53 : decode cX4_billTrip 53 = .ok (.aload_n 0, 1) := dk_42 (dk_at dksX4_billTrip_2 7 rfl rfl)
theorem dX4_billTrip_54 : decode cX4_billTrip 54 = .ok (.iload_n 3, 1) := dk_29 (dk_at dksX4_billTrip_2 8 rfl rfl)
theorem dX4_billTrip_55 : decode cX4_billTrip 55 = .ok (.iconst 0, 1) := dk_3 (dk_at dksX4_billTrip_2 9 rfl rfl)
theorem dX4_billTrip_56 : decode cX4_billTrip 56 = .ok (.iload_n 1, 1) := dk_27 (dk_at dksX4_billTrip_2 10 rfl rfl)
theorem dX4_billTrip_57 : decode cX4_billTrip 57 = .ok (.invokevirtual 366, 3) := dk_182 1 110 (dk_at dksX4_billTrip_2 11 rfl rfl)
theorem dX4_billTrip_60 : decode cX4_billTrip 60 = .ok (.aload_n 0, 1) := dk_42 (dk_at dksX4_billTrip_2 14 rfl rfl)
theorem dX4_billTrip_61 : decode cX4_billTrip 61 = .ok (.iload_n 3, 1) := dk_29 (dk_at dksX4_billTrip_2 15 rfl rfl)
theorem dX4_billTrip_62 : decode cX4_billTrip 62 = .ok (.iconst 1, 1) := dk_4 (dk_at dksX4_billTrip_2 16 rfl rfl)
theorem dX4_billTrip_63 : decode cX4_billTrip 63 = .ok (.iload 4, 2) := dk_21 4 (dk_at dksX4_billTrip_2 17 rfl rfl)
theorem dX4_billTrip_65 : decode cX4_billTrip 65 = .ok (.invokevirtual 366, 3) := dk_182 1 110 (dk_at dksX4_billTrip_2 19 rfl rfl)
theorem dX4_billTrip_68 : decode cX4_billTrip 68 = .ok (.aload_n 0, 1) := dk_42 (dk_at dksX4_billTrip_2 22 rfl rfl)
theorem dX4_billTrip_69 : decode cX4_billTrip 69 = .ok (.iload_n 3, 1) := dk_29 (dk_at dksX4_billTrip_2 23 rfl rfl)
theorem dX4_billTrip_70 : decode cX4_billTrip 70 = .ok (.iconst 2, 1) := dk_5 (dk_at dksX4_billTrip_3 0 rfl rfl)
theorem dX4_billTrip_71 : decode cX4_billTrip 71 = .ok (.iload 7, 2) := dk_21 7 (dk_at dksX4_billTrip_3 1 rfl rfl)
theorem dX4_billTrip_73 : decode cX4_billTrip 73 = .ok (.invokevirtual 366, 3) := dk_182 1 110 (dk_at dksX4_billTrip_3 3 rfl rfl)
theorem dX4_billTrip_76 : decode cX4_billTrip 76 = .ok (.aload_n 0, 1) := dk_42 (dk_at dksX4_billTrip_3 6 rfl rfl)
theorem dX4_billTrip_77 : decode cX4_billTrip 77 = .ok (.iload_n 3, 1) := dk_29 (dk_at dksX4_billTrip_3 7 rfl rfl)
theorem dX4_billTrip_78 : decode cX4_billTrip 78 = .ok (.iconst 3, 1) := dk_6 (dk_at dksX4_billTrip_3 8 rfl rfl)
theorem dX4_billTrip_79 : decode cX4_billTrip 79 = .ok (.iload 6, 2) := dk_21 6 (dk_at dksX4_billTrip_3 9 rfl rfl)
theorem dX4_billTrip_81 : decode cX4_billTrip 81 = .ok (.invokevirtual 366, 3) := dk_182 1 110 (dk_at dksX4_billTrip_3 11 rfl rfl)
theorem dX4_billTrip_84 : decode cX4_billTrip 84 = .ok (.aload_n 0, 1) := dk_42 (dk_at dksX4_billTrip_3 14 rfl rfl)
theorem dX4_billTrip_85 : decode cX4_billTrip 85 = .ok (.iload_n 3, 1) := dk_29 (dk_at dksX4_billTrip_3 15 rfl rfl)
theorem dX4_billTrip_86 : decode cX4_billTrip 86 = .ok (.iconst 4, 1) := dk_7 (dk_at dksX4_billTrip_3 16 rfl rfl)
theorem dX4_billTrip_87 : decode cX4_billTrip 87 = .ok (.iload 6, 2) := dk_21 6 (dk_at dksX4_billTrip_3 17 rfl rfl)
theorem dX4_billTrip_89 : decode cX4_billTrip 89 = .ok (.iload 5, 2) := dk_21 5 (dk_at dksX4_billTrip_3 19 rfl rfl)
theorem dX4_billTrip_91 : decode cX4_billTrip 91 = .ok (.imul, 1) := dk_104 (dk_at dksX4_billTrip_3 21 rfl rfl)
theorem dX4_billTrip_92 : decode cX4_billTrip 92 = .ok (.bipush 100, 2) := dk_16 100 (dk_at dksX4_billTrip_3 22 rfl rfl)
theorem dX4_billTrip_94 : decode cX4_billTrip 94 = .ok (.idiv, 1) := dk_108 (dk_at dksX4_billTrip_4 0 rfl rfl)
theorem dX4_billTrip_95 : decode cX4_billTrip 95 = .ok (.invokevirtual 366, 3) := dk_182 1 110 (dk_at dksX4_billTrip_4 1 rfl rfl)
theorem dX4_billTrip_98 : decode cX4_billTrip 98 = .ok (.aload_n 0, 1) := dk_42 (dk_at dksX4_billTrip_4 4 rfl rfl)
theorem dX4_billTrip_99 : decode cX4_billTrip 99 = .ok (.iload_n 3, 1) := dk_29 (dk_at dksX4_billTrip_4 5 rfl rfl)
theorem dX4_billTrip_100 : decode cX4_billTrip 100 = .ok (.iconst 5, 1) := dk_8 (dk_at dksX4_billTrip_4 6 rfl rfl)
theorem dX4_billTrip_101 : decode cX4_billTrip 101 = .ok (.aload_n 0, 1) := dk_42 (dk_at dksX4_billTrip_4 7 rfl rfl)
theorem dX4_billTrip_102 : decode cX4_billTrip 102 = .ok (.bipush 6, 2) := dk_16 6 (dk_at dksX4_billTrip_4 8 rfl rfl)
theorem dX4_billTrip_104 : decode cX4_billTrip 104 = .ok (.invokevirtual 231, 3) := dk_182 0 231 (dk_at dksX4_billTrip_4 10 rfl rfl)
theorem dX4_billTrip_107 : decode cX4_billTrip 107 = .ok (.aload_n 0, 1) := dk_42 (dk_at dksX4_billTrip_4 13 rfl rfl)
theorem dX4_billTrip_108 : decode cX4_billTrip 108 = .ok (.iload_n 2, 1) := dk_28 (dk_at dksX4_billTrip_4 14 rfl rfl)
theorem dX4_billTrip_109 : decode cX4_billTrip 109 = .ok (.iconst 1, 1) := dk_4 (dk_at dksX4_billTrip_4 15 rfl rfl)
theorem dX4_billTrip_110 : decode cX4_billTrip 110 = .ok (.invokevirtual 357, 3) := dk_182 1 101 (dk_at dksX4_billTrip_4 16 rfl rfl)
theorem dX4_billTrip_113 : decode cX4_billTrip 113 = .ok (.imul, 1) := dk_104 (dk_at dksX4_billTrip_4 19 rfl rfl)
theorem dX4_billTrip_114 : decode cX4_billTrip 114 = .ok (.invokevirtual 366, 3) := dk_182 1 110 (dk_at dksX4_billTrip_4 20 rfl rfl)
theorem dX4_billTrip_117 : decode cX4_billTrip 117 = .ok (.aload_n 0, 1) := dk_42 (dk_at dksX4_billTrip_4 23 rfl rfl)
theorem dX4_billTrip_118 : decode cX4_billTrip 118 = .ok (.iload_n 3, 1) := dk_29 (dk_at dksX4_billTrip_5 0 rfl rfl)
theorem dX4_billTrip_119 : decode cX4_billTrip 119 = .ok (.bipush 6, 2) := dk_16 6 (dk_at dksX4_billTrip_5 1 rfl rfl)
theorem dX4_billTrip_121 : decode cX4_billTrip 121 = .ok (.aload_n 0, 1) := dk_42 (dk_at dksX4_billTrip_5 3 rfl rfl)
theorem dX4_billTrip_122 : decode cX4_billTrip 122 = .ok (.iload_n 2, 1) := dk_28 (dk_at dksX4_billTrip_5 4 rfl rfl)
theorem dX4_billTrip_123 : decode cX4_billTrip 123 = .ok (.iconst 0, 1) := dk_3 (dk_at dksX4_billTrip_5 5 rfl rfl)
theorem dX4_billTrip_124 : decode cX4_billTrip 124 = .ok (.invokevirtual 353, 3) := dk_182 1 97 (dk_at dksX4_billTrip_5 6 rfl rfl)
theorem dX4_billTrip_127 : decode cX4_billTrip 127 = .ok (.invokevirtual 366, 3) := dk_182 1 110 (dk_at dksX4_billTrip_5 9 rfl rfl)
theorem dX4_billTrip_130 : decode cX4_billTrip 130 = .ok (.aload_n 0, 1) := dk_42 (dk_at dksX4_billTrip_5 12 rfl rfl)
theorem dX4_billTrip_131 : decode cX4_billTrip 131 = .ok (.iload_n 3, 1) := dk_29 (dk_at dksX4_billTrip_5 13 rfl rfl)
theorem dX4_billTrip_132 : decode cX4_billTrip 132 = .ok (.bipush 7, 2) := dk_16 7 (dk_at dksX4_billTrip_5 14 rfl rfl)
theorem dX4_billTrip_134 : decode cX4_billTrip 134 = .ok (.aload_n 0, 1) := dk_42 (dk_at dksX4_billTrip_5 16 rfl rfl)
theorem dX4_billTrip_135 : decode cX4_billTrip 135 = .ok (.iload_n 2, 1) := dk_28 (dk_at dksX4_billTrip_5 17 rfl rfl)
theorem dX4_billTrip_136 : decode cX4_billTrip 136 = .ok (.iconst 1, 1) := dk_4 (dk_at dksX4_billTrip_5 18 rfl rfl)
theorem dX4_billTrip_137 : decode cX4_billTrip 137 = .ok (.invokevirtual 353, 3) := dk_182 1 97 (dk_at dksX4_billTrip_5 19 rfl rfl)
theorem dX4_billTrip_140 : decode cX4_billTrip 140 = .ok (.invokevirtual 366, 3) := dk_182 1 110 (dk_at dksX4_billTrip_6 0 rfl rfl)
theorem dX4_billTrip_143 : decode cX4_billTrip 143 = .ok (.aload_n 0, 1) := dk_42 (dk_at dksX4_billTrip_6 3 rfl rfl)
theorem dX4_billTrip_144 : decode cX4_billTrip 144 = .ok (.iload_n 3, 1) := dk_29 (dk_at dksX4_billTrip_6 4 rfl rfl)
theorem dX4_billTrip_145 : decode cX4_billTrip 145 = .ok (.bipush 8, 2) := dk_16 8 (dk_at dksX4_billTrip_6 5 rfl rfl)
theorem dX4_billTrip_147 : decode cX4_billTrip 147 = .ok (.aload_n 0, 1) := dk_42 (dk_at dksX4_billTrip_6 7 rfl rfl)
theorem dX4_billTrip_148 : decode cX4_billTrip 148 = .ok (.iload_n 2, 1) := dk_28 (dk_at dksX4_billTrip_6 8 rfl rfl)
theorem dX4_billTrip_149 : decode cX4_billTrip 149 = .ok (.invokevirtual 360, 3) := dk_182 1 104 (dk_at dksX4_billTrip_6 9 rfl rfl)
theorem dX4_billTrip_152 : decode cX4_billTrip 152 = .ok (.invokevirtual 366, 3) := dk_182 1 110 (dk_at dksX4_billTrip_6 12 rfl rfl)
theorem dX4_billTrip_155 : decode cX4_billTrip 155 = .ok (.aload_n 0, 1) := dk_42 (dk_at dksX4_billTrip_6 15 rfl rfl)
theorem dX4_billTrip_156 : decode cX4_billTrip 156 = .ok (.iload_n 3, 1) := dk_29 (dk_at dksX4_billTrip_6 16 rfl rfl)
theorem dX4_billTrip_157 : decode cX4_billTrip 157 = .ok (.bipush 9, 2) := dk_16 9 (dk_at dksX4_billTrip_6 17 rfl rfl)
theorem dX4_billTrip_159 : decode cX4_billTrip 159 = .ok (.aload_n 0, 1) := dk_42 (dk_at dksX4_billTrip_6 19 rfl rfl)
theorem dX4_billTrip_160 : decode cX4_billTrip 160 = .ok (.iload_n 2, 1) := dk_28 (dk_at dksX4_billTrip_6 20 rfl rfl)
theorem dX4_billTrip_161 : decode cX4_billTrip 161 = .ok (.invokevirtual 363, 3) := dk_182 1 107 (dk_at dksX4_billTrip_6 21 rfl rfl)
theorem dX4_billTrip_164 : decode cX4_billTrip 164 = .ok (.invokevirtual 366, 3) := dk_182 1 110 (dk_at dksX4_billTrip_7 0 rfl rfl)
theorem dX4_billTrip_167 : decode cX4_billTrip 167 = .ok (.aload_n 0, 1) := dk_42 (dk_at dksX4_billTrip_7 3 rfl rfl)
theorem dX4_billTrip_168 : decode cX4_billTrip 168 = .ok (.iload_n 3, 1) := dk_29 (dk_at dksX4_billTrip_7 4 rfl rfl)
theorem dX4_billTrip_169 : decode cX4_billTrip 169 = .ok (.bipush 10, 2) := dk_16 10 (dk_at dksX4_billTrip_7 5 rfl rfl)
theorem dX4_billTrip_171 : decode cX4_billTrip 171 = .ok (.aload_n 0, 1) := dk_42 (dk_at dksX4_billTrip_7 7 rfl rfl)
theorem dX4_billTrip_172 : decode cX4_billTrip 172 = .ok (.iload_n 2, 1) := dk_28 (dk_at dksX4_billTrip_7 8 rfl rfl)
theorem dX4_billTrip_173 : decode cX4_billTrip 173 = .ok (.iconst 0, 1) := dk_3 (dk_at dksX4_billTrip_7 9 rfl rfl)
theorem dX4_billTrip_174 : decode cX4_billTrip 174 = .ok (.invokevirtual 357, 3) := dk_182 1 101 (dk_at dksX4_billTrip_7 10 rfl rfl)
theorem dX4_billTrip_177 : decode cX4_billTrip 177 = .ok (.invokevirtual 366, 3) := dk_182 1 110 (dk_at dksX4_billTrip_7 13 rfl rfl)
theorem dX4_billTrip_180 : decode cX4_billTrip 180 = .ok (.aload_n 0, 1) := dk_42 (dk_at dksX4_billTrip_7 16 rfl rfl)
theorem dX4_billTrip_181 : decode cX4_billTrip 181 = .ok (.iload_n 3, 1) := dk_29 (dk_at dksX4_billTrip_7 17 rfl rfl)
theorem dX4_billTrip_182 : decode cX4_billTrip 182 = .ok (.bipush 11, 2) := dk_16 11 (dk_at dksX4_billTrip_7 18 rfl rfl)
theorem dX4_billTrip_184 : decode cX4_billTrip 184 = .ok (.iconst 0, 1) := dk_3 (dk_at dksX4_billTrip_7 20 rfl rfl)
theorem dX4_billTrip_185 : decode cX4_billTrip 185 = .ok (.invokevirtual 366, 3) := dk_182 1 110 (dk_at dksX4_billTrip_7 21 rfl rfl)
theorem dX4_billTrip_188 : decode cX4_billTrip 188 = .ok (.aload_n 0, 1) := dk_42 (dk_at dksX4_billTrip_8 0 rfl rfl)
theorem dX4_billTrip_189 : decode cX4_billTrip 189 = .ok (.iload_n 3, 1) := dk_29 (dk_at dksX4_billTrip_8 1 rfl rfl)
theorem dX4_billTrip_190 : decode cX4_billTrip 190 = .ok (.bipush 12, 2) := dk_16 12 (dk_at dksX4_billTrip_8 2 rfl rfl)
theorem dX4_billTrip_192 : decode cX4_billTrip 192 = .ok (.iconst 0, 1) := dk_3 (dk_at dksX4_billTrip_8 4 rfl rfl)
theorem dX4_billTrip_193 : decode cX4_billTrip 193 = .ok (.invokevirtual 366, 3) := dk_182 1 110 (dk_at dksX4_billTrip_8 5 rfl rfl)
theorem dX4_billTrip_196 : decode cX4_billTrip 196 = .ok (.aload_n 0, 1) := dk_42 (dk_at dksX4_billTrip_8 8 rfl rfl)
theorem dX4_billTrip_197 : decode cX4_billTrip 197 = .ok (.iload_n 3, 1) := dk_29 (dk_at dksX4_billTrip_8 9 rfl rfl)
theorem dX4_billTrip_198 : decode cX4_billTrip 198 = .ok (.bipush 13, 2) := dk_16 13 (dk_at dksX4_billTrip_8 10 rfl rfl)
theorem dX4_billTrip_200 : decode cX4_billTrip 200 = .ok (.aload_n 0, 1) := dk_42 (dk_at dksX4_billTrip_8 12 rfl rfl)
theorem dX4_billTrip_201 : decode cX4_billTrip 201 = .ok (.iload_n 1, 1) := dk_27 (dk_at dksX4_billTrip_8 13 rfl rfl)
theorem dX4_billTrip_202 : decode cX4_billTrip 202 = .ok (.iconst 0, 1) := dk_3 (dk_at dksX4_billTrip_8 14 rfl rfl)
theorem dX4_billTrip_203 : decode cX4_billTrip 203 = .ok (.invokevirtual 258, 3) := dk_182 1 2 (dk_at dksX4_billTrip_8 15 rfl rfl)
theorem dX4_billTrip_206 : decode cX4_billTrip 206 = .ok (.invokevirtual 366, 3) := dk_182 1 110 (dk_at dksX4_billTrip_8 18 rfl rfl)
theorem dX4_billTrip_209 : decode cX4_billTrip 209 = .ok (.aload_n 0, 1) := dk_42 (dk_at dksX4_billTrip_8 21 rfl rfl)
theorem dX4_billTrip_210 : decode cX4_billTrip 210 = .ok (.iload_n 3, 1) := dk_29 (dk_at dksX4_billTrip_8 22 rfl rfl)
theorem dX4_billTrip_211 : decode cX4_billTrip 211 = .ok (.bipush 14, 2) := dk_16 14 (dk_at dksX4_billTrip_9 0 rfl rfl)
theorem dX4_billTrip_213 : decode cX4_billTrip 213 = .ok (.iload 5, 2) := dk_21 5 (dk_at dksX4_billTrip_9 2 rfl rfl)
theorem dX4_billTrip_215 : decode cX4_billTrip 215 = .ok (.invokevirtual 366, 3) := dk_182 1 110 (dk_at dksX4_billTrip_9 4 rfl rfl)
theorem dX4_billTrip_218 : decode cX4_billTrip 218 = .ok (.aload_n 0, 1) := dk_42 (dk_at dksX4_billTrip_9 7 rfl rfl)
theorem dX4_billTrip_219 : decode cX4_billTrip 219 = .ok (.iload_n 3, 1) := dk_29 (dk_at dksX4_billTrip_9 8 rfl rfl)
theorem dX4_billTrip_220 : decode cX4_billTrip 220 = .ok (.bipush 16, 2) := dk_16 16 (dk_at dksX4_billTrip_9 9 rfl rfl)
theorem dX4_billTrip_222 : decode cX4_billTrip 222 = .ok (.iload 4, 2) := dk_21 4 (dk_at dksX4_billTrip_9 11 rfl rfl)
theorem dX4_billTrip_224 : decode cX4_billTrip 224 = .ok (.iconst (-1), 1) := dk_2 (dk_at dksX4_billTrip_9 13 rfl rfl)
theorem dX4_billTrip_225 : decode cX4_billTrip 225 = .ok (.if_icmp .ne 12, 3) := dk_160 0 12 (dk_at dksX4_billTrip_9 14 rfl rfl)
theorem dX4_billTrip_228 : decode cX4_billTrip 228 = .ok (.aload_n 0, 1) := dk_42 (dk_at dksX4_billTrip_9 17 rfl rfl)
theorem dX4_billTrip_229 : decode cX4_billTrip 229 = .ok (.bipush 7, 2) := dk_16 7 (dk_at dksX4_billTrip_9 18 rfl rfl)
theorem dX4_billTrip_231 : decode cX4_billTrip 231 = .ok (.invokevirtual 231, 3) := dk_182 0 231 (dk_at dksX4_billTrip_9 20 rfl rfl)
theorem dX4_billTrip_234 : decode cX4_billTrip 234 = .ok (.goto 4, 3) := dk_167 0 4 (dk_at dksX4_billTrip_10 0 rfl rfl)
theorem dX4_billTrip_237 : decode cX4_billTrip 237 = .ok (.iconst 0, 1) := dk_3 (dk_at dksX4_billTrip_10 3 rfl rfl)
theorem dX4_billTrip_238 : decode cX4_billTrip 238 = .ok (.invokevirtual 366, 3) := dk_182 1 110 (dk_at dksX4_billTrip_10 4 rfl rfl)
theorem dX4_billTrip_241 : decode cX4_billTrip 241 = .ok (.aload_n 0, 1) := dk_42 (dk_at dksX4_billTrip_10 7 rfl rfl)
theorem dX4_billTrip_242 : decode cX4_billTrip 242 = .ok (.iload_n 3, 1) := dk_29 (dk_at dksX4_billTrip_10 8 rfl rfl)
theorem dX4_billTrip_243 : decode cX4_billTrip 243 = .ok (.bipush 17, 2) := dk_16 17 (dk_at dksX4_billTrip_10 9 rfl rfl)
theorem dX4_billTrip_245 : decode cX4_billTrip 245 = .ok (.aload_n 0, 1) := dk_42 (dk_at dksX4_billTrip_10 11 rfl rfl)
theorem dX4_billTrip_246 : decode cX4_billTrip 246 = .ok (.iload_n 2, 1) := dk_28 (dk_at dksX4_billTrip_10 12 rfl rfl)
theorem dX4_billTrip_247 : decode cX4_billTrip 247 = .ok (.iconst 1, 1) := dk_4 (dk_at dksX4_billTrip_10 13 rfl rfl)
theorem dX4_billTrip_248 : decode cX4_billTrip 248 = .ok (.invokevirtual 357, 3) := dk_182 1 101 (dk_at dksX4_billTrip_10 14 rfl rfl)
theorem dX4_billTrip_251 : decode cX4_billTrip 251 = .ok (.invokevirtual 366, 3) := dk_182 1 110 (dk_at dksX4_billTrip_10 17 rfl rfl)
theorem dX4_billTrip_254 : decode cX4_billTrip 254 = .ok (.aload_n 0, 1) := dk_42 (dk_at dksX4_billTrip_10 20 rfl rfl)
theorem dX4_billTrip_255 : decode cX4_billTrip 255 = .ok (.iload_n 3, 1) := dk_29 (dk_at dksX4_billTrip_10 21 rfl rfl)
theorem dX4_billTrip_256 : decode cX4_billTrip 256 = .ok (.iload_n 2, 1) := dk_28 (dk_at dksX4_billTrip_10 22 rfl rfl)
theorem dX4_billTrip_257 : decode cX4_billTrip 257 = .ok (.invokevirtual 378, 3) := dk_182 1 122 (dk_at dksX4_billTrip_11 0 rfl rfl)
theorem dX4_billTrip_260 : decode cX4_billTrip 260 = .ok (.aload_n 0, 1) := dk_42 (dk_at dksX4_billTrip_11 3 rfl rfl)
theorem dX4_billTrip_261 : decode cX4_billTrip 261 = .ok (.iload_n 1, 1) := dk_27 (dk_at dksX4_billTrip_11 4 rfl rfl)
theorem dX4_billTrip_262 : decode cX4_billTrip 262 = .ok (.iload 4, 2) := dk_21 4 (dk_at dksX4_billTrip_11 5 rfl rfl)
theorem dX4_billTrip_264 : decode cX4_billTrip 264 = .ok (.iload 7, 2) := dk_21 7 (dk_at dksX4_billTrip_11 7 rfl rfl)
theorem dX4_billTrip_266 : decode cX4_billTrip 266 = .ok (.invokevirtual 381, 3) := dk_182 1 125 (dk_at dksX4_billTrip_11 9 rfl rfl)
theorem dX4_billTrip_269 : decode cX4_billTrip 269 = .ok (.iconst 0, 1) := dk_3 (dk_at dksX4_billTrip_11 12 rfl rfl)
theorem dX4_billTrip_270 : decode cX4_billTrip 270 = .ok (.istore 8, 2) := dk_54 8 (dk_at dksX4_billTrip_11 13 rfl rfl)
theorem dX4_billTrip_272 : decode cX4_billTrip 272 = .ok (.iload 8, 2) := dk_21 8 (dk_at dksX4_billTrip_11 15 rfl rfl)
theorem dX4_billTrip_274 : decode cX4_billTrip 274 = .ok (.aload_n 0, 1) := dk_42 (dk_at dksX4_billTrip_11 17 rfl rfl)
theorem dX4_billTrip_275 : decode cX4_billTrip 275 = .ok (.getfield 325, 3) := dk_180 1 69 (dk_at dksX4_billTrip_11 18 rfl rfl)
theorem dX4_billTrip_278 : decode cX4_billTrip 278 = .ok (.if_icmp .ge 47, 3) := dk_162 0 47 (dk_at dksX4_billTrip_11 21 rfl rfl)
theorem dX4_billTrip_281 : decode cX4_billTrip 281 = .ok (.aload_n 0, 1) := dk_42 (dk_at dksX4_billTrip_12 0 rfl rfl)
theorem dX4_billTrip_282 : decode cX4_billTrip 282 = .ok (.getfield 60, 3) := dk_180 0 60 (dk_at dksX4_billTrip_12 1 rfl rfl)
theorem dX4_billTrip_285 : decode cX4_billTrip 285 = .ok (.iload 8, 2) := dk_21 8 (dk_at dksX4_billTrip_12 4 rfl rfl)
theorem dX4_billTrip_287 : decode cX4_billTrip 287 = .ok (.iaload, 1) := dk_46 (dk_at dksX4_billTrip_12 6 rfl rfl)
theorem dX4_billTrip_288 : decode cX4_billTrip 288 = .ok (.iload_n 2, 1) := dk_28 (dk_at dksX4_billTrip_12 7 rfl rfl)
theorem dX4_billTrip_289 : decode cX4_billTrip 289 = .ok (.if_icmp .ne 30, 3) := dk_160 0 30 (dk_at dksX4_billTrip_12 8 rfl rfl)
theorem dX4_billTrip_292 : decode cX4_billTrip 292 = .ok (.aload_n 0, 1) := dk_42 (dk_at dksX4_billTrip_12 11 rfl rfl)
theorem dX4_billTrip_293 : decode cX4_billTrip 293 = .ok (.aload_n 0, 1) := dk_42 (dk_at dksX4_billTrip_12 12 rfl rfl)
theorem dX4_billTrip_294 : decode cX4_billTrip 294 = .ok (.getfield 57, 3) := dk_180 0 57 (dk_at dksX4_billTrip_12 13 rfl rfl)
theorem dX4_billTrip_297 : decode cX4_billTrip 297 = .ok (.iload 8, 2) := dk_21 8 (dk_at dksX4_billTrip_12 16 rfl rfl)
theorem dX4_billTrip_299 : decode cX4_billTrip 299 = .ok (.iaload, 1) := dk_46 (dk_at dksX4_billTrip_12 18 rfl rfl)
theorem dX4_billTrip_300 : decode cX4_billTrip 300 = .ok (.iconst 5, 1) := dk_8 (dk_at dksX4_billTrip_12 19 rfl rfl)
theorem dX4_billTrip_301 : decode cX4_billTrip 301 = .ok (.iconst 3, 1) := dk_6 (dk_at dksX4_billTrip_12 20 rfl rfl)
theorem dX4_billTrip_302 : decode cX4_billTrip 302 = .ok (.invokevirtual 305, 3) := dk_182 1 49 (dk_at dksX4_billTrip_12 21 rfl rfl)
theorem dX4_billTrip_305 : decode cX4_billTrip 305 = .ok (.aload_n 0, 1) := dk_42 (dk_at dksX4_billTrip_13 0 rfl rfl)
theorem dX4_billTrip_306 : decode cX4_billTrip 306 = .ok (.aload_n 0, 1) := dk_42 (dk_at dksX4_billTrip_13 1 rfl rfl)
theorem dX4_billTrip_307 : decode cX4_billTrip 307 = .ok (.getfield 57, 3) := dk_180 0 57 (dk_at dksX4_billTrip_13 2 rfl rfl)
theorem dX4_billTrip_310 : decode cX4_billTrip 310 = .ok (.iload 8, 2) := dk_21 8 (dk_at dksX4_billTrip_13 5 rfl rfl)
theorem dX4_billTrip_312 : decode cX4_billTrip 312 = .ok (.iaload, 1) := dk_46 (dk_at dksX4_billTrip_13 7 rfl rfl)
theorem dX4_billTrip_313 : decode cX4_billTrip 313 = .ok (.bipush 6, 2) := dk_16 6 (dk_at dksX4_billTrip_13 8 rfl rfl)
theorem dX4_billTrip_315 : decode cX4_billTrip 315 = .ok (.iload_n 3, 1) := dk_29 (dk_at dksX4_billTrip_13 10 rfl rfl)
theorem dX4_billTrip_316 : decode cX4_billTrip 316 = .ok (.invokevirtual 305, 3) := dk_182 1 49 (dk_at dksX4_billTrip_13 11 rfl rfl)
theorem dX4_billTrip_319 : decode cX4_billTrip 319 = .ok (.iinc 8 1, 3) := dk_132 8 1 (dk_at dksX4_billTrip_13 14 rfl rfl)
theorem dX4_billTrip_322 : decode cX4_billTrip 322 = .ok (.goto (-50), 3) := dk_167 255 206 (dk_at dksX4_billTrip_13 17 rfl rfl)
theorem dX4_billTrip_325 : decode cX4_billTrip 325 = .ok (.aload_n 0, 1) := dk_42 (dk_at dksX4_billTrip_13 20 rfl rfl)
theorem dX4_billTrip_326 : decode cX4_billTrip 326 = .ok (.getfield 7, 3) := dk_180 0 7 (dk_at dksX4_billTrip_13 21 rfl rfl)
theorem dX4_billTrip_329 : decode cX4_billTrip 329 = .ok (.bipush 13, 2) := dk_16 13 (dk_at dksX4_billTrip_14 0 rfl rfl)
theorem dX4_billTrip_331 : decode cX4_billTrip 331 = .ok (.dup2, 1) := dk_92 (dk_at dksX4_billTrip_14 2 rfl rfl)
theorem dX4_billTrip_332 : decode cX4_billTrip 332 = .ok (.iaload, 1) := dk_46 (dk_at dksX4_billTrip_14 3 rfl rfl)
theorem dX4_billTrip_333 : decode cX4_billTrip 333 = .ok (.iconst 1, 1) := dk_4 (dk_at dksX4_billTrip_14 4 rfl rfl)
theorem dX4_billTrip_334 : decode cX4_billTrip 334 = .ok (.iadd, 1) := dk_96 (dk_at dksX4_billTrip_14 5 rfl rfl)
theorem dX4_billTrip_335 : decode cX4_billTrip 335 = .ok (.iastore, 1) := dk_79 (dk_at dksX4_billTrip_14 6 rfl rfl)
theorem dX4_billTrip_336 : decode cX4_billTrip 336 = .ok (.return_, 1) := dk_177 (dk_at dksX4_billTrip_14 7 rfl rfl)
theorem c_379_0 : LkP (OkP 379) [(0, o_aload 0 1), (1, o_get 148), (4, o_push 2 (.int 13)), (6, o_rdI 0), (7, o_istore 3 1), (8, o_aload 0 1), (9, o_iload 1 1), (10, o_push 1 (.int 1)), (11, o_cv [(30, 339)] 2 3 false none), (14, o_istore 4 2), (16, o_aload 0 1), (17, o_iload 1 1), (18, o_aload 0 1), (19, o_iload 1 1), (20, o_cv [(30, 380)] 1 3 false none), (23, o_cv [(30, 381)] 2 3 false none), (26, o_istore 5 2), (28, o_aload 0 1), (29, o_get 181), (32, o_iload 2 1), (33, o_rdI 0), (34, o_aload 0 1), (35, o_iload 1 1), (36, o_push 1 (.int 0)), (37, o_cv [(30, 339)] 2 3 false none), (40, o_iop (fun x y => x * y)), (41, o_istore 6 2), (43, o_aload 0 1), (44, o_iload 1 1), (45, o_iload 2 1), (46, o_iload 5 2), (48, o_cv [(30, 382)] 3 3 false none), (51, o_istore 7 2), (53, o_aload 0 1), (54, o_iload 3 1), (55, o_push 1 (.int 0)), (56, o_iload 1 1), (57, o_cv [(30, 383)] 3 3 true none), (60, o_aload 0 1), (61, o_iload 3 1), (62, o_push 1 (.int 1)), (63, o_iload 4 2)] := lkp_c (P := OkP 379) ⟨(PuOK.ok (ok_aload_n dX4_billTrip_0 rfl)), m_aload⟩ (
  lkp_c (P := OkP 379) ⟨ok_get ⟨"TollRoadModel", q3080, Or.inl rfl⟩ dX4_billTrip_1, m_get⟩ (
  lkp_c (P := OkP 379) ⟨(PuOK.ok (ok_bipush dX4_billTrip_4 rfl)), m_push⟩ (
  lkp_c (P := OkP 379) ⟨ok_iald dX4_billTrip_6, m_rdI⟩ (
  lkp_c (P := OkP 379) ⟨(PuOK.ok (ok_istore_n dX4_billTrip_7 rfl)), m_istore⟩ (
  lkp_c (P := OkP 379) ⟨(PuOK.ok (ok_aload_n dX4_billTrip_8 rfl)), m_aload⟩ (
  lkp_c (P := OkP 379) ⟨(PuOK.ok (ok_iload_n dX4_billTrip_9 rfl)), m_iload⟩ (
  lkp_c (P := OkP 379) ⟨(PuOK.ok (ok_iconst dX4_billTrip_10 rfl)), m_push⟩ (
  lkp_c (P := OkP 379) ⟨ok_cv (List.forall_mem_cons.mpr ⟨tg_V (ci := 30) (r := CLr 30) (y := 339) rfl ⟨rfl, by decide⟩ rfl q3415 q3417 qs73 q139 q3418 ⟨cn_34.1, cn_34.2, pd_1⟩ dX4_billTrip_11, (List.forall_mem_nil _)⟩) hd_no, m_cv⟩ (
  lkp_c (P := OkP 379) ⟨(PuOK.ok (ok_istore dX4_billTrip_14)), m_istore⟩ (
  lkp_c (P := OkP 379) ⟨(PuOK.ok (ok_aload_n dX4_billTrip_16 rfl)), m_aload⟩ (
  lkp_c (P := OkP 379) ⟨(PuOK.ok (ok_iload_n dX4_billTrip_17 rfl)), m_iload⟩ (
  lkp_c (P := OkP 379) ⟨(PuOK.ok (ok_aload_n dX4_billTrip_18 rfl)), m_aload⟩ (
  lkp_c (P := OkP 379) ⟨(PuOK.ok (ok_iload_n dX4_billTrip_19 rfl)), m_iload⟩ (
  lkp_c (P := OkP 379) ⟨ok_cv (List.forall_mem_cons.mpr ⟨tg_V (ci := 30) (r := CLr 30) (y := 380) rfl ⟨rfl, by decide⟩ rfl q3584 q3586 qs100 q139 q3587 ⟨cn_34.1, cn_34.2, pd_48⟩ dX4_billTrip_20, (List.forall_mem_nil _)⟩) hd_no, m_cv⟩ (
  lkp_c (P := OkP 379) ⟨ok_cv (List.forall_mem_cons.mpr ⟨tg_V (ci := 30) (r := CLr 30) (y := 381) rfl ⟨rfl, by decide⟩ rfl q3588 q3590 qs101 q139 q3591 ⟨cn_34.1, cn_34.2, pd_1⟩ dX4_billTrip_23, (List.forall_mem_nil _)⟩) hd_no, m_cv⟩ (
  lkp_c (P := OkP 379) ⟨(PuOK.ok (ok_istore dX4_billTrip_26)), m_istore⟩ (
  lkp_c (P := OkP 379) ⟨(PuOK.ok (ok_aload_n dX4_billTrip_28 rfl)), m_aload⟩ (
  lkp_c (P := OkP 379) ⟨ok_get ⟨"TollRoadModel", q3113, Or.inl rfl⟩ dX4_billTrip_29, m_get⟩ (
  lkp_c (P := OkP 379) ⟨(PuOK.ok (ok_iload_n dX4_billTrip_32 rfl)), m_iload⟩ (
  lkp_c (P := OkP 379) ⟨ok_iald dX4_billTrip_33, m_rdI⟩ (
  lkp_c (P := OkP 379) ⟨(PuOK.ok (ok_aload_n dX4_billTrip_34 rfl)), m_aload⟩ (
  lkp_c (P := OkP 379) ⟨(PuOK.ok (ok_iload_n dX4_billTrip_35 rfl)), m_iload⟩ (
  lkp_c (P := OkP 379) ⟨(PuOK.ok (ok_iconst dX4_billTrip_36 rfl)), m_push⟩ (
  lkp_c (P := OkP 379) ⟨ok_cv (List.forall_mem_cons.mpr ⟨tg_V (ci := 30) (r := CLr 30) (y := 339) rfl ⟨rfl, by decide⟩ rfl q3415 q3417 qs73 q139 q3418 ⟨cn_34.1, cn_34.2, pd_1⟩ dX4_billTrip_37, (List.forall_mem_nil _)⟩) hd_no, m_cv⟩ (
  lkp_c (P := OkP 379) ⟨(PuOK.ok (ok_imul dX4_billTrip_40)), m_iop⟩ (
  lkp_c (P := OkP 379) ⟨(PuOK.ok (ok_istore dX4_billTrip_41)), m_istore⟩ (
  lkp_c (P := OkP 379) ⟨(PuOK.ok (ok_aload_n dX4_billTrip_43 rfl)), m_aload⟩ (
  lkp_c (P := OkP 379) ⟨(PuOK.ok (ok_iload_n dX4_billTrip_44 rfl)), m_iload⟩ (
  lkp_c (P := OkP 379) ⟨(PuOK.ok (ok_iload_n dX4_billTrip_45 rfl)), m_iload⟩ (
  lkp_c (P := OkP 379) ⟨(PuOK.ok (ok_iload dX4_billTrip_46)), m_iload⟩ (
  lkp_c (P := OkP 379) ⟨ok_cv (List.forall_mem_cons.mpr ⟨tg_V (ci := 30) (r := CLr 30) (y := 382) rfl ⟨rfl, by decide⟩ rfl q3592 q3594 qs102 q139 q3595 ⟨cn_34.1, cn_34.2, pd_25⟩ dX4_billTrip_48, (List.forall_mem_nil _)⟩) hd_no, m_cv⟩ (
  lkp_c (P := OkP 379) ⟨(PuOK.ok (ok_istore dX4_billTrip_51)), m_istore⟩ (
  lkp_c (P := OkP 379) ⟨(PuOK.ok (ok_aload_n dX4_billTrip_53 rfl)), m_aload⟩ (
  lkp_c (P := OkP 379) ⟨(PuOK.ok (ok_iload_n dX4_billTrip_54 rfl)), m_iload⟩ (
  lkp_c (P := OkP 379) ⟨(PuOK.ok (ok_iconst dX4_billTrip_55 rfl)), m_push⟩ (
  lkp_c (P := OkP 379) ⟨(PuOK.ok (ok_iload_n dX4_billTrip_56 rfl)), m_iload⟩ (
  lkp_c (P := OkP 379) ⟨ok_cv (List.forall_mem_cons.mpr ⟨tg_V (ci := 30) (r := CLr 30) (y := 383) rfl ⟨rfl, by decide⟩ rfl q3596 q3598 qs103 q139 q3599 ⟨cn_34.1, cn_34.2, pd_105⟩ dX4_billTrip_57, (List.forall_mem_nil _)⟩) hd_no, m_cv⟩ (
  lkp_c (P := OkP 379) ⟨(PuOK.ok (ok_aload_n dX4_billTrip_60 rfl)), m_aload⟩ (
  lkp_c (P := OkP 379) ⟨(PuOK.ok (ok_iload_n dX4_billTrip_61 rfl)), m_iload⟩ (
  lkp_c (P := OkP 379) ⟨(PuOK.ok (ok_iconst dX4_billTrip_62 rfl)), m_push⟩ (
  lkp_c (P := OkP 379) ⟨(PuOK.ok (ok_iload dX4_billTrip_63)), m_iload⟩ (
  trivial))))))))))))))))))))))))))))))))))))))))))
theorem c_379_1 : LkP (OkP 379) [(65, o_cv [(30, 383)] 3 3 true none), (68, o_aload 0 1), (69, o_iload 3 1), (70, o_push 1 (.int 2)), (71, o_iload 7 2), (73, o_cv [(30, 383)] 3 3 true none), (76, o_aload 0 1), (77, o_iload 3 1), (78, o_push 1 (.int 3)), (79, o_iload 6 2), (81, o_cv [(30, 383)] 3 3 true none), (84, o_aload 0 1), (85, o_iload 3 1), (86, o_push 1 (.int 4)), (87, o_iload 6 2), (89, o_iload 5 2), (91, o_iop (fun x y => x * y)), (92, o_push 2 (.int 100)), (94, o_iopz (fun x y => x / y)), (95, o_cv [(30, 383)] 3 3 true none), (98, o_aload 0 1), (99, o_iload 3 1), (100, o_push 1 (.int 5)), (101, o_aload 0 1), (102, o_push 2 (.int 6)), (104, o_cv [(30, 328)] 1 3 false none), (107, o_aload 0 1), (108, o_iload 2 1), (109, o_push 1 (.int 1)), (110, o_cv [(30, 372)] 2 3 false none), (113, o_iop (fun x y => x * y)), (114, o_cv [(30, 383)] 3 3 true none), (117, o_aload 0 1), (118, o_iload 3 1), (119, o_push 2 (.int 6)), (121, o_aload 0 1), (122, o_iload 2 1), (123, o_push 1 (.int 0)), (124, o_cv [(30, 371)] 2 3 false none), (127, o_cv [(30, 383)] 3 3 true none)] := lkp_c (P := OkP 379) ⟨ok_cv (List.forall_mem_cons.mpr ⟨tg_V (ci := 30) (r := CLr 30) (y := 383) rfl ⟨rfl, by decide⟩ rfl q3596 q3598 qs103 q139 q3599 ⟨cn_34.1, cn_34.2, pd_105⟩ dX4_billTrip_65, (List.forall_mem_nil _)⟩) hd_no, m_cv⟩ (
  lkp_c (P := OkP 379) ⟨(PuOK.ok (ok_aload_n dX4_billTrip_68 rfl)), m_aload⟩ (
  lkp_c (P := OkP 379) ⟨(PuOK.ok (ok_iload_n dX4_billTrip_69 rfl)), m_iload⟩ (
  lkp_c (P := OkP 379) ⟨(PuOK.ok (ok_iconst dX4_billTrip_70 rfl)), m_push⟩ (
  lkp_c (P := OkP 379) ⟨(PuOK.ok (ok_iload dX4_billTrip_71)), m_iload⟩ (
  lkp_c (P := OkP 379) ⟨ok_cv (List.forall_mem_cons.mpr ⟨tg_V (ci := 30) (r := CLr 30) (y := 383) rfl ⟨rfl, by decide⟩ rfl q3596 q3598 qs103 q139 q3599 ⟨cn_34.1, cn_34.2, pd_105⟩ dX4_billTrip_73, (List.forall_mem_nil _)⟩) hd_no, m_cv⟩ (
  lkp_c (P := OkP 379) ⟨(PuOK.ok (ok_aload_n dX4_billTrip_76 rfl)), m_aload⟩ (
  lkp_c (P := OkP 379) ⟨(PuOK.ok (ok_iload_n dX4_billTrip_77 rfl)), m_iload⟩ (
  lkp_c (P := OkP 379) ⟨(PuOK.ok (ok_iconst dX4_billTrip_78 rfl)), m_push⟩ (
  lkp_c (P := OkP 379) ⟨(PuOK.ok (ok_iload dX4_billTrip_79)), m_iload⟩ (
  lkp_c (P := OkP 379) ⟨ok_cv (List.forall_mem_cons.mpr ⟨tg_V (ci := 30) (r := CLr 30) (y := 383) rfl ⟨rfl, by decide⟩ rfl q3596 q3598 qs103 q139 q3599 ⟨cn_34.1, cn_34.2, pd_105⟩ dX4_billTrip_81, (List.forall_mem_nil _)⟩) hd_no, m_cv⟩ (
  lkp_c (P := OkP 379) ⟨(PuOK.ok (ok_aload_n dX4_billTrip_84 rfl)), m_aload⟩ (
  lkp_c (P := OkP 379) ⟨(PuOK.ok (ok_iload_n dX4_billTrip_85 rfl)), m_iload⟩ (
  lkp_c (P := OkP 379) ⟨(PuOK.ok (ok_iconst dX4_billTrip_86 rfl)), m_push⟩ (
  lkp_c (P := OkP 379) ⟨(PuOK.ok (ok_iload dX4_billTrip_87)), m_iload⟩ (
  lkp_c (P := OkP 379) ⟨(PuOK.ok (ok_iload dX4_billTrip_89)), m_iload⟩ (
  lkp_c (P := OkP 379) ⟨(PuOK.ok (ok_imul dX4_billTrip_91)), m_iop⟩ (
  lkp_c (P := OkP 379) ⟨(PuOK.ok (ok_bipush dX4_billTrip_92 rfl)), m_push⟩ (
  lkp_c (P := OkP 379) ⟨(PuOK.ok (ok_idiv dX4_billTrip_94)), m_iopz⟩ (
  lkp_c (P := OkP 379) ⟨ok_cv (List.forall_mem_cons.mpr ⟨tg_V (ci := 30) (r := CLr 30) (y := 383) rfl ⟨rfl, by decide⟩ rfl q3596 q3598 qs103 q139 q3599 ⟨cn_34.1, cn_34.2, pd_105⟩ dX4_billTrip_95, (List.forall_mem_nil _)⟩) hd_no, m_cv⟩ (
  lkp_c (P := OkP 379) ⟨(PuOK.ok (ok_aload_n dX4_billTrip_98 rfl)), m_aload⟩ (
  lkp_c (P := OkP 379) ⟨(PuOK.ok (ok_iload_n dX4_billTrip_99 rfl)), m_iload⟩ (
  lkp_c (P := OkP 379) ⟨(PuOK.ok (ok_iconst dX4_billTrip_100 rfl)), m_push⟩ (
  lkp_c (P := OkP 379) ⟨(PuOK.ok (ok_aload_n dX4_billTrip_101 rfl)), m_aload⟩ (
  lkp_c (P := OkP 379) ⟨(PuOK.ok (ok_bipush dX4_billTrip_102 rfl)), m_push⟩ (
  lkp_c (P := OkP 379) ⟨ok_cv (List.forall_mem_cons.mpr ⟨tg_V (ci := 30) (r := CLr 30) (y := 328) rfl ⟨rfl, by decide⟩ rfl q3371 q3373 qs66 q139 q3374 ⟨cn_34.1, cn_34.2, pd_48⟩ dX4_billTrip_104, (List.forall_mem_nil _)⟩) hd_no, m_cv⟩ (
  lkp_c (P := OkP 379) ⟨(PuOK.ok (ok_aload_n dX4_billTrip_107 rfl)), m_aload⟩ (
  lkp_c (P := OkP 379) ⟨(PuOK.ok (ok_iload_n dX4_billTrip_108 rfl)), m_iload⟩ (
  lkp_c (P := OkP 379) ⟨(PuOK.ok (ok_iconst dX4_billTrip_109 rfl)), m_push⟩ (
  lkp_c (P := OkP 379) ⟨ok_cv (List.forall_mem_cons.mpr ⟨tg_V (ci := 30) (r := CLr 30) (y := 372) rfl ⟨rfl, by decide⟩ rfl q3551 q3553 qs94 q139 q3554 ⟨cn_34.1, cn_34.2, pd_72⟩ dX4_billTrip_110, (List.forall_mem_nil _)⟩) hd_no, m_cv⟩ (
  lkp_c (P := OkP 379) ⟨(PuOK.ok (ok_imul dX4_billTrip_113)), m_iop⟩ (
  lkp_c (P := OkP 379) ⟨ok_cv (List.forall_mem_cons.mpr ⟨tg_V (ci := 30) (r := CLr 30) (y := 383) rfl ⟨rfl, by decide⟩ rfl q3596 q3598 qs103 q139 q3599 ⟨cn_34.1, cn_34.2, pd_105⟩ dX4_billTrip_114, (List.forall_mem_nil _)⟩) hd_no, m_cv⟩ (
  lkp_c (P := OkP 379) ⟨(PuOK.ok (ok_aload_n dX4_billTrip_117 rfl)), m_aload⟩ (
  lkp_c (P := OkP 379) ⟨(PuOK.ok (ok_iload_n dX4_billTrip_118 rfl)), m_iload⟩ (
  lkp_c (P := OkP 379) ⟨(PuOK.ok (ok_bipush dX4_billTrip_119 rfl)), m_push⟩ (
  lkp_c (P := OkP 379) ⟨(PuOK.ok (ok_aload_n dX4_billTrip_121 rfl)), m_aload⟩ (
  lkp_c (P := OkP 379) ⟨(PuOK.ok (ok_iload_n dX4_billTrip_122 rfl)), m_iload⟩ (
  lkp_c (P := OkP 379) ⟨(PuOK.ok (ok_iconst dX4_billTrip_123 rfl)), m_push⟩ (
  lkp_c (P := OkP 379) ⟨ok_cv (List.forall_mem_cons.mpr ⟨tg_V (ci := 30) (r := CLr 30) (y := 371) rfl ⟨rfl, by decide⟩ rfl q3547 q3549 qs93 q139 q3550 ⟨cn_34.1, cn_34.2, pd_72⟩ dX4_billTrip_124, (List.forall_mem_nil _)⟩) hd_no, m_cv⟩ (
  lkp_c (P := OkP 379) ⟨ok_cv (List.forall_mem_cons.mpr ⟨tg_V (ci := 30) (r := CLr 30) (y := 383) rfl ⟨rfl, by decide⟩ rfl q3596 q3598 qs103 q139 q3599 ⟨cn_34.1, cn_34.2, pd_105⟩ dX4_billTrip_127, (List.forall_mem_nil _)⟩) hd_no, m_cv⟩ (
  trivial))))))))))))))))))))))))))))))))))))))))
theorem c_379_2 : LkP (OkP 379) [(130, o_aload 0 1), (131, o_iload 3 1), (132, o_push 2 (.int 7)), (134, o_aload 0 1), (135, o_iload 2 1), (136, o_push 1 (.int 1)), (137, o_cv [(30, 371)] 2 3 false none), (140, o_cv [(30, 383)] 3 3 true none), (143, o_aload 0 1), (144, o_iload 3 1), (145, o_push 2 (.int 8)), (147, o_aload 0 1), (148, o_iload 2 1), (149, o_cv [(30, 373)] 1 3 false none), (152, o_cv [(30, 383)] 3 3 true none), (155, o_aload 0 1), (156, o_iload 3 1), (157, o_push 2 (.int 9)), (159, o_aload 0 1), (160, o_iload 2 1), (161, o_cv [(30, 374)] 1 3 false none), (164, o_cv [(30, 383)] 3 3 true none), (167, o_aload 0 1), (168, o_iload 3 1), (169, o_push 2 (.int 10)), (171, o_aload 0 1), (172, o_iload 2 1), (173, o_push 1 (.int 0)), (174, o_cv [(30, 372)] 2 3 false none), (177, o_cv [(30, 383)] 3 3 true none), (180, o_aload 0 1), (181, o_iload 3 1), (182, o_push 2 (.int 11)), (184, o_push 1 (.int 0)), (185, o_cv [(30, 383)] 3 3 true none), (188, o_aload 0 1), (189, o_iload 3 1), (190, o_push 2 (.int 12))] := lkp_c (P := OkP 379) ⟨(PuOK.ok (ok_aload_n dX4_billTrip_130 rfl)), m_aload⟩ (
  lkp_c (P := OkP 379) ⟨(PuOK.ok (ok_iload_n dX4_billTrip_131 rfl)), m_iload⟩ (
  lkp_c (P := OkP 379) ⟨(PuOK.ok (ok_bipush dX4_billTrip_132 rfl)), m_push⟩ (
  lkp_c (P := OkP 379) ⟨(PuOK.ok (ok_aload_n dX4_billTrip_134 rfl)), m_aload⟩ (
  lkp_c (P := OkP 379) ⟨(PuOK.ok (ok_iload_n dX4_billTrip_135 rfl)), m_iload⟩ (
  lkp_c (P := OkP 379) ⟨(PuOK.ok (ok_iconst dX4_billTrip_136 rfl)), m_push⟩ (
  lkp_c (P := OkP 379) ⟨ok_cv (List.forall_mem_cons.mpr ⟨tg_V (ci := 30) (r := CLr 30) (y := 371) rfl ⟨rfl, by decide⟩ rfl q3547 q3549 qs93 q139 q3550 ⟨cn_34.1, cn_34.2, pd_72⟩ dX4_billTrip_137, (List.forall_mem_nil _)⟩) hd_no, m_cv⟩ (
  lkp_c (P := OkP 379) ⟨ok_cv (List.forall_mem_cons.mpr ⟨tg_V (ci := 30) (r := CLr 30) (y := 383) rfl ⟨rfl, by decide⟩ rfl q3596 q3598 qs103 q139 q3599 ⟨cn_34.1, cn_34.2, pd_105⟩ dX4_billTrip_140, (List.forall_mem_nil _)⟩) hd_no, m_cv⟩ (
  lkp_c (P := OkP 379) ⟨(PuOK.ok (ok_aload_n dX4_billTrip_143 rfl)), m_aload⟩ (
  lkp_c (P := OkP 379) ⟨(PuOK.ok (ok_iload_n dX4_billTrip_144 rfl)), m_iload⟩ (
  lkp_c (P := OkP 379) ⟨(PuOK.ok (ok_bipush dX4_billTrip_145 rfl)), m_push⟩ (
  lkp_c (P := OkP 379) ⟨(PuOK.ok (ok_aload_n dX4_billTrip_147 rfl)), m_aload⟩ (
  lkp_c (P := OkP 379) ⟨(PuOK.ok (ok_iload_n dX4_billTrip_148 rfl)), m_iload⟩ (
  lkp_c (P := OkP 379) ⟨ok_cv (List.forall_mem_cons.mpr ⟨tg_V (ci := 30) (r := CLr 30) (y := 373) rfl ⟨rfl, by decide⟩ rfl q3555 q3557 qs95 q139 q3558 ⟨cn_34.1, cn_34.2, pd_48⟩ dX4_billTrip_149, (List.forall_mem_nil _)⟩) hd_no, m_cv⟩ (
  lkp_c (P := OkP 379) ⟨ok_cv (List.forall_mem_cons.mpr ⟨tg_V (ci := 30) (r := CLr 30) (y := 383) rfl ⟨rfl, by decide⟩ rfl q3596 q3598 qs103 q139 q3599 ⟨cn_34.1, cn_34.2, pd_105⟩ dX4_billTrip_152, (List.forall_mem_nil _)⟩) hd_no, m_cv⟩ (
  lkp_c (P := OkP 379) ⟨(PuOK.ok (ok_aload_n dX4_billTrip_155 rfl)), m_aload⟩ (
  lkp_c (P := OkP 379) ⟨(PuOK.ok (ok_iload_n dX4_billTrip_156 rfl)), m_iload⟩ (
  lkp_c (P := OkP 379) ⟨(PuOK.ok (ok_bipush dX4_billTrip_157 rfl)), m_push⟩ (
  lkp_c (P := OkP 379) ⟨(PuOK.ok (ok_aload_n dX4_billTrip_159 rfl)), m_aload⟩ (
  lkp_c (P := OkP 379) ⟨(PuOK.ok (ok_iload_n dX4_billTrip_160 rfl)), m_iload⟩ (
  lkp_c (P := OkP 379) ⟨ok_cv (List.forall_mem_cons.mpr ⟨tg_V (ci := 30) (r := CLr 30) (y := 374) rfl ⟨rfl, by decide⟩ rfl q3559 q3561 qs96 q139 q3562 ⟨cn_34.1, cn_34.2, pd_48⟩ dX4_billTrip_161, (List.forall_mem_nil _)⟩) hd_no, m_cv⟩ (
  lkp_c (P := OkP 379) ⟨ok_cv (List.forall_mem_cons.mpr ⟨tg_V (ci := 30) (r := CLr 30) (y := 383) rfl ⟨rfl, by decide⟩ rfl q3596 q3598 qs103 q139 q3599 ⟨cn_34.1, cn_34.2, pd_105⟩ dX4_billTrip_164, (List.forall_mem_nil _)⟩) hd_no, m_cv⟩ (
  lkp_c (P := OkP 379) ⟨(PuOK.ok (ok_aload_n dX4_billTrip_167 rfl)), m_aload⟩ (
  lkp_c (P := OkP 379) ⟨(PuOK.ok (ok_iload_n dX4_billTrip_168 rfl)), m_iload⟩ (
  lkp_c (P := OkP 379) ⟨(PuOK.ok (ok_bipush dX4_billTrip_169 rfl)), m_push⟩ (
  lkp_c (P := OkP 379) ⟨(PuOK.ok (ok_aload_n dX4_billTrip_171 rfl)), m_aload⟩ (
  lkp_c (P := OkP 379) ⟨(PuOK.ok (ok_iload_n dX4_billTrip_172 rfl)), m_iload⟩ (
  lkp_c (P := OkP 379) ⟨(PuOK.ok (ok_iconst dX4_billTrip_173 rfl)), m_push⟩ (
  lkp_c (P := OkP 379) ⟨ok_cv (List.forall_mem_cons.mpr ⟨tg_V (ci := 30) (r := CLr 30) (y := 372) rfl ⟨rfl, by decide⟩ rfl q3551 q3553 qs94 q139 q3554 ⟨cn_34.1, cn_34.2, pd_72⟩ dX4_billTrip_174, (List.forall_mem_nil _)⟩) hd_no, m_cv⟩ (
  lkp_c (P := OkP 379) ⟨ok_cv (List.forall_mem_cons.mpr ⟨tg_V (ci := 30) (r := CLr 30) (y := 383) rfl ⟨rfl, by decide⟩ rfl q3596 q3598 qs103 q139 q3599 ⟨cn_34.1, cn_34.2, pd_105⟩ dX4_billTrip_177, (List.forall_mem_nil _)⟩) hd_no, m_cv⟩ (
  lkp_c (P := OkP 379) ⟨(PuOK.ok (ok_aload_n dX4_billTrip_180 rfl)), m_aload⟩ (
  lkp_c (P := OkP 379) ⟨(PuOK.ok (ok_iload_n dX4_billTrip_181 rfl)), m_iload⟩ (
  lkp_c (P := OkP 379) ⟨(PuOK.ok (ok_bipush dX4_billTrip_182 rfl)), m_push⟩ (
  lkp_c (P := OkP 379) ⟨(PuOK.ok (ok_iconst dX4_billTrip_184 rfl)), m_push⟩ (
  lkp_c (P := OkP 379) ⟨ok_cv (List.forall_mem_cons.mpr ⟨tg_V (ci := 30) (r := CLr 30) (y := 383) rfl ⟨rfl, by decide⟩ rfl q3596 q3598 qs103 q139 q3599 ⟨cn_34.1, cn_34.2, pd_105⟩ dX4_billTrip_185, (List.forall_mem_nil _)⟩) hd_no, m_cv⟩ (
  lkp_c (P := OkP 379) ⟨(PuOK.ok (ok_aload_n dX4_billTrip_188 rfl)), m_aload⟩ (
  lkp_c (P := OkP 379) ⟨(PuOK.ok (ok_iload_n dX4_billTrip_189 rfl)), m_iload⟩ (
  lkp_c (P := OkP 379) ⟨(PuOK.ok (ok_bipush dX4_billTrip_190 rfl)), m_push⟩ (
  trivial))))))))))))))))))))))))))))))))))))))
theorem c_379_3 : LkP (OkP 379) [(192, o_push 1 (.int 0)), (193, o_cv [(30, 383)] 3 3 true none), (196, o_aload 0 1), (197, o_iload 3 1), (198, o_push 2 (.int 13)), (200, o_aload 0 1), (201, o_iload 1 1), (202, o_push 1 (.int 0)), (203, o_cv [(30, 339)] 2 3 false none), (206, o_cv [(30, 383)] 3 3 true none), (209, o_aload 0 1), (210, o_iload 3 1), (211, o_push 2 (.int 14)), (213, o_iload 5 2), (215, o_cv [(30, 383)] 3 3 true none), (218, o_aload 0 1), (219, o_iload 3 1), (220, o_push 2 (.int 16)), (222, o_iload 4 2), (224, o_push 1 (.int (-1))), (225, o_icmp (fun x y => decide (¬ x = y)) 237), (228, o_aload 0 1), (229, o_push 2 (.int 7)), (231, o_cv [(30, 328)] 1 3 false none), (234, o_goto 238), (237, o_push 1 (.int 0)), (238, o_cv [(30, 383)] 3 3 true none), (241, o_aload 0 1), (242, o_iload 3 1), (243, o_push 2 (.int 17)), (245, o_aload 0 1), (246, o_iload 2 1), (247, o_push 1 (.int 1)), (248, o_cv [(30, 372)] 2 3 false none), (251, o_cv [(30, 383)] 3 3 true none), (254, o_aload 0 1), (255, o_iload 3 1)] := lkp_c (P := OkP 379) ⟨(PuOK.ok (ok_iconst dX4_billTrip_192 rfl)), m_push⟩ (
  lkp_c (P := OkP 379) ⟨ok_cv (List.forall_mem_cons.mpr ⟨tg_V (ci := 30) (r := CLr 30) (y := 383) rfl ⟨rfl, by decide⟩ rfl q3596 q3598 qs103 q139 q3599 ⟨cn_34.1, cn_34.2, pd_105⟩ dX4_billTrip_193, (List.forall_mem_nil _)⟩) hd_no, m_cv⟩ (
  lkp_c (P := OkP 379) ⟨(PuOK.ok (ok_aload_n dX4_billTrip_196 rfl)), m_aload⟩ (
  lkp_c (P := OkP 379) ⟨(PuOK.ok (ok_iload_n dX4_billTrip_197 rfl)), m_iload⟩ (
  lkp_c (P := OkP 379) ⟨(PuOK.ok (ok_bipush dX4_billTrip_198 rfl)), m_push⟩ (
  lkp_c (P := OkP 379) ⟨(PuOK.ok (ok_aload_n dX4_billTrip_200 rfl)), m_aload⟩ (
  lkp_c (P := OkP 379) ⟨(PuOK.ok (ok_iload_n dX4_billTrip_201 rfl)), m_iload⟩ (
  lkp_c (P := OkP 379) ⟨(PuOK.ok (ok_iconst dX4_billTrip_202 rfl)), m_push⟩ (
  lkp_c (P := OkP 379) ⟨ok_cv (List.forall_mem_cons.mpr ⟨tg_V (ci := 30) (r := CLr 30) (y := 339) rfl ⟨rfl, by decide⟩ rfl q3415 q3417 qs73 q139 q3418 ⟨cn_34.1, cn_34.2, pd_1⟩ dX4_billTrip_203, (List.forall_mem_nil _)⟩) hd_no, m_cv⟩ (
  lkp_c (P := OkP 379) ⟨ok_cv (List.forall_mem_cons.mpr ⟨tg_V (ci := 30) (r := CLr 30) (y := 383) rfl ⟨rfl, by decide⟩ rfl q3596 q3598 qs103 q139 q3599 ⟨cn_34.1, cn_34.2, pd_105⟩ dX4_billTrip_206, (List.forall_mem_nil _)⟩) hd_no, m_cv⟩ (
  lkp_c (P := OkP 379) ⟨(PuOK.ok (ok_aload_n dX4_billTrip_209 rfl)), m_aload⟩ (
  lkp_c (P := OkP 379) ⟨(PuOK.ok (ok_iload_n dX4_billTrip_210 rfl)), m_iload⟩ (
  lkp_c (P := OkP 379) ⟨(PuOK.ok (ok_bipush dX4_billTrip_211 rfl)), m_push⟩ (
  lkp_c (P := OkP 379) ⟨(PuOK.ok (ok_iload dX4_billTrip_213)), m_iload⟩ (
  lkp_c (P := OkP 379) ⟨ok_cv (List.forall_mem_cons.mpr ⟨tg_V (ci := 30) (r := CLr 30) (y := 383) rfl ⟨rfl, by decide⟩ rfl q3596 q3598 qs103 q139 q3599 ⟨cn_34.1, cn_34.2, pd_105⟩ dX4_billTrip_215, (List.forall_mem_nil _)⟩) hd_no, m_cv⟩ (
  lkp_c (P := OkP 379) ⟨(PuOK.ok (ok_aload_n dX4_billTrip_218 rfl)), m_aload⟩ (
  lkp_c (P := OkP 379) ⟨(PuOK.ok (ok_iload_n dX4_billTrip_219 rfl)), m_iload⟩ (
  lkp_c (P := OkP 379) ⟨(PuOK.ok (ok_bipush dX4_billTrip_220 rfl)), m_push⟩ (
  lkp_c (P := OkP 379) ⟨(PuOK.ok (ok_iload dX4_billTrip_222)), m_iload⟩ (
  lkp_c (P := OkP 379) ⟨(PuOK.ok (ok_iconst dX4_billTrip_224 rfl)), m_push⟩ (
  lkp_c (P := OkP 379) ⟨(PuOK.ok (ok_icmp_ne dX4_billTrip_225 rfl)), m_icmp⟩ (
  lkp_c (P := OkP 379) ⟨(PuOK.ok (ok_aload_n dX4_billTrip_228 rfl)), m_aload⟩ (
  lkp_c (P := OkP 379) ⟨(PuOK.ok (ok_bipush dX4_billTrip_229 rfl)), m_push⟩ (
  lkp_c (P := OkP 379) ⟨ok_cv (List.forall_mem_cons.mpr ⟨tg_V (ci := 30) (r := CLr 30) (y := 328) rfl ⟨rfl, by decide⟩ rfl q3371 q3373 qs66 q139 q3374 ⟨cn_34.1, cn_34.2, pd_48⟩ dX4_billTrip_231, (List.forall_mem_nil _)⟩) hd_no, m_cv⟩ (
  lkp_c (P := OkP 379) ⟨(PuOK.ok (ok_goto dX4_billTrip_234 rfl)), m_goto⟩ (
  lkp_c (P := OkP 379) ⟨(PuOK.ok (ok_iconst dX4_billTrip_237 rfl)), m_push⟩ (
  lkp_c (P := OkP 379) ⟨ok_cv (List.forall_mem_cons.mpr ⟨tg_V (ci := 30) (r := CLr 30) (y := 383) rfl ⟨rfl, by decide⟩ rfl q3596 q3598 qs103 q139 q3599 ⟨cn_34.1, cn_34.2, pd_105⟩ dX4_billTrip_238, (List.forall_mem_nil _)⟩) hd_no, m_cv⟩ (
  lkp_c (P := OkP 379) ⟨(PuOK.ok (ok_aload_n dX4_billTrip_241 rfl)), m_aload⟩ (
  lkp_c (P := OkP 379) ⟨(PuOK.ok (ok_iload_n dX4_billTrip_242 rfl)), m_iload⟩ (
  lkp_c (P := OkP 379) ⟨(PuOK.ok (ok_bipush dX4_billTrip_243 rfl)), m_push⟩ (
  lkp_c (P := OkP 379) ⟨(PuOK.ok (ok_aload_n dX4_billTrip_245 rfl)), m_aload⟩ (
  lkp_c (P := OkP 379) ⟨(PuOK.ok (ok_iload_n dX4_billTrip_246 rfl)), m_iload⟩ (
  lkp_c (P := OkP 379) ⟨(PuOK.ok (ok_iconst dX4_billTrip_247 rfl)), m_push⟩ (
  lkp_c (P := OkP 379) ⟨ok_cv (List.forall_mem_cons.mpr ⟨tg_V (ci := 30) (r := CLr 30) (y := 372) rfl ⟨rfl, by decide⟩ rfl q3551 q3553 qs94 q139 q3554 ⟨cn_34.1, cn_34.2, pd_72⟩ dX4_billTrip_248, (List.forall_mem_nil _)⟩) hd_no, m_cv⟩ (
  lkp_c (P := OkP 379) ⟨ok_cv (List.forall_mem_cons.mpr ⟨tg_V (ci := 30) (r := CLr 30) (y := 383) rfl ⟨rfl, by decide⟩ rfl q3596 q3598 qs103 q139 q3599 ⟨cn_34.1, cn_34.2, pd_105⟩ dX4_billTrip_251, (List.forall_mem_nil _)⟩) hd_no, m_cv⟩ (
  lkp_c (P := OkP 379) ⟨(PuOK.ok (ok_aload_n dX4_billTrip_254 rfl)), m_aload⟩ (
  lkp_c (P := OkP 379) ⟨(PuOK.ok (ok_iload_n dX4_billTrip_255 rfl)), m_iload⟩ (
  trivial)))))))))))))))))))))))))))))))))))))
theorem c_379_4 : LkP (OkP 379) [(256, o_iload 2 1), (257, o_cv [(30, 384)] 2 3 true none), (260, o_aload 0 1), (261, o_iload 1 1), (262, o_iload 4 2), (264, o_iload 7 2), (266, o_cv [(30, 385)] 3 3 true none), (269, o_push 1 (.int 0)), (270, o_istore 8 2), (272, o_iload 8 2), (274, o_aload 0 1), (275, o_get 184), (278, o_icmp (fun x y => decide (y ≤ x)) 325), (281, o_aload 0 1), (282, o_get 178), (285, o_iload 8 2), (287, o_rdI 0), (288, o_iload 2 1), (289, o_icmp (fun x y => decide (¬ x = y)) 319), (292, o_aload 0 1), (293, o_aload 0 1), (294, o_get 177), (297, o_iload 8 2), (299, o_rdI 0), (300, o_push 1 (.int 5)), (301, o_push 1 (.int 3)), (302, o_cv [(30, 353)] 3 3 true none), (305, o_aload 0 1), (306, o_aload 0 1), (307, o_get 177), (310, o_iload 8 2), (312, o_rdI 0), (313, o_push 2 (.int 6)), (315, o_iload 3 1), (316, o_cv [(30, 353)] 3 3 true none), (319, o_iinc 8 1)] := lkp_c (P := OkP 379) ⟨(PuOK.ok (ok_iload_n dX4_billTrip_256 rfl)), m_iload⟩ (
  lkp_c (P := OkP 379) ⟨ok_cv (List.forall_mem_cons.mpr ⟨tg_V (ci := 30) (r := CLr 30) (y := 384) rfl ⟨rfl, by decide⟩ rfl q3600 q3602 qs104 q139 q3603 ⟨cn_34.1, cn_34.2, pd_5⟩ dX4_billTrip_257, (List.forall_mem_nil _)⟩) hd_no, m_cv⟩ (
  lkp_c (P := OkP 379) ⟨(PuOK.ok (ok_aload_n dX4_billTrip_260 rfl)), m_aload⟩ (
  lkp_c (P := OkP 379) ⟨(PuOK.ok (ok_iload_n dX4_billTrip_261 rfl)), m_iload⟩ (
  lkp_c (P := OkP 379) ⟨(PuOK.ok (ok_iload dX4_billTrip_262)), m_iload⟩ (
  lkp_c (P := OkP 379) ⟨(PuOK.ok (ok_iload dX4_billTrip_264)), m_iload⟩ (
  lkp_c (P := OkP 379) ⟨ok_cv (List.forall_mem_cons.mpr ⟨tg_V (ci := 30) (r := CLr 30) (y := 385) rfl ⟨rfl, by decide⟩ rfl q3604 q3606 qs105 q139 q3607 ⟨cn_34.1, cn_34.2, pd_105⟩ dX4_billTrip_266, (List.forall_mem_nil _)⟩) hd_no, m_cv⟩ (
  lkp_c (P := OkP 379) ⟨(PuOK.ok (ok_iconst dX4_billTrip_269 rfl)), m_push⟩ (
  lkp_c (P := OkP 379) ⟨(PuOK.ok (ok_istore dX4_billTrip_270)), m_istore⟩ (
  lkp_c (P := OkP 379) ⟨(PuOK.ok (ok_iload dX4_billTrip_272)), m_iload⟩ (
  lkp_c (P := OkP 379) ⟨(PuOK.ok (ok_aload_n dX4_billTrip_274 rfl)), m_aload⟩ (
  lkp_c (P := OkP 379) ⟨ok_get ⟨"TollRoadModel", q3116, Or.inl rfl⟩ dX4_billTrip_275, m_get⟩ (
  lkp_c (P := OkP 379) ⟨(PuOK.ok (ok_icmp_ge dX4_billTrip_278 rfl)), m_icmp⟩ (
  lkp_c (P := OkP 379) ⟨(PuOK.ok (ok_aload_n dX4_billTrip_281 rfl)), m_aload⟩ (
  lkp_c (P := OkP 379) ⟨ok_get ⟨"TollRoadModel", q3110, Or.inl rfl⟩ dX4_billTrip_282, m_get⟩ (
  lkp_c (P := OkP 379) ⟨(PuOK.ok (ok_iload dX4_billTrip_285)), m_iload⟩ (
  lkp_c (P := OkP 379) ⟨ok_iald dX4_billTrip_287, m_rdI⟩ (
  lkp_c (P := OkP 379) ⟨(PuOK.ok (ok_iload_n dX4_billTrip_288 rfl)), m_iload⟩ (
  lkp_c (P := OkP 379) ⟨(PuOK.ok (ok_icmp_ne dX4_billTrip_289 rfl)), m_icmp⟩ (
  lkp_c (P := OkP 379) ⟨(PuOK.ok (ok_aload_n dX4_billTrip_292 rfl)), m_aload⟩ (
  lkp_c (P := OkP 379) ⟨(PuOK.ok (ok_aload_n dX4_billTrip_293 rfl)), m_aload⟩ (
  lkp_c (P := OkP 379) ⟨ok_get ⟨"TollRoadModel", q3109, Or.inl rfl⟩ dX4_billTrip_294, m_get⟩ (
  lkp_c (P := OkP 379) ⟨(PuOK.ok (ok_iload dX4_billTrip_297)), m_iload⟩ (
  lkp_c (P := OkP 379) ⟨ok_iald dX4_billTrip_299, m_rdI⟩ (
  lkp_c (P := OkP 379) ⟨(PuOK.ok (ok_iconst dX4_billTrip_300 rfl)), m_push⟩ (
  lkp_c (P := OkP 379) ⟨(PuOK.ok (ok_iconst dX4_billTrip_301 rfl)), m_push⟩ (
  lkp_c (P := OkP 379) ⟨ok_cv (List.forall_mem_cons.mpr ⟨tg_V (ci := 30) (r := CLr 30) (y := 353) rfl ⟨rfl, by decide⟩ rfl q3475 q3477 qs82 q139 q3478 ⟨cn_34.1, cn_34.2, pd_105⟩ dX4_billTrip_302, (List.forall_mem_nil _)⟩) hd_no, m_cv⟩ (
  lkp_c (P := OkP 379) ⟨(PuOK.ok (ok_aload_n dX4_billTrip_305 rfl)), m_aload⟩ (
  lkp_c (P := OkP 379) ⟨(PuOK.ok (ok_aload_n dX4_billTrip_306 rfl)), m_aload⟩ (
  lkp_c (P := OkP 379) ⟨ok_get ⟨"TollRoadModel", q3109, Or.inl rfl⟩ dX4_billTrip_307, m_get⟩ (
  lkp_c (P := OkP 379) ⟨(PuOK.ok (ok_iload dX4_billTrip_310)), m_iload⟩ (
  lkp_c (P := OkP 379) ⟨ok_iald dX4_billTrip_312, m_rdI⟩ (
  lkp_c (P := OkP 379) ⟨(PuOK.ok (ok_bipush dX4_billTrip_313 rfl)), m_push⟩ (
  lkp_c (P := OkP 379) ⟨(PuOK.ok (ok_iload_n dX4_billTrip_315 rfl)), m_iload⟩ (
  lkp_c (P := OkP 379) ⟨ok_cv (List.forall_mem_cons.mpr ⟨tg_V (ci := 30) (r := CLr 30) (y := 353) rfl ⟨rfl, by decide⟩ rfl q3475 q3477 qs82 q139 q3478 ⟨cn_34.1, cn_34.2, pd_105⟩ dX4_billTrip_316, (List.forall_mem_nil _)⟩) hd_no, m_cv⟩ (
  lkp_c (P := OkP 379) ⟨(PuOK.ok (ok_iinc dX4_billTrip_319 rfl)), m_iinc⟩ (
  trivial))))))))))))))))))))))))))))))))))))
theorem c_379_5 : LkP (OkP 379) [(322, o_goto 272), (325, o_aload 0 1), (326, o_get 148), (329, o_push 2 (.int 13)), (331, o_dup2), (332, o_rdI 0), (333, o_push 1 (.int 1)), (334, o_iop (fun x y => x + y)), (335, o_wrI 0), (336, o_vret)] := lkp_c (P := OkP 379) ⟨(PuOK.ok (ok_goto dX4_billTrip_322 rfl)), m_goto⟩ (
  lkp_c (P := OkP 379) ⟨(PuOK.ok (ok_aload_n dX4_billTrip_325 rfl)), m_aload⟩ (
  lkp_c (P := OkP 379) ⟨ok_get ⟨"TollRoadModel", q3080, Or.inl rfl⟩ dX4_billTrip_326, m_get⟩ (
  lkp_c (P := OkP 379) ⟨(PuOK.ok (ok_bipush dX4_billTrip_329 rfl)), m_push⟩ (
  lkp_c (P := OkP 379) ⟨(PuOK.ok (ok_dup2 dX4_billTrip_331)), m_dup2⟩ (
  lkp_c (P := OkP 379) ⟨ok_iald dX4_billTrip_332, m_rdI⟩ (
  lkp_c (P := OkP 379) ⟨(PuOK.ok (ok_iconst dX4_billTrip_333 rfl)), m_push⟩ (
  lkp_c (P := OkP 379) ⟨(PuOK.ok (ok_iadd dX4_billTrip_334)), m_iop⟩ (
  lkp_c (P := OkP 379) ⟨ok_iast dX4_billTrip_335, m_wrI⟩ (
  lkp_c (P := OkP 379) ⟨ok_vret rfl dX4_billTrip_336, m_vret⟩ (
  trivial))))))))))
theorem mt_379 : MtOK TB NT IT 379 := ⟨by decide +kernel, rfl, (fun h => by cases h), Or.inl ⟨rfl, rfl⟩, rfl, by decide, lk2_all (P := OkP 379) ⟨c_379_0, c_379_1, c_379_2, c_379_3, c_379_4, c_379_5, trivial⟩⟩
def dkwX4_got_0 : List UInt8 := [42, 27, 4, 182, 1, 2, 61, 28, 2, 160, 0, 7, 3, 167, 0, 9, 42, 28, 6, 182, 0, 247, 172]
abbrev dktX4_got_0 : List UInt8 := dkwX4_got_0 ++ []
theorem dksX4_got_0 : cX4_got.data.toList.drop 0 = dktX4_got_0 := by decide +kernel
theorem dX4_got_0 : decode cX4_got 0 = .ok (.aload_n 0, 1) := dk_42 (dk_at dksX4_got_0 0 rfl rfl)
theorem dX4_got_1 : decode cX4_got 1 = .ok (.iload_n 1, 1) := dk_27 (dk_at dksX4_got_0 1 rfl rfl)
theorem dX4_got_2 : decode cX4_got 2 = .ok (.iconst 1, 1) := dk_4 (dk_at dksX4_got_0 2 rfl rfl)
theorem dX4_got_3 : decode cX4_got 3 = .ok (.invokevirtual 258, 3) := dk_182 1 2 (dk_at dksX4_got_0 3 rfl rfl)
theorem dX4_got_6 : decode cX4_got 6 = .ok (.istore_n 2, 1) := dk_61 (dk_at dksX4_got_0 6 rfl rfl)
theorem dX4_got_7 : decode cX4_got 7 = .ok (.iload_n 2, 1) := dk_28 (dk_at dksX4_got_0 7 rfl rfl)
theorem dX4_got_8 : decode cX4_got 8 = .ok (.iconst (-1), 1) := dk_2 (dk_at dksX4_got_0 8 rfl rfl)
theorem dX4_got_9 : decode cX4_got 9 = .ok (.if_icmp .ne 7, 3) := dk_160 0 7 (dk_at dksX4_got_0 9 rfl rfl)
theorem dX4_got_12 : decode cX4_got 12 = .ok (.iconst 0, 1) := dk_3 (dk_at dksX4_got_0 12 rfl rfl)
theorem dX4_got_13 : decode cX4_got 13 = .ok (.goto 9, 3) := dk_167 0 9 (dk_at dksX4_got_0 13 rfl rfl)
theorem dX4_got_16 : decode cX4_got 16 = .ok (.aload_n 0, 1) := dk_42 (dk_at dksX4_got_0 16 rfl rfl)
theorem dX4_got_17 : decode cX4_got 17 = .ok (.iload_n 2, 1) := dk_28 (dk_at dksX4_got_0 17 rfl rfl)
theorem dX4_got_18 : decode cX4_got 18 = .ok (.iconst 3, 1) := dk_6 (dk_at dksX4_got_0 18 rfl rfl)
theorem dX4_got_19 : decode cX4_got 19 = .ok (.invokevirtual 247, 3) := dk_182 0 247 (dk_at dksX4_got_0 19 rfl rfl)
theorem dX4_got_22 : decode cX4_got 22 = .ok (.ireturn, 1) := dk_172 (dk_at dksX4_got_0 22 rfl rfl)
theorem c_380_0 : LkP (OkP 380) [(0, o_aload 0 1), (1, o_iload 1 1), (2, o_push 1 (.int 1)), (3, o_cv [(30, 339)] 2 3 false none), (6, o_istore 2 1), (7, o_iload 2 1), (8, o_push 1 (.int (-1))), (9, o_icmp (fun x y => decide (¬ x = y)) 16), (12, o_push 1 (.int 0)), (13, o_goto 22), (16, o_aload 0 1), (17, o_iload 2 1), (18, o_push 1 (.int 3)), (19, o_cv [(30, 335)] 2 3 false none), (22, o_ret 1)] := lkp_c (P := OkP 380) ⟨(PuOK.ok (ok_aload_n dX4_got_0 rfl)), m_aload⟩ (
  lkp_c (P := OkP 380) ⟨(PuOK.ok (ok_iload_n dX4_got_1 rfl)), m_iload⟩ (
  lkp_c (P := OkP 380) ⟨(PuOK.ok (ok_iconst dX4_got_2 rfl)), m_push⟩ (
  lkp_c (P := OkP 380) ⟨ok_cv (List.forall_mem_cons.mpr ⟨tg_V (ci := 30) (r := CLr 30) (y := 339) rfl ⟨rfl, by decide⟩ rfl q3415 q3417 qs73 q139 q3418 ⟨cn_34.1, cn_34.2, pd_1⟩ dX4_got_3, (List.forall_mem_nil _)⟩) hd_no, m_cv⟩ (
  lkp_c (P := OkP 380) ⟨(PuOK.ok (ok_istore_n dX4_got_6 rfl)), m_istore⟩ (
  lkp_c (P := OkP 380) ⟨(PuOK.ok (ok_iload_n dX4_got_7 rfl)), m_iload⟩ (
  lkp_c (P := OkP 380) ⟨(PuOK.ok (ok_iconst dX4_got_8 rfl)), m_push⟩ (
  lkp_c (P := OkP 380) ⟨(PuOK.ok (ok_icmp_ne dX4_got_9 rfl)), m_icmp⟩ (
  lkp_c (P := OkP 380) ⟨(PuOK.ok (ok_iconst dX4_got_12 rfl)), m_push⟩ (
  lkp_c (P := OkP 380) ⟨(PuOK.ok (ok_goto dX4_got_13 rfl)), m_goto⟩ (
  lkp_c (P := OkP 380) ⟨(PuOK.ok (ok_aload_n dX4_got_16 rfl)), m_aload⟩ (
  lkp_c (P := OkP 380) ⟨(PuOK.ok (ok_iload_n dX4_got_17 rfl)), m_iload⟩ (
  lkp_c (P := OkP 380) ⟨(PuOK.ok (ok_iconst dX4_got_18 rfl)), m_push⟩ (
  lkp_c (P := OkP 380) ⟨ok_cv (List.forall_mem_cons.mpr ⟨tg_V (ci := 30) (r := CLr 30) (y := 335) rfl ⟨rfl, by decide⟩ rfl q3399 q3401 qs71 q139 q3402 ⟨cn_34.1, cn_34.2, pd_1⟩ dX4_got_19, (List.forall_mem_nil _)⟩) hd_no, m_cv⟩ (
  lkp_c (P := OkP 380) ⟨ok_iret rfl rfl (by decide) dX4_got_22, m_ret⟩ (
  trivial)))))))))))))))
theorem mt_380 : MtOK TB NT IT 380 := ⟨by decide +kernel, rfl, (fun h => by cases h), Or.inl ⟨rfl, rfl⟩, rfl, by decide, lk2_all (P := OkP 380) ⟨c_380_0, trivial⟩⟩
def dkwX4_percentOf_1 : List UInt8 := [4, 182, 0, 247, 167, 0, 4, 3, 172]
abbrev dktX4_percentOf_1 : List UInt8 := dkwX4_percentOf_1 ++ []
def dkwX4_percentOf_0 : List UInt8 := [42, 27, 4, 182, 1, 2, 62, 29, 2, 159, 0, 22, 28, 42, 29, 5, 182, 0, 247, 161, 0, 12, 42, 29]
abbrev dktX4_percentOf_0 : List UInt8 := dkwX4_percentOf_0 ++ dktX4_percentOf_1
theorem dksX4_percentOf_0 : cX4_percentOf.data.toList.drop 0 = dktX4_percentOf_0 := by decide +kernel
theorem dksX4_percentOf_1 : cX4_percentOf.data.toList.drop 24 = dktX4_percentOf_1 := dk_seg dksX4_percentOf_0 24 rfl rfl
theorem dX4_percentOf_0 : decode cX4_percentOf 0 = .ok (.aload_n 0, 1) := dk_42 (dk_at dksX4_percentOf_0 0 rfl rfl)
theorem dX4_percentOf_1 : decode cX4_percentOf 1 = .ok (.iload_n 1, 1) := dk_27 (dk_at dksX4_percentOf_0 1 rfl rfl)
theorem dX4_percentOf_2 : decode cX4_percentOf 2 = .ok (.iconst 1, 1) := dk_4 (dk_at dksX4_percentOf_0 2 rfl rfl)
theorem dX4_percentOf_3 : decode cX4_percentOf 3 = .ok (.invokevirtual 258, 3) := dk_182 1 2 (dk_at dksX4_percentOf_0 3 rfl rfl)
theorem dX4_percentOf_6 : decode cX4_percentOf 6 = .ok (.istore_n 3, 1) := dk_62 (dk_at dksX4_percentOf_0 6 rfl rfl)
theorem dX4_percentOf_7 : decode cX4_percentOf 7 = .ok (.iload_n 3, 1) := dk_29 (dk_at dksX4_percentOf_0 7 rfl rfl)
theorem dX4_percentOf_8 : decode cX4_percentOf 8 = .ok (.iconst (-1), 1) := dk_2 (dk_at dksX4_percentOf_0 8 rfl rfl)
theorem dX4_percentOf_9 : decode cX4_percentOf 9 = .ok (.if_icmp .eq 22, 3) := dk_159 0 22 (dk_at dksX4_percentOf_0 9 rfl rfl)
theorem dX4_percentOf_12 : decode cX4_percentOf 12 = .ok (.iload_n 2, 1) := dk_28 (dk_at dksX4_percentOf_0 12 rfl rfl)
theorem dX4_percentOf_13 : decode cX4_percentOf 13 = .ok (.aload_n 0, 1) := dk_42 (dk_at dksX4_percentOf_0 13 rfl rfl)
theorem dX4_percentOf_14 : decode cX4_percentOf 14 = .ok (.iload_n 3, 1) := dk_29 (dk_at dksX4_percentOf_0 14 rfl rfl)
theorem dX4_percentOf_15 : decode cX4_percentOf 15 = .ok (.iconst 2, 1) := dk_5 (dk_at dksX4_percentOf_0 15 rfl rfl)
theorem dX4_percentOf_16 : decode cX4_percentOf 16 = .ok (.invokevirtual 247, 3) := dk_182 0 247 (dk_at dksX4_percentOf_0 16 rfl rfl)
theorem dX4_percentOf_19 : decode cX4_percentOf 19 = .ok (.if_icmp .lt 12, 3) := dk_161 0 12 (dk_at dksX4_percentOf_0 19 rfl rfl)
theorem dX4_percentOf_22 : decode cX4_percentOf 22 = .ok (.aload_n 0, 1) := dk_42 (dk_at dksX4_percentOf_0 22 rfl rfl)
theorem dX4_percentOf_23 : decode cX4_percentOf 23 = .ok (.iload_n 3, 1) := dk_29 (dk_at dksX4_percentOf_0 23 rfl rfl)
theorem dX4_percentOf_24 : decode cX4_percentOf 24 = .ok (.iconst 1, 1) := dk_4 (dk_at dksX4_percentOf_1 0 rfl rfl)
theorem dX4_percentOf_25 : decode cX4_percentOf 25 = .ok (.invokevirtual 247, 3) := dk_182 0 247 (dk_at dksX4_percentOf_1 1 rfl rfl)
theorem dX4_percentOf_28 : decode cX4_percentOf 28 = .ok (.goto 4, 3) := dk_167 0 4 (dk_at dksX4_percentOf_1 4 rfl rfl)
theorem dX4_percentOf_31 : decode cX4_percentOf 31 = .ok (.iconst 0, 1) := dk_3 (dk_at dksX4_percentOf_1 7 rfl rfl)
theorem dX4_percentOf_32 : decode cX4_percentOf 32 = .ok (.ireturn, 1) := dk_172 (dk_at dksX4_percentOf_1 8 rfl rfl)
theorem c_381_0 : LkP (OkP 381) [(0, o_aload 0 1), (1, o_iload 1 1), (2, o_push 1 (.int 1)), (3, o_cv [(30, 339)] 2 3 false none), (6, o_istore 3 1), (7, o_iload 3 1), (8, o_push 1 (.int (-1))), (9, o_icmp (fun x y => decide (x = y)) 31), (12, o_iload 2 1), (13, o_aload 0 1), (14, o_iload 3 1), (15, o_push 1 (.int 2)), (16, o_cv [(30, 335)] 2 3 false none), (19, o_icmp (fun x y => decide (x < y)) 31), (22, o_aload 0 1), (23, o_iload 3 1), (24, o_push 1 (.int 1)), (25, o_cv [(30, 335)] 2 3 false none), (28, o_goto 32), (31, o_push 1 (.int 0)), (32, o_ret 1)] := lkp_c (P := OkP 381) ⟨(PuOK.ok (ok_aload_n dX4_percentOf_0 rfl)), m_aload⟩ (
  lkp_c (P := OkP 381) ⟨(PuOK.ok (ok_iload_n dX4_percentOf_1 rfl)), m_iload⟩ (
  lkp_c (P := OkP 381) ⟨(PuOK.ok (ok_iconst dX4_percentOf_2 rfl)), m_push⟩ (
  lkp_c (P := OkP 381) ⟨ok_cv (List.forall_mem_cons.mpr ⟨tg_V (ci := 30) (r := CLr 30) (y := 339) rfl ⟨rfl, by decide⟩ rfl q3415 q3417 qs73 q139 q3418 ⟨cn_34.1, cn_34.2, pd_1⟩ dX4_percentOf_3, (List.forall_mem_nil _)⟩) hd_no, m_cv⟩ (
  lkp_c (P := OkP 381) ⟨(PuOK.ok (ok_istore_n dX4_percentOf_6 rfl)), m_istore⟩ (
  lkp_c (P := OkP 381) ⟨(PuOK.ok (ok_iload_n dX4_percentOf_7 rfl)), m_iload⟩ (
  lkp_c (P := OkP 381) ⟨(PuOK.ok (ok_iconst dX4_percentOf_8 rfl)), m_push⟩ (
  lkp_c (P := OkP 381) ⟨(PuOK.ok (ok_icmp_eq dX4_percentOf_9 rfl)), m_icmp⟩ (
  lkp_c (P := OkP 381) ⟨(PuOK.ok (ok_iload_n dX4_percentOf_12 rfl)), m_iload⟩ (
  lkp_c (P := OkP 381) ⟨(PuOK.ok (ok_aload_n dX4_percentOf_13 rfl)), m_aload⟩ (
  lkp_c (P := OkP 381) ⟨(PuOK.ok (ok_iload_n dX4_percentOf_14 rfl)), m_iload⟩ (
  lkp_c (P := OkP 381) ⟨(PuOK.ok (ok_iconst dX4_percentOf_15 rfl)), m_push⟩ (
  lkp_c (P := OkP 381) ⟨ok_cv (List.forall_mem_cons.mpr ⟨tg_V (ci := 30) (r := CLr 30) (y := 335) rfl ⟨rfl, by decide⟩ rfl q3399 q3401 qs71 q139 q3402 ⟨cn_34.1, cn_34.2, pd_1⟩ dX4_percentOf_16, (List.forall_mem_nil _)⟩) hd_no, m_cv⟩ (
  lkp_c (P := OkP 381) ⟨(PuOK.ok (ok_icmp_lt dX4_percentOf_19 rfl)), m_icmp⟩ (
  lkp_c (P := OkP 381) ⟨(PuOK.ok (ok_aload_n dX4_percentOf_22 rfl)), m_aload⟩ (
  lkp_c (P := OkP 381) ⟨(PuOK.ok (ok_iload_n dX4_percentOf_23 rfl)), m_iload⟩ (
  lkp_c (P := OkP 381) ⟨(PuOK.ok (ok_iconst dX4_percentOf_24 rfl)), m_push⟩ (
  lkp_c (P := OkP 381) ⟨ok_cv (List.forall_mem_cons.mpr ⟨tg_V (ci := 30) (r := CLr 30) (y := 335) rfl ⟨rfl, by decide⟩ rfl q3399 q3401 qs71 q139 q3402 ⟨cn_34.1, cn_34.2, pd_1⟩ dX4_percentOf_25, (List.forall_mem_nil _)⟩) hd_no, m_cv⟩ (
  lkp_c (P := OkP 381) ⟨(PuOK.ok (ok_goto dX4_percentOf_28 rfl)), m_goto⟩ (
  lkp_c (P := OkP 381) ⟨(PuOK.ok (ok_iconst dX4_percentOf_31 rfl)), m_push⟩ (
  lkp_c (P := OkP 381) ⟨ok_iret rfl rfl (by decide) dX4_percentOf_32, m_ret⟩ (
  trivial)))))))))))))))))))))
theorem mt_381 : MtOK TB NT IT 381 := ⟨by decide +kernel, rfl, (fun h => by cases h), Or.inl ⟨rfl, rfl⟩, rfl, by decide, lk2_all (P := OkP 381) ⟨c_381_0, trivial⟩⟩
def dkwX4_amountOf_2 : List UInt8 := [100, 42, 16, 6, 182, 0, 231, 42, 28, 4, 182, 1, 101, 104, 96, 21, 5, 96, 172]
abbrev dktX4_amountOf_2 : List UInt8 := dkwX4_amountOf_2 ++ []
def dkwX4_amountOf_1 : List UInt8 := [160, 0, 12, 42, 16, 7, 182, 0, 231, 167, 0, 4, 3, 54, 5, 21, 4, 21, 4, 29, 104, 16, 100, 108]
abbrev dktX4_amountOf_1 : List UInt8 := dkwX4_amountOf_1 ++ dktX4_amountOf_2
def dkwX4_amountOf_0 : List UInt8 := [42, 180, 0, 69, 28, 46, 42, 27, 3, 182, 1, 2, 104, 54, 4, 42, 27, 4, 182, 1, 2, 2]
abbrev dktX4_amountOf_0 : List UInt8 := dkwX4_amountOf_0 ++ dktX4_amountOf_1
theorem dksX4_amountOf_0 : cX4_amountOf.data.toList.drop 0 = dktX4_amountOf_0 := by decide +kernel
theorem dksX4_amountOf_1 : cX4_amountOf.data.toList.drop 22 = dktX4_amountOf_1 := dk_seg dksX4_amountOf_0 22 rfl rfl
theorem dksX4_amountOf_2 : cX4_amountOf.data.toList.drop 46 = dktX4_amountOf_2 := dk_seg dksX4_amountOf_1 24 rfl rfl
theorem dX4_amountOf_0 : decode cX4_amountOf 0 = .ok (.aload_n 0, 1) := dk_42 (dk_at dksX4_amountOf_0 0 rfl rfl)
theorem dX4_amountOf_1 : decode cX4_amountOf 1 = .ok (.getfield 69, 3) := dk_180 0 69 (dk_at dksX4_amountOf_0 1 rfl rfl)
theorem dX4_amountOf_4 : decode cX4_amountOf 4 = .ok (.iload_n 2, 1) := dk_28 (dk_at dksX4_amountOf_0 4 rfl rfl)
theorem dX4_amountOf_5 : decode cX4_amountOf 5 = .ok (.iaload, 1) := dk_46 (dk_at dksX4_amountOf_0 5 rfl rfl)
theorem dX4_amountOf_6 : decode cX4_amountOf 6 = .ok (.aload_n 0, 1) := dk_42 (dk_at dksX4_amountOf_0 6 rfl rfl)
theorem dX4_amountOf_7 : decode cX4_amountOf 7 = .ok (.iload_n 1, 1) := dk_27 (dk_at dksX4_amountOf_0 7 rfl rfl)
theorem dX4_amountOf_8 : decode cX4_amountOf 8 = .ok (.iconst 0, 1) := dk_3 (dk_at dksX4_amountOf_0 8 rfl rfl)
theorem dX4_amountOf_9 : decode cX4_amountOf 9 = .ok (.invokevirtual 258, 3) := dk_182 1 2 (dk_at dksX4_amountOf_0 9 rfl rfl)
theorem dX4_amountOf_12 : decode cX4_amountOf 12 = .ok (.imul, 1) := dk_104 (dk_at dksX4_amountOf_0 12 rfl rfl)
theorem dX4_amountOf_13 : decode cX4_amountOf 13 = .ok (.istore 4, 2) := dk_54 4 (dk_at dksX4_amountOf_0 13 rfl rfl)
theorem dX4_amountOf_15 : decode cX4_amountOf 15 = .ok (.aload_n 0, 1) := dk_42 (dk_at dksX4_amountOf_0 15 rfl rfl)
theorem dX4_amountOf_16 : decode cX4_amountOf 16 = .ok (.iload_n 1, 1) := dk_27 (dk_at dksX4_amountOf_0 16 rfl rfl)
theorem dX4_amountOf_17 : decode cX4_amountOf 17 = .ok (.iconst 1, 1) := dk_4 (dk_at dksX4_amountOf_0 17 rfl rfl)
theorem dX4_amountOf_18 : decode cX4_amountOf 18 = .ok (.invokevirtual 258, 3) := dk_182 1 2 (dk_at dksX4_amountOf_0 18 rfl rfl)
theorem dX4_amountOf_21 : decode cX4_amountOf 21 = .ok (.iconst (-1), 1) := dk_2 (dk_at dksX4_amountOf_0 21 rfl rfl)
theorem dX4_amountOf_22 : decode cX4_amountOf 22 = .ok (.if_icmp .ne 12, 3) := dk_160 0 12 (dk_at dksX4_amountOf_1 0 rfl rfl)
theorem dX4_amountOf_25 : decode cX4_amountOf 25 = .ok (.aload_n 0, 1) := dk_42 (dk_at dksX4_amountOf_1 3 rfl rfl)
theorem dX4_amountOf_26 : decode cX4_amountOf 26 = .ok (.bipush 7, 2) := dk_16 7 (dk_at dksX4_amountOf_1 4 rfl rfl)
theorem dX4_amountOf_28 : decode cX4_amountOf 28 = .ok (.invokevirtual 231, 3) := dk_182 0 231 (dk_at dksX4_amountOf_1 6 rfl rfl)
theorem dX4_amountOf_31 : decode cX4_amountOf 31 = .ok (.goto 4, 3) := dk_167 0 4 (dk_at dksX4_amountOf_1 9 rfl rfl)
theorem dX4_amountOf_34 : decode cX4_amountOf 34 = .ok (.iconst 0, 1) := dk_3 (dk_at dksX4_amountOf_1 12 rfl rfl)
theorem dX4_amountOf_35 : decode cX4_amountOf 35 = .ok (.istore 5, 2) := dk_54 5 (dk_at dksX4_amountOf_1 13 rfl rfl)
theorem dX4_amountOf_37 : decode cX4_amountOf 37 = .ok (.iload 4, 2) := dk_21 4 (dk_at dksX4_amountOf_1 15 rfl rfl)
theorem dX4_amountOf_39 : decode cX4_amountOf 39 = .ok (.iload 4, 2) := dk_21 4 (dk_at dksX4_amountOf_1 17 rfl rfl)
theorem dX4_amountOf_41 : decode cX4_amountOf 41 = .ok (.iload_n 3, 1) := dk_29 (dk_at dksX4_amountOf_1 19 rfl rfl)
theorem dX4_amountOf_42 : decode cX4_amountOf 42 = .ok (.imul, 1) := dk_104 (dk_at dksX4_amountOf_1 20 rfl rfl)
theorem dX4_amountOf_43 : decode cX4_amountOf 43 = .ok (.bipush 100, 2) := dk_16 100 (dk_at dksX4_amountOf_1 21 rfl rfl)
theorem dX4_amountOf_45 : decode cX4_amountOf 45 = .ok (.idiv, 1) := dk_108 (dk_at dksX4_amountOf_1 23 rfl rfl)
theorem dX4_amountOf_46 : decode cX4_amountOf 46 = .ok (.isub, 1) := dk_100 (dk_at dksX4_amountOf_2 0 rfl rfl)
theorem dX4_amountOf_47 : decode cX4_amountOf 47 = .ok (.aload_n 0, 1) := dk_42 (dk_at dksX4_amountOf_2 1 rfl rfl)
theorem dX4_amountOf_48 : decode cX4_amountOf 48 = .ok (.bipush 6, 2) := dk_16 6 (dk_at dksX4_amountOf_2 2 rfl rfl)
theorem dX4_amountOf_50 : decode cX4_amountOf 50 = .ok (.invokevirtual 231, 3) := dk_182 0 231 (dk_at dksX4_amountOf_2 4 rfl rfl)
theorem dX4_amountOf_53 : decode cX4_amountOf 53 = .ok (.aload_n 0, 1) := dk_42 (dk_at dksX4_amountOf_2 7 rfl rfl)
theorem dX4_amountOf_54 : decode cX4_amountOf 54 = .ok (.iload_n 2, 1) := dk_28 (dk_at dksX4_amountOf_2 8 rfl rfl)
theorem dX4_amountOf_55 : decode cX4_amountOf 55 = .ok (.iconst 1, 1) := dk_4 (dk_at dksX4_amountOf_2 9 rfl rfl)
theorem dX4_amountOf_56 : decode cX4_amountOf 56 = .ok (.invokevirtual 357, 3) := dk_182 1 101 (dk_at dksX4_amountOf_2 10 rfl rfl)
theorem dX4_amountOf_59 : decode cX4_amountOf 59 = .ok (.imul, 1) := dk_104 (dk_at dksX4_amountOf_2 13 rfl rfl)
theorem dX4_amountOf_60 : decode cX4_amountOf 60 = .ok (.iadd, 1) := dk_96 (dk_at dksX4_amountOf_2 14 rfl rfl)
theorem dX4_amountOf_61 : decode cX4_amountOf 61 = .ok (.iload 5, 2) := dk_21 5 (dk_at dksX4_amountOf_2 15 rfl rfl)
theorem dX4_amountOf_63 : decode cX4_amountOf 63 = .ok (.iadd, 1) := dk_96 (dk_at dksX4_amountOf_2 17 rfl rfl)
theorem dX4_amountOf_64 : decode cX4_amountOf 64 = .ok (.ireturn, 1) := dk_172 (dk_at dksX4_amountOf_2 18 rfl rfl)
theorem c_382_0 : LkP (OkP 382) [(0, o_aload 0 1), (1, o_get 181), (4, o_iload 2 1), (5, o_rdI 0), (6, o_aload 0 1), (7, o_iload 1 1), (8, o_push 1 (.int 0)), (9, o_cv [(30, 339)] 2 3 false none), (12, o_iop (fun x y => x * y)), (13, o_istore 4 2), (15, o_aload 0 1), (16, o_iload 1 1), (17, o_push 1 (.int 1)), (18, o_cv [(30, 339)] 2 3 false none), (21, o_push 1 (.int (-1))), (22, o_icmp (fun x y => decide (¬ x = y)) 34), (25, o_aload 0 1), (26, o_push 2 (.int 7)), (28, o_cv [(30, 328)] 1 3 false none), (31, o_goto 35), (34, o_push 1 (.int 0)), (35, o_istore 5 2), (37, o_iload 4 2), (39, o_iload 4 2), (41, o_iload 3 1), (42, o_iop (fun x y => x * y)), (43, o_push 2 (.int 100)), (45, o_iopz (fun x y => x / y)), (46, o_iop (fun x y => x - y)), (47, o_aload 0 1), (48, o_push 2 (.int 6)), (50, o_cv [(30, 328)] 1 3 false none), (53, o_aload 0 1), (54, o_iload 2 1), (55, o_push 1 (.int 1)), (56, o_cv [(30, 372)] 2 3 false none), (59, o_iop (fun x y => x * y)), (60, o_iop (fun x y => x + y)), (61, o_iload 5 2), (63, o_iop (fun x y => x + y))] := lkp_c (P := OkP 382) ⟨(PuOK.ok (ok_aload_n dX4_amountOf_0 rfl)), m_aload⟩ (
  lkp_c (P := OkP 382) ⟨ok_get ⟨"TollRoadModel", q3113, Or.inl rfl⟩ dX4_amountOf_1, m_get⟩ (
  lkp_c (P := OkP 382) ⟨(PuOK.ok (ok_iload_n dX4_amountOf_4 rfl)), m_iload⟩ (
  lkp_c (P := OkP 382) ⟨ok_iald dX4_amountOf_5, m_rdI⟩ (
  lkp_c (P := OkP 382) ⟨(PuOK.ok (ok_aload_n dX4_amountOf_6 rfl)), m_aload⟩ (
  lkp_c (P := OkP 382) ⟨(PuOK.ok (ok_iload_n dX4_amountOf_7 rfl)), m_iload⟩ (
  lkp_c (P := OkP 382) ⟨(PuOK.ok (ok_iconst dX4_amountOf_8 rfl)), m_push⟩ (
  lkp_c (P := OkP 382) ⟨ok_cv (List.forall_mem_cons.mpr ⟨tg_V (ci := 30) (r := CLr 30) (y := 339) rfl ⟨rfl, by decide⟩ rfl q3415 q3417 qs73 q139 q3418 ⟨cn_34.1, cn_34.2, pd_1⟩ dX4_amountOf_9, (List.forall_mem_nil _)⟩) hd_no, m_cv⟩ (
  lkp_c (P := OkP 382) ⟨(PuOK.ok (ok_imul dX4_amountOf_12)), m_iop⟩ (
  lkp_c (P := OkP 382) ⟨(PuOK.ok (ok_istore dX4_amountOf_13)), m_istore⟩ (
  lkp_c (P := OkP 382) ⟨(PuOK.ok (ok_aload_n dX4_amountOf_15 rfl)), m_aload⟩ (
  lkp_c (P := OkP 382) ⟨(PuOK.ok (ok_iload_n dX4_amountOf_16 rfl)), m_iload⟩ (
  lkp_c (P := OkP 382) ⟨(PuOK.ok (ok_iconst dX4_amountOf_17 rfl)), m_push⟩ (
  lkp_c (P := OkP 382) ⟨ok_cv (List.forall_mem_cons.mpr ⟨tg_V (ci := 30) (r := CLr 30) (y := 339) rfl ⟨rfl, by decide⟩ rfl q3415 q3417 qs73 q139 q3418 ⟨cn_34.1, cn_34.2, pd_1⟩ dX4_amountOf_18, (List.forall_mem_nil _)⟩) hd_no, m_cv⟩ (
  lkp_c (P := OkP 382) ⟨(PuOK.ok (ok_iconst dX4_amountOf_21 rfl)), m_push⟩ (
  lkp_c (P := OkP 382) ⟨(PuOK.ok (ok_icmp_ne dX4_amountOf_22 rfl)), m_icmp⟩ (
  lkp_c (P := OkP 382) ⟨(PuOK.ok (ok_aload_n dX4_amountOf_25 rfl)), m_aload⟩ (
  lkp_c (P := OkP 382) ⟨(PuOK.ok (ok_bipush dX4_amountOf_26 rfl)), m_push⟩ (
  lkp_c (P := OkP 382) ⟨ok_cv (List.forall_mem_cons.mpr ⟨tg_V (ci := 30) (r := CLr 30) (y := 328) rfl ⟨rfl, by decide⟩ rfl q3371 q3373 qs66 q139 q3374 ⟨cn_34.1, cn_34.2, pd_48⟩ dX4_amountOf_28, (List.forall_mem_nil _)⟩) hd_no, m_cv⟩ (
  lkp_c (P := OkP 382) ⟨(PuOK.ok (ok_goto dX4_amountOf_31 rfl)), m_goto⟩ (
  lkp_c (P := OkP 382) ⟨(PuOK.ok (ok_iconst dX4_amountOf_34 rfl)), m_push⟩ (
  lkp_c (P := OkP 382) ⟨(PuOK.ok (ok_istore dX4_amountOf_35)), m_istore⟩ (
  lkp_c (P := OkP 382) ⟨(PuOK.ok (ok_iload dX4_amountOf_37)), m_iload⟩ (
  lkp_c (P := OkP 382) ⟨(PuOK.ok (ok_iload dX4_amountOf_39)), m_iload⟩ (
  lkp_c (P := OkP 382) ⟨(PuOK.ok (ok_iload_n dX4_amountOf_41 rfl)), m_iload⟩ (
  lkp_c (P := OkP 382) ⟨(PuOK.ok (ok_imul dX4_amountOf_42)), m_iop⟩ (
  lkp_c (P := OkP 382) ⟨(PuOK.ok (ok_bipush dX4_amountOf_43 rfl)), m_push⟩ (
  lkp_c (P := OkP 382) ⟨(PuOK.ok (ok_idiv dX4_amountOf_45)), m_iopz⟩ (
  lkp_c (P := OkP 382) ⟨(PuOK.ok (ok_isub dX4_amountOf_46)), m_iop⟩ (
  lkp_c (P := OkP 382) ⟨(PuOK.ok (ok_aload_n dX4_amountOf_47 rfl)), m_aload⟩ (
  lkp_c (P := OkP 382) ⟨(PuOK.ok (ok_bipush dX4_amountOf_48 rfl)), m_push⟩ (
  lkp_c (P := OkP 382) ⟨ok_cv (List.forall_mem_cons.mpr ⟨tg_V (ci := 30) (r := CLr 30) (y := 328) rfl ⟨rfl, by decide⟩ rfl q3371 q3373 qs66 q139 q3374 ⟨cn_34.1, cn_34.2, pd_48⟩ dX4_amountOf_50, (List.forall_mem_nil _)⟩) hd_no, m_cv⟩ (
  lkp_c (P := OkP 382) ⟨(PuOK.ok (ok_aload_n dX4_amountOf_53 rfl)), m_aload⟩ (
  lkp_c (P := OkP 382) ⟨(PuOK.ok (ok_iload_n dX4_amountOf_54 rfl)), m_iload⟩ (
  lkp_c (P := OkP 382) ⟨(PuOK.ok (ok_iconst dX4_amountOf_55 rfl)), m_push⟩ (
  lkp_c (P := OkP 382) ⟨ok_cv (List.forall_mem_cons.mpr ⟨tg_V (ci := 30) (r := CLr 30) (y := 372) rfl ⟨rfl, by decide⟩ rfl q3551 q3553 qs94 q139 q3554 ⟨cn_34.1, cn_34.2, pd_72⟩ dX4_amountOf_56, (List.forall_mem_nil _)⟩) hd_no, m_cv⟩ (
  lkp_c (P := OkP 382) ⟨(PuOK.ok (ok_imul dX4_amountOf_59)), m_iop⟩ (
  lkp_c (P := OkP 382) ⟨(PuOK.ok (ok_iadd dX4_amountOf_60)), m_iop⟩ (
  lkp_c (P := OkP 382) ⟨(PuOK.ok (ok_iload dX4_amountOf_61)), m_iload⟩ (
  lkp_c (P := OkP 382) ⟨(PuOK.ok (ok_iadd dX4_amountOf_63)), m_iop⟩ (
  trivial))))))))))))))))))))))))))))))))))))))))
theorem c_382_1 : LkP (OkP 382) [(64, o_ret 1)] := lkp_c (P := OkP 382) ⟨ok_iret rfl rfl (by decide) dX4_amountOf_64, m_ret⟩ (
  trivial)
theorem mt_382 : MtOK TB NT IT 382 := ⟨by decide +kernel, rfl, (fun h => by cases h), Or.inl ⟨rfl, rfl⟩, rfl, by decide, lk2_all (P := OkP 382) ⟨c_382_0, c_382_1, trivial⟩⟩
def dkwX4_putBill_0 : List UInt8 := [42, 180, 0, 7, 17, 4, 96, 16, 18, 27, 104, 96, 28, 96, 29, 79, 177]
abbrev dktX4_putBill_0 : List UInt8 := dkwX4_putBill_0 ++ []
theorem dksX4_putBill_0 : cX4_putBill.data.toList.drop 0 = dktX4_putBill_0 := by decide +kernel
theorem dX4_putBill_0 : decode cX4_putBill 0 = .ok (.aload_n 0, 1) := dk_42 (dk_at dksX4_putBill_0 0 rfl rfl)
theorem dX4_putBill_1 : decode cX4_putBill 1 = .ok (.getfield 7, 3) := dk_180 0 7 (dk_at dksX4_putBill_0 1 rfl rfl)
theorem dX4_putBill_4 : decode cX4_putBill 4 = .ok (.sipush 1120, 3) := dk_17 4 96 (dk_at dksX4_putBill_0 4 rfl rfl)
theorem dX4_putBill_7 : decode cX4_putBill 7 = .ok (.bipush 18, 2) := dk_16 18 (dk_at dksX4_putBill_0 7 rfl rfl)
theorem dX4_putBill_9 : decode cX4_putBill 9 = .ok (.iload_n 1, 1) := dk_27 (dk_at dksX4_putBill_0 9 rfl rfl)
theorem dX4_putBill_10 : decode cX4_putBill 10 = .ok (.imul, 1) := dk_104 (dk_at dksX4_putBill_0 10 rfl rfl)
theorem dX4_putBill_11 : decode cX4_putBill 11 = .ok (.iadd, 1) := dk_96 (dk_at dksX4_putBill_0 11 rfl rfl)
theorem dX4_putBill_12 : decode cX4_putBill 12 = .ok (.iload_n 2, 1) := dk_28 (dk_at dksX4_putBill_0 12 rfl rfl)
theorem dX4_putBill_13 : decode cX4_putBill 13 = .ok (.iadd, 1) := dk_96 (dk_at dksX4_putBill_0 13 rfl rfl)
theorem dX4_putBill_14 : decode cX4_putBill 14 = .ok (.iload_n 3, 1) := dk_29 (dk_at dksX4_putBill_0 14 rfl rfl)
theorem dX4_putBill_15 : decode cX4_putBill 15 = .ok (.iastore, 1) := dk_79 (dk_at dksX4_putBill_0 15 rfl rfl)
theorem dX4_putBill_16 : decode cX4_putBill 16 = .ok (.return_, 1) := dk_177 (dk_at dksX4_putBill_0 16 rfl rfl)
theorem c_383_0 : LkP (OkP 383) [(0, o_aload 0 1), (1, o_get 148), (4, o_push 3 (.int 1120)), (7, o_push 2 (.int 18)), (9, o_iload 1 1), (10, o_iop (fun x y => x * y)), (11, o_iop (fun x y => x + y)), (12, o_iload 2 1), (13, o_iop (fun x y => x + y)), (14, o_iload 3 1), (15, o_wrI 0), (16, o_vret)] := lkp_c (P := OkP 383) ⟨(PuOK.ok (ok_aload_n dX4_putBill_0 rfl)), m_aload⟩ (
  lkp_c (P := OkP 383) ⟨ok_get ⟨"TollRoadModel", q3080, Or.inl rfl⟩ dX4_putBill_1, m_get⟩ (
  lkp_c (P := OkP 383) ⟨(PuOK.ok (ok_sipush dX4_putBill_4 rfl)), m_push⟩ (
  lkp_c (P := OkP 383) ⟨(PuOK.ok (ok_bipush dX4_putBill_7 rfl)), m_push⟩ (
  lkp_c (P := OkP 383) ⟨(PuOK.ok (ok_iload_n dX4_putBill_9 rfl)), m_iload⟩ (
  lkp_c (P := OkP 383) ⟨(PuOK.ok (ok_imul dX4_putBill_10)), m_iop⟩ (
  lkp_c (P := OkP 383) ⟨(PuOK.ok (ok_iadd dX4_putBill_11)), m_iop⟩ (
  lkp_c (P := OkP 383) ⟨(PuOK.ok (ok_iload_n dX4_putBill_12 rfl)), m_iload⟩ (
  lkp_c (P := OkP 383) ⟨(PuOK.ok (ok_iadd dX4_putBill_13)), m_iop⟩ (
  lkp_c (P := OkP 383) ⟨(PuOK.ok (ok_iload_n dX4_putBill_14 rfl)), m_iload⟩ (
  lkp_c (P := OkP 383) ⟨ok_iast dX4_putBill_15, m_wrI⟩ (
  lkp_c (P := OkP 383) ⟨ok_vret rfl dX4_putBill_16, m_vret⟩ (
  trivial))))))))))))
theorem mt_383 : MtOK TB NT IT 383 := ⟨by decide +kernel, rfl, (fun h => by cases h), Or.inl ⟨rfl, rfl⟩, rfl, by decide, lk2_all (P := OkP 383) ⟨c_383_0, trivial⟩⟩
def dkwX4_keepPlaces_3 : List UInt8 := [42, 180, 0, 7, 16, 14, 92, 46, 4, 96, 79, 132, 3, 1, 167, 255, 192, 177]
abbrev dktX4_keepPlaces_3 : List UInt8 := dkwX4_keepPlaces_3 ++ []
def dkwX4_keepPlaces_2 : List UInt8 := [96, 42, 180, 0, 72, 29, 46, 42, 180, 0, 75, 29, 51, 153, 0, 8, 16, 16, 167, 0, 4, 3, 96, 79]
abbrev dktX4_keepPlaces_2 : List UInt8 := dkwX4_keepPlaces_2 ++ dktX4_keepPlaces_3
def dkwX4_keepPlaces_1 : List UInt8 := [180, 0, 63, 28, 4, 96, 46, 162, 0, 58, 42, 180, 0, 7, 17, 8, 152, 42, 180, 0, 7, 16, 14, 46]
abbrev dktX4_keepPlaces_1 : List UInt8 := dkwX4_keepPlaces_1 ++ dktX4_keepPlaces_2
def dkwX4_keepPlaces_0 : List UInt8 := [42, 27, 16, 15, 42, 180, 0, 7, 16, 14, 46, 182, 1, 110, 42, 180, 0, 63, 28, 46, 62, 29, 42]
abbrev dktX4_keepPlaces_0 : List UInt8 := dkwX4_keepPlaces_0 ++ dktX4_keepPlaces_1
theorem dksX4_keepPlaces_0 : cX4_keepPlaces.data.toList.drop 0 = dktX4_keepPlaces_0 := by decide +kernel
theorem dksX4_keepPlaces_1 : cX4_keepPlaces.data.toList.drop 23 = dktX4_keepPlaces_1 := dk_seg dksX4_keepPlaces_0 23 rfl rfl
theorem dksX4_keepPlaces_2 : cX4_keepPlaces.data.toList.drop 47 = dktX4_keepPlaces_2 := dk_seg dksX4_keepPlaces_1 24 rfl rfl
theorem dksX4_keepPlaces_3 : cX4_keepPlaces.data.toList.drop 71 = dktX4_keepPlaces_3 := dk_seg dksX4_keepPlaces_2 24 rfl rfl
theorem dX4_keepPlaces_0 : decode cX4_keepPlaces 0 = .ok (.aload_n 0, 1) := dk_42 (dk_at dksX4_keepPlaces_0 0 rfl rfl)
theorem dX4_keepPlaces_1 : decode cX4_keepPlaces 1 = .ok (.iload_n 1, 1) := dk_27 (dk_at dksX4_keepPlaces_0 1 rfl rfl)
theorem dX4_keepPlaces_2 : decode cX4_keepPlaces 2 = .ok (.bipush 15, 2) := dk_16 15 (dk_at dksX4_keepPlaces_0 2 rfl rfl)
theorem dX4_keepPlaces_4 : decode cX4_keepPlaces 4 = .ok (.aload_n 0, 1) := dk_42 (dk_at dksX4_keepPlaces_0 4 rfl rfl)
theorem dX4_keepPlaces_5 : decode cX4_keepPlaces 5 = .ok (.getfield 7, 3) := dk_180 0 7 (dk_at dksX4_keepPlaces_0 5 rfl rfl)
theorem dX4_keepPlaces_8 : decode cX4_keepPlaces 8 = .ok (.bipush 14, 2) := dk_16 14 (dk_at dksX4_keepPlaces_0 8 rfl rfl)
theorem dX4_keepPlaces_10 : decode cX4_keepPlaces 10 = .ok (.iaload, 1) := dk_46 (dk_at dksX4_keepPlaces_0 10 rfl rfl)
theorem dX4_keepPlaces_11 : decode cX4_keepPlaces 11 = .ok (.invokevirtual 366, 3) := dk_182 1 110 (dk_at dksX4_keepPlaces_0 11 rfl rfl)
theorem dX4_keepPlaces_14 : decode cX4_keepPlaces 14 = .ok (.aload_n 0, 1) := dk_42 (dk_at dksX4_keepPlaces_0 14 rfl rfl)
theorem dX4_keepPlaces_15 : decode cX4_keepPlaces 15 = .ok (.getfield 63, 3) := dk_180 0 63 (dk_at dksX4_keepPlaces_0 15 rfl rfl)
theorem dX4_keepPlaces_18 : decode cX4_keepPlaces 18 = .ok (.iload_n 2, 1) := dk_28 (dk_at dksX4_keepPlaces_0 18 rfl rfl)
theorem dX4_keepPlaces_19 : decode cX4_keepPlaces 19 = .ok (.iaload, 1) := dk_46 (dk_at dksX4_keepPlaces_0 19 rfl rfl)
theorem dX4_keepPlaces_20 : decode cX4_keepPlaces 20 = .ok (.istore_n 3, 1) := dk_62 (dk_at dksX4_keepPlaces_0 20 rfl rfl)
theorem dX4_keepPlaces_21 : decode cX4_keepPlaces 21 = .ok (.iload_n 3, 1) := dk_29 (dk_at dksX4_keepPlaces_0 21 rfl rfl)
theorem dX4_keepPlaces_22 : decode cX4_keepPlaces 22 = .ok (.aload_n 0, 1) := dk_42 (dk_at dksX4_keepPlaces_0 22 rfl rfl)
theorem dX4_keepPlaces_23 : decode cX4_keepPlaces 23 = .ok (.getfield 63, 3) := dk_180 0 63 (dk_at dksX4_keepPlaces_1 0 rfl rfl)
theorem dX4_keepPlaces_26 : decode cX4_keepPlaces 26 = .ok (.iload_n 2, 1) := dk_28 (dk_at dksX4_keepPlaces_1 3 rfl rfl)
theorem dX4_keepPlaces_27 : decode cX4_keepPlaces 27 = .ok (.iconst 1, 1) := dk_4 (dk_at dksX4_keepPlaces_1 4 rfl rfl)
theorem dX4_keepPlaces_28 : decode cX4_keepPlaces 28 = .ok (.iadd, 1) := dk_96 (dk_at dksX4_keepPlaces_1 5 rfl rfl)
theorem dX4_keepPlaces_29 : decode cX4_keepPlaces 29 = .ok (.iaload, 1) := dk_46 (dk_at dksX4_keepPlaces_1 6 rfl rfl)
theorem dX4_keepPlaces_30 : decode cX4_keepPlaces 30 = .ok (.if_icmp .ge 58, 3) := dk_162 0 58 (dk_at dksX4_keepPlaces_1 7 rfl rfl)
theorem dX4_keepPlaces_33 : decode cX4_keepPlaces 33 = .ok (.aload_n 0, 1) := dk_42 (dk_at dksX4_keepPlaces_1 10 rfl rfl)
theorem dX4_keepPlaces_34 : decode cX4_keepPlaces 34 = .ok (.getfield 7, 3) := dk_180 0 7 (dk_at dksX4_keepPlaces_1 11 rfl rfl)
theorem dX4_keepPlaces_37 : decode cX4_keepPlaces 37 = .ok (.sipush 2200, 3) := dk_17 8 152 (dk_at dksX4_keepPlaces_1 14 rfl rfl)
theorem dX4_keepPlaces_40 : decode cX4_keepPlaces 40 = .ok (.aload_n 0, 1) := dk_42 (dk_at dksX4_keepPlaces_1 17 rfl rfl)
theorem dX4_keepPlaces_41 : decode cX4_keepPlaces 41 = .ok (.getfield 7, 3) := dk_180 0 7 (dk_at dksX4_keepPlaces_1 18 rfl rfl)
theorem dX4_keepPlaces_44 : decode cX4_keepPlaces 44 = .ok (.bipush 14, 2) := dk_16 14 (dk_at dksX4_keepPlaces_1 21 rfl rfl)
theorem dX4_keepPlaces_46 : decode cX4_keepPlaces 46 = .ok (.iaload, 1) := dk_46 (dk_at dksX4_keepPlaces_1 23 rfl rfl)
theorem dX4_keepPlaces_47 : decode cX4_keepPlaces 47 = .ok (.iadd, 1) := dk_96 (dk_at dksX4_keepPlaces_2 0 rfl rfl)
theorem dX4_keepPlaces_48 : decode cX4_keepPlaces 48 = .ok (.aload_n 0, 1) := dk_42 (dk_at dksX4_keepPlaces_2 1 rfl rfl)
theorem dX4_keepPlaces_49 : decode cX4_keepPlaces 49 = .ok (.getfield 72, 3) := dk_180 0 72 (dk_at dksX4_keepPlaces_2 2 rfl rfl)
theorem dX4_keepPlaces_52 : decode cX4_keepPlaces 52 = .ok (.iload_n 3, 1) := dk_29 (dk_at dksX4_keepPlaces_2 5 rfl rfl)
theorem dX4_keepPlaces_53 : decode cX4_keepPlaces 53 = .ok (.iaload, 1) := dk_46 (dk_at dksX4_keepPlaces_2 6 rfl rfl)
theorem dX4_keepPlaces_54 : decode cX4_keepPlaces 54 = .ok (.aload_n 0, 1) := dk_42 (dk_at dksX4_keepPlaces_2 7 rfl rfl)
theorem dX4_keepPlaces_55 : decode cX4_keepPlaces 55 = .ok (.getfield 75, 3) := dk_180 0 75 (dk_at dksX4_keepPlaces_2 8 rfl rfl)
theorem dX4_keepPlaces_58 : decode cX4_keepPlaces 58 = .ok (.iload_n 3, 1) := dk_29 (dk_at dksX4_keepPlaces_2 11 rfl rfl)
theorem dX4_keepPlaces_59 : decode cX4_keepPlaces 59 = .ok (.baload, 1) := dk_51 (dk_at dksX4_keepPlaces_2 12 rfl rfl)
theorem dX4_keepPlaces_60 : decode cX4_keepPlaces 60 = .ok (.ifCond .eq 8, 3) := dk_153 0 8 (dk_at dksX4_keepPlaces_2 13 rfl rfl)
theorem dX4_keepPlaces_63 : decode cX4_keepPlaces 63 = .ok (.bipush 16, 2) := dk_16 16 (dk_at dksX4_keepPlaces_2 16 rfl rfl)
theorem dX4_keepPlaces_65 : decode cX4_keepPlaces 65 = .ok (.goto 4, 3) := dk_167 0 4 (dk_at dksX4_keepPlaces_2 18 rfl rfl)
theorem dX4_keepPlaces_68 : decode cX4_keepPlaces 68 = .ok (.iconst 0, 1) := dk_3 (dk_at dksX4_keepPlaces_2 21 rfl rfl)
theorem dX4_keepPlaces_69 : decode cX4_keepPlaces 69 = .ok (.iadd, 1) := dk_96 (dk_at dksX4_keepPlaces_2 22 rfl rfl)
theorem dX4_keepPlaces_70 : decode cX4_keepPlaces 70 = .ok (.iastore, 1) := dk_79 (dk_at dksX4_keepPlaces_2 23 rfl rfl)
theorem dX4_keepPlaces_71 : decode cX4_keepPlaces 71 = .ok (.aload_n 0, 1) := dk_42 (dk_at dksX4_keepPlaces_3 0 rfl rfl)
theorem dX4_keepPlaces_72 : decode cX4_keepPlaces 72 = .ok (.getfield 7, 3) := dk_180 0 7 (dk_at dksX4_keepPlaces_3 1 rfl rfl)
theorem dX4_keepPlaces_75 : decode cX4_keepPlaces 75 = .ok (.bipush 14, 2) := dk_16 14 (dk_at dksX4_keepPlaces_3 4 rfl rfl)
theorem dX4_keepPlaces_77 : decode cX4_keepPlaces 77 = .ok (.dup2, 1) := dk_92 (dk_at dksX4_keepPlaces_3 6 rfl rfl)
theorem dX4_keepPlaces_78 : decode cX4_keepPlaces 78 = .ok (.iaload, 1) := dk_46 (dk_at dksX4_keepPlaces_3 7 rfl rfl)
theorem dX4_keepPlaces_79 : decode cX4_keepPlaces 79 = .ok (.iconst 1, 1) := dk_4 (dk_at dksX4_keepPlaces_3 8 rfl rfl)
theorem dX4_keepPlaces_80 : decode cX4_keepPlaces 80 = .ok (.iadd, 1) := dk_96 (dk_at dksX4_keepPlaces_3 9 rfl rfl)
theorem dX4_keepPlaces_81 : decode cX4_keepPlaces 81 = .ok (.iastore, 1) := dk_79 (dk_at dksX4_keepPlaces_3 10 rfl rfl)
theorem dX4_keepPlaces_82 : decode cX4_keepPlaces 82 = .ok (.iinc 3 1, 3) := dk_132 3 1 (dk_at dksX4_keepPlaces_3 11 rfl rfl)
theorem dX4_keepPlaces_85 : decode cX4_keepPlaces 85 = .ok (.goto (-64), 3) := dk_167 255 192 (dk_at dksX4_keepPlaces_3 14 rfl rfl)
theorem dX4_keepPlaces_88 : decode cX4_keepPlaces 88 = .ok (.return_, 1) := dk_177 (dk_at dksX4_keepPlaces_3 17 rfl rfl)
theorem c_384_0 : LkP (OkP 384) [(0, o_aload 0 1), (1, o_iload 1 1), (2, o_push 2 (.int 15)), (4, o_aload 0 1), (5, o_get 148), (8, o_push 2 (.int 14)), (10, o_rdI 0), (11, o_cv [(30, 383)] 3 3 true none), (14, o_aload 0 1), (15, o_get 179), (18, o_iload 2 1), (19, o_rdI 0), (20, o_istore 3 1), (21, o_iload 3 1), (22, o_aload 0 1), (23, o_get 179), (26, o_iload 2 1), (27, o_push 1 (.int 1)), (28, o_iop (fun x y => x + y)), (29, o_rdI 0), (30, o_icmp (fun x y => decide (y ≤ x)) 88), (33, o_aload 0 1), (34, o_get 148), (37, o_push 3 (.int 2200)), (40, o_aload 0 1), (41, o_get 148), (44, o_push 2 (.int 14)), (46, o_rdI 0), (47, o_iop (fun x y => x + y)), (48, o_aload 0 1), (49, o_get 182), (52, o_iload 3 1), (53, o_rdI 0), (54, o_aload 0 1), (55, o_get 183), (58, o_iload 3 1), (59, o_rdI 2), (60, o_if (fun x => decide (x = 0)) 68), (63, o_push 2 (.int 16))] := lkp_c (P := OkP 384) ⟨(PuOK.ok (ok_aload_n dX4_keepPlaces_0 rfl)), m_aload⟩ (
  lkp_c (P := OkP 384) ⟨(PuOK.ok (ok_iload_n dX4_keepPlaces_1 rfl)), m_iload⟩ (
  lkp_c (P := OkP 384) ⟨(PuOK.ok (ok_bipush dX4_keepPlaces_2 rfl)), m_push⟩ (
  lkp_c (P := OkP 384) ⟨(PuOK.ok (ok_aload_n dX4_keepPlaces_4 rfl)), m_aload⟩ (
  lkp_c (P := OkP 384) ⟨ok_get ⟨"TollRoadModel", q3080, Or.inl rfl⟩ dX4_keepPlaces_5, m_get⟩ (
  lkp_c (P := OkP 384) ⟨(PuOK.ok (ok_bipush dX4_keepPlaces_8 rfl)), m_push⟩ (
  lkp_c (P := OkP 384) ⟨ok_iald dX4_keepPlaces_10, m_rdI⟩ (
  lkp_c (P := OkP 384) ⟨ok_cv (List.forall_mem_cons.mpr ⟨tg_V (ci := 30) (r := CLr 30) (y := 383) rfl ⟨rfl, by decide⟩ rfl q3596 q3598 qs103 q139 q3599 ⟨cn_34.1, cn_34.2, pd_105⟩ dX4_keepPlaces_11, (List.forall_mem_nil _)⟩) hd_no, m_cv⟩ (
  lkp_c (P := OkP 384) ⟨(PuOK.ok (ok_aload_n dX4_keepPlaces_14 rfl)), m_aload⟩ (
  lkp_c (P := OkP 384) ⟨ok_get ⟨"TollRoadModel", q3111, Or.inl rfl⟩ dX4_keepPlaces_15, m_get⟩ (
  lkp_c (P := OkP 384) ⟨(PuOK.ok (ok_iload_n dX4_keepPlaces_18 rfl)), m_iload⟩ (
  lkp_c (P := OkP 384) ⟨ok_iald dX4_keepPlaces_19, m_rdI⟩ (
  lkp_c (P := OkP 384) ⟨(PuOK.ok (ok_istore_n dX4_keepPlaces_20 rfl)), m_istore⟩ (
  lkp_c (P := OkP 384) ⟨(PuOK.ok (ok_iload_n dX4_keepPlaces_21 rfl)), m_iload⟩ (
  lkp_c (P := OkP 384) ⟨(PuOK.ok (ok_aload_n dX4_keepPlaces_22 rfl)), m_aload⟩ (
  lkp_c (P := OkP 384) ⟨ok_get ⟨"TollRoadModel", q3111, Or.inl rfl⟩ dX4_keepPlaces_23, m_get⟩ (
  lkp_c (P := OkP 384) ⟨(PuOK.ok (ok_iload_n dX4_keepPlaces_26 rfl)), m_iload⟩ (
  lkp_c (P := OkP 384) ⟨(PuOK.ok (ok_iconst dX4_keepPlaces_27 rfl)), m_push⟩ (
  lkp_c (P := OkP 384) ⟨(PuOK.ok (ok_iadd dX4_keepPlaces_28)), m_iop⟩ (
  lkp_c (P := OkP 384) ⟨ok_iald dX4_keepPlaces_29, m_rdI⟩ (
  lkp_c (P := OkP 384) ⟨(PuOK.ok (ok_icmp_ge dX4_keepPlaces_30 rfl)), m_icmp⟩ (
  lkp_c (P := OkP 384) ⟨(PuOK.ok (ok_aload_n dX4_keepPlaces_33 rfl)), m_aload⟩ (
  lkp_c (P := OkP 384) ⟨ok_get ⟨"TollRoadModel", q3080, Or.inl rfl⟩ dX4_keepPlaces_34, m_get⟩ (
  lkp_c (P := OkP 384) ⟨(PuOK.ok (ok_sipush dX4_keepPlaces_37 rfl)), m_push⟩ (
  lkp_c (P := OkP 384) ⟨(PuOK.ok (ok_aload_n dX4_keepPlaces_40 rfl)), m_aload⟩ (
  lkp_c (P := OkP 384) ⟨ok_get ⟨"TollRoadModel", q3080, Or.inl rfl⟩ dX4_keepPlaces_41, m_get⟩ (
  lkp_c (P := OkP 384) ⟨(PuOK.ok (ok_bipush dX4_keepPlaces_44 rfl)), m_push⟩ (
  lkp_c (P := OkP 384) ⟨ok_iald dX4_keepPlaces_46, m_rdI⟩ (
  lkp_c (P := OkP 384) ⟨(PuOK.ok (ok_iadd dX4_keepPlaces_47)), m_iop⟩ (
  lkp_c (P := OkP 384) ⟨(PuOK.ok (ok_aload_n dX4_keepPlaces_48 rfl)), m_aload⟩ (
  lkp_c (P := OkP 384) ⟨ok_get ⟨"TollRoadModel", q3114, Or.inl rfl⟩ dX4_keepPlaces_49, m_get⟩ (
  lkp_c (P := OkP 384) ⟨(PuOK.ok (ok_iload_n dX4_keepPlaces_52 rfl)), m_iload⟩ (
  lkp_c (P := OkP 384) ⟨ok_iald dX4_keepPlaces_53, m_rdI⟩ (
  lkp_c (P := OkP 384) ⟨(PuOK.ok (ok_aload_n dX4_keepPlaces_54 rfl)), m_aload⟩ (
  lkp_c (P := OkP 384) ⟨ok_get ⟨"TollRoadModel", q3115, Or.inl rfl⟩ dX4_keepPlaces_55, m_get⟩ (
  lkp_c (P := OkP 384) ⟨(PuOK.ok (ok_iload_n dX4_keepPlaces_58 rfl)), m_iload⟩ (
  lkp_c (P := OkP 384) ⟨ok_zald dX4_keepPlaces_59, m_rdI⟩ (
  lkp_c (P := OkP 384) ⟨(PuOK.ok (ok_if_eq dX4_keepPlaces_60 rfl)), m_if⟩ (
  lkp_c (P := OkP 384) ⟨(PuOK.ok (ok_bipush dX4_keepPlaces_63 rfl)), m_push⟩ (
  trivial)))))))))))))))))))))))))))))))))))))))
theorem c_384_1 : LkP (OkP 384) [(65, o_goto 69), (68, o_push 1 (.int 0)), (69, o_iop (fun x y => x + y)), (70, o_wrI 0), (71, o_aload 0 1), (72, o_get 148), (75, o_push 2 (.int 14)), (77, o_dup2), (78, o_rdI 0), (79, o_push 1 (.int 1)), (80, o_iop (fun x y => x + y)), (81, o_wrI 0), (82, o_iinc 3 1), (85, o_goto 21), (88, o_vret)] := lkp_c (P := OkP 384) ⟨(PuOK.ok (ok_goto dX4_keepPlaces_65 rfl)), m_goto⟩ (
  lkp_c (P := OkP 384) ⟨(PuOK.ok (ok_iconst dX4_keepPlaces_68 rfl)), m_push⟩ (
  lkp_c (P := OkP 384) ⟨(PuOK.ok (ok_iadd dX4_keepPlaces_69)), m_iop⟩ (
  lkp_c (P := OkP 384) ⟨ok_iast dX4_keepPlaces_70, m_wrI⟩ (
  lkp_c (P := OkP 384) ⟨(PuOK.ok (ok_aload_n dX4_keepPlaces_71 rfl)), m_aload⟩ (
  lkp_c (P := OkP 384) ⟨ok_get ⟨"TollRoadModel", q3080, Or.inl rfl⟩ dX4_keepPlaces_72, m_get⟩ (
  lkp_c (P := OkP 384) ⟨(PuOK.ok (ok_bipush dX4_keepPlaces_75 rfl)), m_push⟩ (
  lkp_c (P := OkP 384) ⟨(PuOK.ok (ok_dup2 dX4_keepPlaces_77)), m_dup2⟩ (
  lkp_c (P := OkP 384) ⟨ok_iald dX4_keepPlaces_78, m_rdI⟩ (
  lkp_c (P := OkP 384) ⟨(PuOK.ok (ok_iconst dX4_keepPlaces_79 rfl)), m_push⟩ (
  lkp_c (P := OkP 384) ⟨(PuOK.ok (ok_iadd dX4_keepPlaces_80)), m_iop⟩ (
  lkp_c (P := OkP 384) ⟨ok_iast dX4_keepPlaces_81, m_wrI⟩ (
  lkp_c (P := OkP 384) ⟨(PuOK.ok (ok_iinc dX4_keepPlaces_82 rfl)), m_iinc⟩ (
  lkp_c (P := OkP 384) ⟨(PuOK.ok (ok_goto dX4_keepPlaces_85 rfl)), m_goto⟩ (
  lkp_c (P := OkP 384) ⟨ok_vret rfl dX4_keepPlaces_88, m_vret⟩ (
  trivial)))))))))))))))
theorem mt_384 : MtOK TB NT IT 384 := ⟨by decide +kernel, rfl, (fun h => by cases h), Or.inl ⟨rfl, rfl⟩, rfl, by decide, lk2_all (P := OkP 384) ⟨c_384_0, c_384_1, trivial⟩⟩
def dkwX4_charge_1 : List UInt8 := [42, 28, 3, 29, 116, 182, 0, 224, 42, 28, 6, 4, 182, 0, 224, 42, 28, 7, 29, 182, 0, 224, 177]
abbrev dktX4_charge_1 : List UInt8 := dkwX4_charge_1 ++ []
def dkwX4_charge_0 : List UInt8 := [28, 2, 160, 0, 22, 42, 180, 0, 7, 17, 0, 235, 6, 27, 104, 96, 5, 96, 92, 46, 29, 96, 79, 177]
abbrev dktX4_charge_0 : List UInt8 := dkwX4_charge_0 ++ dktX4_charge_1
theorem dksX4_charge_0 : cX4_charge.data.toList.drop 0 = dktX4_charge_0 := by decide +kernel
theorem dksX4_charge_1 : cX4_charge.data.toList.drop 24 = dktX4_charge_1 := dk_seg dksX4_charge_0 24 rfl rfl
theorem dX4_charge_0 : decode cX4_charge 0 = .ok (.iload_n 2, 1) := dk_28 (dk_at dksX4_charge_0 0 rfl rfl)
theorem dX4_charge_1 : decode cX4_charge 1 = .ok (.iconst (-1), 1) := dk_2 (dk_at dksX4_charge_0 1 rfl rfl)
theorem dX4_charge_2 : decode cX4_charge 2 = .ok (.if_icmp .ne 22, 3) := dk_160 0 22 (dk_at dksX4_charge_0 2 rfl rfl)
theorem dX4_charge_5 : decode cX4_charge 5 = .ok (.aload_n 0, 1) := dk_42 (dk_at dksX4_charge_0 5 rfl rfl)
theorem dX4_charge_6 : decode cX4_charge 6 = .ok (.getfield 7, 3) := dk_180 0 7 (dk_at dksX4_charge_0 6 rfl rfl)
theorem dX4_charge_9 : decode cX4_charge 9 = .ok (.sipush 235, 3) := dk_17 0 235 (dk_at dksX4_charge_0 9 rfl rfl)
theorem dX4_charge_12 : decode cX4_charge 12 = .ok (.iconst 3, 1) := dk_6 (dk_at dksX4_charge_0 12 rfl rfl)
theorem dX4_charge_13 : decode cX4_charge 13 = .ok (.iload_n 1, 1) := dk_27 (dk_at dksX4_charge_0 13 rfl rfl)
theorem dX4_charge_14 : decode cX4_charge 14 = .ok (.imul, 1) := dk_104 (dk_at dksX4_charge_0 14 rfl rfl)
theorem dX4_charge_15 : decode cX4_charge 15 = .ok (.iadd, 1) := dk_96 (dk_at dksX4_charge_0 15 rfl rfl)
theorem dX4_charge_16 : decode cX4_charge 16 = .ok (.iconst 2, 1) := dk_5 (dk_at dksX4_charge_0 16 rfl rfl)
theorem dX4_charge_17 : decode cX4_charge 17 = .ok (.iadd, 1) := dk_96 (dk_at dksX4_charge_0 17 rfl rfl)
theorem dX4_charge_18 : decode cX4_charge 18 = .ok (.dup2, 1) := dk_92 (dk_at dksX4_charge_0 18 rfl rfl)
theorem dX4_charge_19 : decode cX4_charge 19 = .ok (.iaload, 1) := dk_46 (dk_at dksX4_charge_0 19 rfl rfl)
theorem dX4_charge_20 : decode cX4_charge 20 = .ok (.iload_n 3, 1) := dk_29 (dk_at dksX4_charge_0 20 rfl rfl)
theorem dX4_charge_21 : decode cX4_charge 21 = .ok (.iadd, 1) := dk_96 (dk_at dksX4_charge_0 21 rfl rfl)
theorem dX4_charge_22 : decode cX4_charge 22 = .ok (.iastore, 1) := dk_79 (dk_at dksX4_charge_0 22 rfl rfl)
theorem dX4_charge_23 : decode cX4_charge 23 = .ok (.return_, 1) := dk_177 (dk_at dksX4_charge_0 23 rfl rfl)
theorem dX4_charge_24 : decode cX4_charge 24 = .ok (.aload_n 0, 1) := dk_42 (dk_at dksX4_charge_1 0 rfl rfl)
theorem dX4_charge_25 : decode cX4_charge 25 = .ok (.iload_n 2, 1) := dk_28 (dk_at dksX4_charge_1 1 rfl rfl)
theorem dX4_charge_26 : decode cX4_charge 26 = .ok (.iconst 0, 1) := dk_3 (dk_at dksX4_charge_1 2 rfl rfl)
theorem dX4_charge_27 : decode cX4_charge 27 = .ok (.iload_n 3, 1) := dk_29 (dk_at dksX4_charge_1 3 rfl rfl)
theorem dX4_charge_28 : decode cX4_charge 28 = .ok (.ineg, 1) := dk_116 (dk_at dksX4_charge_1 4 rfl rfl)
theorem dX4_charge_29 : decode cX4_charge 29 = .ok (.invokevirtual 224, 3) := dk_182 0 224 (dk_at dksX4_charge_1 5 rfl rfl)
theorem dX4_charge_32 : decode cX4_charge 32 = .ok (.aload_n 0, 1) := dk_42 (dk_at dksX4_charge_1 8 rfl rfl)
theorem dX4_charge_33 : decode cX4_charge 33 = .ok (.iload_n 2, 1) := dk_28 (dk_at dksX4_charge_1 9 rfl rfl)
theorem dX4_charge_34 : decode cX4_charge 34 = .ok (.iconst 3, 1) := dk_6 (dk_at dksX4_charge_1 10 rfl rfl)
theorem dX4_charge_35 : decode cX4_charge 35 = .ok (.iconst 1, 1) := dk_4 (dk_at dksX4_charge_1 11 rfl rfl)
theorem dX4_charge_36 : decode cX4_charge 36 = .ok (.invokevirtual 224, 3) := dk_182 0 224 (dk_at dksX4_charge_1 12 rfl rfl)
theorem dX4_charge_39 : decode cX4_charge 39 = .ok (.aload_n 0, 1) := dk_42 (dk_at dksX4_charge_1 15 rfl rfl)
theorem dX4_charge_40 : decode cX4_charge 40 = .ok (.iload_n 2, 1) := dk_28 (dk_at dksX4_charge_1 16 rfl rfl)
theorem dX4_charge_41 : decode cX4_charge 41 = .ok (.iconst 4, 1) := dk_7 (dk_at dksX4_charge_1 17 rfl rfl)
theorem dX4_charge_42 : decode cX4_charge 42 = .ok (.iload_n 3, 1) := dk_29 (dk_at dksX4_charge_1 18 rfl rfl)
theorem dX4_charge_43 : decode cX4_charge 43 = .ok (.invokevirtual 224, 3) := dk_182 0 224 (dk_at dksX4_charge_1 19 rfl rfl)
theorem dX4_charge_46 : decode cX4_charge 46 = .ok (.return_, 1) := dk_177 (dk_at dksX4_charge_1 22 rfl rfl)
theorem c_385_0 : LkP (OkP 385) [(0, o_iload 2 1), (1, o_push 1 (.int (-1))), (2, o_icmp (fun x y => decide (¬ x = y)) 24), (5, o_aload 0 1), (6, o_get 148), (9, o_push 3 (.int 235)), (12, o_push 1 (.int 3)), (13, o_iload 1 1), (14, o_iop (fun x y => x * y)), (15, o_iop (fun x y => x + y)), (16, o_push 1 (.int 2)), (17, o_iop (fun x y => x + y)), (18, o_dup2), (19, o_rdI 0), (20, o_iload 3 1), (21, o_iop (fun x y => x + y)), (22, o_wrI 0), (23, o_vret), (24, o_aload 0 1), (25, o_iload 2 1), (26, o_push 1 (.int 0)), (27, o_iload 3 1), (28, o_ii (fun x => -x)), (29, o_cv [(30, 314)] 3 3 true none), (32, o_aload 0 1), (33, o_iload 2 1), (34, o_push 1 (.int 3)), (35, o_push 1 (.int 1)), (36, o_cv [(30, 314)] 3 3 true none), (39, o_aload 0 1), (40, o_iload 2 1), (41, o_push 1 (.int 4)), (42, o_iload 3 1), (43, o_cv [(30, 314)] 3 3 true none), (46, o_vret)] := lkp_c (P := OkP 385) ⟨(PuOK.ok (ok_iload_n dX4_charge_0 rfl)), m_iload⟩ (
  lkp_c (P := OkP 385) ⟨(PuOK.ok (ok_iconst dX4_charge_1 rfl)), m_push⟩ (
  lkp_c (P := OkP 385) ⟨(PuOK.ok (ok_icmp_ne dX4_charge_2 rfl)), m_icmp⟩ (
  lkp_c (P := OkP 385) ⟨(PuOK.ok (ok_aload_n dX4_charge_5 rfl)), m_aload⟩ (
  lkp_c (P := OkP 385) ⟨ok_get ⟨"TollRoadModel", q3080, Or.inl rfl⟩ dX4_charge_6, m_get⟩ (
  lkp_c (P := OkP 385) ⟨(PuOK.ok (ok_sipush dX4_charge_9 rfl)), m_push⟩ (
  lkp_c (P := OkP 385) ⟨(PuOK.ok (ok_iconst dX4_charge_12 rfl)), m_push⟩ (
  lkp_c (P := OkP 385) ⟨(PuOK.ok (ok_iload_n dX4_charge_13 rfl)), m_iload⟩ (
  lkp_c (P := OkP 385) ⟨(PuOK.ok (ok_imul dX4_charge_14)), m_iop⟩ (
  lkp_c (P := OkP 385) ⟨(PuOK.ok (ok_iadd dX4_charge_15)), m_iop⟩ (
  lkp_c (P := OkP 385) ⟨(PuOK.ok (ok_iconst dX4_charge_16 rfl)), m_push⟩ (
  lkp_c (P := OkP 385) ⟨(PuOK.ok (ok_iadd dX4_charge_17)), m_iop⟩ (
  lkp_c (P := OkP 385) ⟨(PuOK.ok (ok_dup2 dX4_charge_18)), m_dup2⟩ (
  lkp_c (P := OkP 385) ⟨ok_iald dX4_charge_19, m_rdI⟩ (
  lkp_c (P := OkP 385) ⟨(PuOK.ok (ok_iload_n dX4_charge_20 rfl)), m_iload⟩ (
  lkp_c (P := OkP 385) ⟨(PuOK.ok (ok_iadd dX4_charge_21)), m_iop⟩ (
  lkp_c (P := OkP 385) ⟨ok_iast dX4_charge_22, m_wrI⟩ (
  lkp_c (P := OkP 385) ⟨ok_vret rfl dX4_charge_23, m_vret⟩ (
  lkp_c (P := OkP 385) ⟨(PuOK.ok (ok_aload_n dX4_charge_24 rfl)), m_aload⟩ (
  lkp_c (P := OkP 385) ⟨(PuOK.ok (ok_iload_n dX4_charge_25 rfl)), m_iload⟩ (
  lkp_c (P := OkP 385) ⟨(PuOK.ok (ok_iconst dX4_charge_26 rfl)), m_push⟩ (
  lkp_c (P := OkP 385) ⟨(PuOK.ok (ok_iload_n dX4_charge_27 rfl)), m_iload⟩ (
  lkp_c (P := OkP 385) ⟨(PuOK.ok (ok_ineg dX4_charge_28)), m_ii⟩ (
  lkp_c (P := OkP 385) ⟨ok_cv (List.forall_mem_cons.mpr ⟨tg_V (ci := 30) (r := CLr 30) (y := 314) rfl ⟨rfl, by decide⟩ rfl q3313 q3315 qs59 q139 q3316 ⟨cn_34.1, cn_34.2, pd_105⟩ dX4_charge_29, (List.forall_mem_nil _)⟩) hd_no, m_cv⟩ (
  lkp_c (P := OkP 385) ⟨(PuOK.ok (ok_aload_n dX4_charge_32 rfl)), m_aload⟩ (
  lkp_c (P := OkP 385) ⟨(PuOK.ok (ok_iload_n dX4_charge_33 rfl)), m_iload⟩ (
  lkp_c (P := OkP 385) ⟨(PuOK.ok (ok_iconst dX4_charge_34 rfl)), m_push⟩ (
  lkp_c (P := OkP 385) ⟨(PuOK.ok (ok_iconst dX4_charge_35 rfl)), m_push⟩ (
  lkp_c (P := OkP 385) ⟨ok_cv (List.forall_mem_cons.mpr ⟨tg_V (ci := 30) (r := CLr 30) (y := 314) rfl ⟨rfl, by decide⟩ rfl q3313 q3315 qs59 q139 q3316 ⟨cn_34.1, cn_34.2, pd_105⟩ dX4_charge_36, (List.forall_mem_nil _)⟩) hd_no, m_cv⟩ (
  lkp_c (P := OkP 385) ⟨(PuOK.ok (ok_aload_n dX4_charge_39 rfl)), m_aload⟩ (
  lkp_c (P := OkP 385) ⟨(PuOK.ok (ok_iload_n dX4_charge_40 rfl)), m_iload⟩ (
  lkp_c (P := OkP 385) ⟨(PuOK.ok (ok_iconst dX4_charge_41 rfl)), m_push⟩ (
  lkp_c (P := OkP 385) ⟨(PuOK.ok (ok_iload_n dX4_charge_42 rfl)), m_iload⟩ (
  lkp_c (P := OkP 385) ⟨ok_cv (List.forall_mem_cons.mpr ⟨tg_V (ci := 30) (r := CLr 30) (y := 314) rfl ⟨rfl, by decide⟩ rfl q3313 q3315 qs59 q139 q3316 ⟨cn_34.1, cn_34.2, pd_105⟩ dX4_charge_43, (List.forall_mem_nil _)⟩) hd_no, m_cv⟩ (
  lkp_c (P := OkP 385) ⟨ok_vret rfl dX4_charge_46, m_vret⟩ (
  trivial)))))))))))))))))))))))))))))))))))
theorem mt_385 : MtOK TB NT IT 385 := ⟨by decide +kernel, rfl, (fun h => by cases h), Or.inl ⟨rfl, rfl⟩, rfl, by decide, lk2_all (P := OkP 385) ⟨c_385_0, trivial⟩⟩
def dkwX4_billAll_2 : List UInt8 := [132, 3, 1, 167, 255, 233, 28, 172]
abbrev dktX4_billAll_2 : List UInt8 := dkwX4_billAll_2 ++ []
def dkwX4_billAll_1 : List UInt8 := [3, 62, 29, 42, 180, 0, 7, 16, 11, 46, 162, 0, 18, 28, 42, 29, 27, 182, 1, 135, 96, 61]
abbrev dktX4_billAll_1 : List UInt8 := dkwX4_billAll_1 ++ dktX4_billAll_2
def dkwX4_billAll_0 : List UInt8 := [42, 3, 181, 0, 81, 27, 3, 19, 1, 134, 184, 0, 91, 154, 0, 9, 42, 4, 182, 0, 87, 172, 3, 61]
abbrev dktX4_billAll_0 : List UInt8 := dkwX4_billAll_0 ++ dktX4_billAll_1
theorem dksX4_billAll_0 : cX4_billAll.data.toList.drop 0 = dktX4_billAll_0 := by decide +kernel
theorem dksX4_billAll_1 : cX4_billAll.data.toList.drop 24 = dktX4_billAll_1 := dk_seg dksX4_billAll_0 24 rfl rfl
theorem dksX4_billAll_2 : cX4_billAll.data.toList.drop 46 = dktX4_billAll_2 := dk_seg dksX4_billAll_1 22 rfl rfl
theorem dX4_billAll_0 : decode cX4_billAll 0 = .ok (.aload_n 0, 1) := dk_42 (dk_at dksX4_billAll_0 0 rfl rfl)
theorem dX4_billAll_1 : decode cX4_billAll 1 = .ok (.iconst 0, 1) := dk_3 (dk_at dksX4_billAll_0 1 rfl rfl)
theorem dX4_billAll_2 : decode cX4_billAll 2 = .ok (.putfield 81, 3) := dk_181 0 81 (dk_at dksX4_billAll_0 2 rfl rfl)
theorem dX4_billAll_5 : decode cX4_billAll 5 = .ok (.iload_n 1, 1) := dk_27 (dk_at dksX4_billAll_0 5 rfl rfl)
theorem dX4_billAll_6 : decode cX4_billAll 6 = .ok (.iconst 0, 1) := dk_3 (dk_at dksX4_billAll_0 6 rfl rfl)
theorem dX4_billAll_7 : decode cX4_billAll 7 = .ok (.ldc_w 390, 3) := dk_19 1 134 (dk_at dksX4_billAll_0 7 rfl rfl)
theorem dX4_billAll_10 : decode cX4_billAll 10 = .ok (.invokestatic 91, 3) := dk_184 0 91 (dk_at dksX4_billAll_0 10 rfl rfl)
theorem dX4_billAll_13 : decode cX4_billAll 13 = .ok (.ifCond .ne 9, 3) := dk_154 0 9 (dk_at dksX4_billAll_0 13 rfl rfl)
theorem dX4_billAll_16 : decode cX4_billAll 16 = .ok (.aload_n 0, 1) := dk_42 (dk_at dksX4_billAll_0 16 rfl rfl)
theorem dX4_billAll_17 : decode cX4_billAll 17 = .ok (.iconst 1, 1) := dk_4 (dk_at dksX4_billAll_0 17 rfl rfl)
theorem dX4_billAll_18 : decode cX4_billAll 18 = .ok (.invokevirtual 87, 3) := dk_182 0 87 (dk_at dksX4_billAll_0 18 rfl rfl)
theorem dX4_billAll_21 : decode cX4_billAll 21 = .ok (.ireturn, 1) := dk_172 (dk_at dksX4_billAll_0 21 rfl rfl)
theorem dX4_billAll_22 : decode cX4_billAll 22 = .ok (.iconst 0, 1) := dk_3 (dk_at dksX4_billAll_0 22 rfl rfl)
theorem dX4_billAll_23 : decode cX4_billAll 23 = .ok (.istore_n 2, 1) := dk_61 (dk_at dksX4_billAll_0 23 rfl rfl)
theorem dX4_billAll_24 : decode cX4_billAll 24 = .ok (.iconst 0, 1) := dk_3 (dk_at dksX4_billAll_1 0 rfl rfl)
theorem dX4_billAll_25 : decode cX4_billAll 25 = .ok (.istore_n 3, 1) := dk_62 (dk_at dksX4_billAll_1 1 rfl rfl)
theorem dX4_billAll_26 : decode cX4_billAll 26 = .ok (.iload_n 3, 1) := dk_29 (dk_at dksX4_billAll_1 2 rfl rfl)
theorem dX4_billAll_27 : decode cX4_billAll 27 = .ok (.aload_n 0, 1) := dk_42 (dk_at dksX4_billAll_1 3 rfl rfl)
theorem dX4_billAll_28 : decode cX4_billAll 28 = .ok (.getfield 7, 3) := dk_180 0 7 (dk_at dksX4_billAll_1 4 rfl rfl)
theorem dX4_billAll_31 : decode cX4_billAll 31 = .ok (.bipush 11, 2) := dk_16 11 (dk_at dksX4_billAll_1 7 rfl rfl)
theorem dX4_billAll_33 : decode cX4_billAll 33 = .ok (.iaload, 1) := dk_46 (dk_at dksX4_billAll_1 9 rfl rfl)
theorem dX4_billAll_34 : decode cX4_billAll 34 = .ok (.if_icmp .ge 18, 3) := dk_162 0 18 (dk_at dksX4_billAll_1 10 rfl rfl)
theorem dX4_billAll_37 : decode cX4_billAll 37 = .ok (.iload_n 2, 1) := dk_28 (dk_at dksX4_billAll_1 13 rfl rfl)
theorem dX4_billAll_38 : decode cX4_billAll 38 = .ok (.aload_n 0, 1) := dk_42 (dk_at dksX4_billAll_1 14 rfl rfl)
theorem dX4_billAll_39 : decode cX4_billAll 39 = .ok (.iload_n 3, 1) := dk_29 (dk_at dksX4_billAll_1 15 rfl rfl)
theorem dX4_billAll_40 : decode cX4_billAll 40 = .ok (.iload_n 1, 1) := dk_27 (dk_at dksX4_billAll_1 16 rfl rfl)
theorem dX4_billAll_41 : decode cX4_billAll 41 = .ok (.invokevirtual 391, 3) := dk_182 1 135 (dk_at dksX4_billAll_1 17 rfl rfl)
theorem dX4_billAll_44 : decode cX4_billAll 44 = .ok (.iadd, 1) := dk_96 (dk_at dksX4_billAll_1 20 rfl rfl)
theorem dX4_billAll_45 : decode cX4_billAll 45 = .ok (.istore_n 2, 1) := dk_61 (dk_at dksX4_billAll_1 21 rfl rfl)
theorem dX4_billAll_46 : decode cX4_billAll 46 = .ok (.iinc 3 1, 3) := dk_132 3 1 (dk_at dksX4_billAll_2 0 rfl rfl)
theorem dX4_billAll_49 : decode cX4_billAll 49 = .ok (.goto (-23), 3) := dk_167 255 233 (dk_at dksX4_billAll_2 3 rfl rfl)
theorem dX4_billAll_52 : decode cX4_billAll 52 = .ok (.iload_n 2, 1) := dk_28 (dk_at dksX4_billAll_2 6 rfl rfl)
theorem dX4_billAll_53 : decode cX4_billAll 53 = .ok (.ireturn, 1) := dk_172 (dk_at dksX4_billAll_2 7 rfl rfl)
theorem c_386_0 : LkP (OkP 386) [(0, o_aload 0 1), (1, o_push 1 (.int 0)), (2, o_put 155 1), (5, o_iload 1 1), (6, o_push 1 (.int 0)), (7, o_push 3 (.int 200000)), (10, o_cs 293 3 false none), (13, o_if (fun x => decide (¬ x = 0)) 22), (16, o_aload 0 1), (17, o_push 1 (.int 1)), (18, o_cv [(30, 291)] 1 3 false none), (21, o_ret 1), (22, o_push 1 (.int 0)), (23, o_istore 2 1), (24, o_push 1 (.int 0)), (25, o_istore 3 1), (26, o_iload 3 1), (27, o_aload 0 1), (28, o_get 148), (31, o_push 2 (.int 11)), (33, o_rdI 0), (34, o_icmp (fun x y => decide (y ≤ x)) 52), (37, o_iload 2 1), (38, o_aload 0 1), (39, o_iload 3 1), (40, o_iload 1 1), (41, o_cv [(30, 377)] 2 3 false none), (44, o_iop (fun x y => x + y)), (45, o_istore 2 1), (46, o_iinc 3 1), (49, o_goto 26), (52, o_iload 2 1), (53, o_ret 1)] := lkp_c (P := OkP 386) ⟨(PuOK.ok (ok_aload_n dX4_billAll_0 rfl)), m_aload⟩ (
  lkp_c (P := OkP 386) ⟨(PuOK.ok (ok_iconst dX4_billAll_1 rfl)), m_push⟩ (
  lkp_c (P := OkP 386) ⟨ok_put ⟨"TollRoadModel", q3087, Or.inl rfl⟩ rfl fd_155 rfl dX4_billAll_2, m_put⟩ (
  lkp_c (P := OkP 386) ⟨(PuOK.ok (ok_iload_n dX4_billAll_5 rfl)), m_iload⟩ (
  lkp_c (P := OkP 386) ⟨(PuOK.ok (ok_iconst dX4_billAll_6 rfl)), m_push⟩ (
  lkp_c (P := OkP 386) ⟨(PuOK.ok (ok_ldcw q3571 dX4_billAll_7)), m_push⟩ (
  lkp_c (P := OkP 386) ⟨ok_cs (tg_S ⟨rfl, by decide⟩ q3214 q3215 q139 q3216 ⟨cn_34.1, cn_34.2, pd_121⟩ dX4_billAll_10) hd_no, m_cs⟩ (
  lkp_c (P := OkP 386) ⟨(PuOK.ok (ok_if_ne dX4_billAll_13 rfl)), m_if⟩ (
  lkp_c (P := OkP 386) ⟨(PuOK.ok (ok_aload_n dX4_billAll_16 rfl)), m_aload⟩ (
  lkp_c (P := OkP 386) ⟨(PuOK.ok (ok_iconst dX4_billAll_17 rfl)), m_push⟩ (
  lkp_c (P := OkP 386) ⟨ok_cv (List.forall_mem_cons.mpr ⟨tg_V (ci := 30) (r := CLr 30) (y := 291) rfl ⟨rfl, by decide⟩ rfl q3206 q3208 qs42 q139 q3209 ⟨cn_34.1, cn_34.2, pd_48⟩ dX4_billAll_18, (List.forall_mem_nil _)⟩) hd_no, m_cv⟩ (
  lkp_c (P := OkP 386) ⟨ok_iret rfl rfl (by decide) dX4_billAll_21, m_ret⟩ (
  lkp_c (P := OkP 386) ⟨(PuOK.ok (ok_iconst dX4_billAll_22 rfl)), m_push⟩ (
  lkp_c (P := OkP 386) ⟨(PuOK.ok (ok_istore_n dX4_billAll_23 rfl)), m_istore⟩ (
  lkp_c (P := OkP 386) ⟨(PuOK.ok (ok_iconst dX4_billAll_24 rfl)), m_push⟩ (
  lkp_c (P := OkP 386) ⟨(PuOK.ok (ok_istore_n dX4_billAll_25 rfl)), m_istore⟩ (
  lkp_c (P := OkP 386) ⟨(PuOK.ok (ok_iload_n dX4_billAll_26 rfl)), m_iload⟩ (
  lkp_c (P := OkP 386) ⟨(PuOK.ok (ok_aload_n dX4_billAll_27 rfl)), m_aload⟩ (
  lkp_c (P := OkP 386) ⟨ok_get ⟨"TollRoadModel", q3080, Or.inl rfl⟩ dX4_billAll_28, m_get⟩ (
  lkp_c (P := OkP 386) ⟨(PuOK.ok (ok_bipush dX4_billAll_31 rfl)), m_push⟩ (
  lkp_c (P := OkP 386) ⟨ok_iald dX4_billAll_33, m_rdI⟩ (
  lkp_c (P := OkP 386) ⟨(PuOK.ok (ok_icmp_ge dX4_billAll_34 rfl)), m_icmp⟩ (
  lkp_c (P := OkP 386) ⟨(PuOK.ok (ok_iload_n dX4_billAll_37 rfl)), m_iload⟩ (
  lkp_c (P := OkP 386) ⟨(PuOK.ok (ok_aload_n dX4_billAll_38 rfl)), m_aload⟩ (
  lkp_c (P := OkP 386) ⟨(PuOK.ok (ok_iload_n dX4_billAll_39 rfl)), m_iload⟩ (
  lkp_c (P := OkP 386) ⟨(PuOK.ok (ok_iload_n dX4_billAll_40 rfl)), m_iload⟩ (
  lkp_c (P := OkP 386) ⟨ok_cv (List.forall_mem_cons.mpr ⟨tg_V (ci := 30) (r := CLr 30) (y := 377) rfl ⟨rfl, by decide⟩ rfl q3572 q3574 qs97 q139 q3575 ⟨cn_34.1, cn_34.2, pd_1⟩ dX4_billAll_41, (List.forall_mem_nil _)⟩) hd_no, m_cv⟩ (
  lkp_c (P := OkP 386) ⟨(PuOK.ok (ok_iadd dX4_billAll_44)), m_iop⟩ (
  lkp_c (P := OkP 386) ⟨(PuOK.ok (ok_istore_n dX4_billAll_45 rfl)), m_istore⟩ (
  lkp_c (P := OkP 386) ⟨(PuOK.ok (ok_iinc dX4_billAll_46 rfl)), m_iinc⟩ (
  lkp_c (P := OkP 386) ⟨(PuOK.ok (ok_goto dX4_billAll_49 rfl)), m_goto⟩ (
  lkp_c (P := OkP 386) ⟨(PuOK.ok (ok_iload_n dX4_billAll_52 rfl)), m_iload⟩ (
  lkp_c (P := OkP 386) ⟨ok_iret rfl rfl (by decide) dX4_billAll_53, m_ret⟩ (
  trivial)))))))))))))))))))))))))))))))))
theorem mt_386 : MtOK TB NT IT 386 := ⟨by decide +kernel, rfl, (fun h => by cases h), Or.inl ⟨rfl, rfl⟩, rfl, by decide, lk2_all (P := OkP 386) ⟨c_386_0, trivial⟩⟩
def dkwX4_due_4 : List UInt8 := [182, 1, 116, 182, 1, 119, 96, 62, 132, 4, 1, 167, 255, 196, 29, 172]
abbrev dktX4_due_4 : List UInt8 := dkwX4_due_4 ++ []
def dkwX4_due_3 : List UInt8 := [21, 4, 28, 182, 1, 128, 153, 0, 32, 29, 42, 27, 21, 4, 42, 27, 42, 27, 182, 1, 113, 21, 4, 96]
abbrev dktX4_due_3 : List UInt8 := dkwX4_due_3 ++ dktX4_due_4
def dkwX4_due_2 : List UInt8 := [42, 180, 1, 75, 162, 0, 57, 42, 180, 0, 7, 16, 13, 46, 21, 4, 96, 16, 60, 162, 0, 42, 42]
abbrev dktX4_due_2 : List UInt8 := dkwX4_due_2 ++ dktX4_due_3
def dkwX4_due_1 : List UInt8 := [184, 0, 91, 154, 0, 9, 42, 5, 182, 0, 87, 172, 42, 27, 182, 1, 91, 3, 62, 3, 54, 4, 21, 4]
abbrev dktX4_due_1 : List UInt8 := dkwX4_due_1 ++ dktX4_due_2
def dkwX4_due_0 : List UInt8 := [42, 3, 181, 0, 81, 42, 27, 182, 0, 255, 154, 0, 9, 42, 4, 182, 0, 87, 172, 28, 3, 19, 1, 134]
abbrev dktX4_due_0 : List UInt8 := dkwX4_due_0 ++ dktX4_due_1
theorem dksX4_due_0 : cX4_due.data.toList.drop 0 = dktX4_due_0 := by decide +kernel
theorem dksX4_due_1 : cX4_due.data.toList.drop 24 = dktX4_due_1 := dk_seg dksX4_due_0 24 rfl rfl
theorem dksX4_due_2 : cX4_due.data.toList.drop 48 = dktX4_due_2 := dk_seg dksX4_due_1 24 rfl rfl
theorem dksX4_due_3 : cX4_due.data.toList.drop 71 = dktX4_due_3 := dk_seg dksX4_due_2 23 rfl rfl
theorem dksX4_due_4 : cX4_due.data.toList.drop 95 = dktX4_due_4 := dk_seg dksX4_due_3 24 rfl rfl
theorem dX4_due_0 : decode cX4_due 0 = .ok (.aload_n 0, 1) := dk_42 (dk_at dksX4_due_0 0 rfl rfl)
theorem dX4_due_1 : decode cX4_due 1 = .ok (.iconst 0, 1) := dk_3 (dk_at dksX4_due_0 1 rfl rfl)
theorem dX4_due_2 : decode cX4_due 2 = .ok (.putfield 81, 3) := dk_181 0 81 (dk_at dksX4_due_0 2 rfl rfl)
theorem dX4_due_5 : decode cX4_due 5 = .ok (.aload_n 0, 1) := dk_42 (dk_at dksX4_due_0 5 rfl rfl)
theorem dX4_due_6 : decode cX4_due 6 = .ok (.iload_n 1, 1) := dk_27 (dk_at dksX4_due_0 6 rfl rfl)
theorem dX4_due_7 : decode cX4_due 7 = .ok (.invokevirtual 255, 3) := dk_182 0 255 (dk_at dksX4_due_0 7 rfl rfl)
theorem dX4_due_10 : decode cX4_due 10 = .ok (.ifCond .ne 9, 3) := dk_154 0 9 (dk_at dksX4_due_0 10 rfl rfl)
theorem dX4_due_13 : decode cX4_due 13 = .ok (.aload_n 0, 1) := dk_42 (dk_at dksX4_due_0 13 rfl rfl)
theorem dX4_due_14 : decode cX4_due 14 = .ok (.iconst 1, 1) := dk_4 (dk_at dksX4_due_0 14 rfl rfl)
theorem dX4_due_15 : decode cX4_due 15 = .ok (.invokevirtual 87, 3) := dk_182 0 87 (dk_at dksX4_due_0 15 rfl rfl)
theorem dX4_due_18 : decode cX4_due 18 = .ok (.ireturn, 1) := dk_172 (dk_at dksX4_due_0 18 rfl rfl)
theorem dX4_due_19 : decode cX4_due 19 = .ok (.iload_n 2, 1) := dk_28 (dk_at dksX4_due_0 19 rfl rfl)
theorem dX4_due_20 : decode cX4_due 20 = .ok (.iconst 0, 1) := dk_3 (dk_at dksX4_due_0 20 rfl rfl)
theorem dX4_due_21 : decode cX4_due 21 = .ok (.ldc_w 390, 3) := dk_19 1 134 (dk_at dksX4_due_0 21 rfl rfl)
theorem dX4_due_24 : decode cX4_due 24 = .ok (.invokestatic 91, 3) := dk_184 0 91 (dk_at dksX4_due_1 0 rfl rfl)
theorem dX4_due_27 : decode cX4_due 27 = .ok (.ifCond .ne 9, 3) := dk_154 0 9 (dk_at dksX4_due_1 3 rfl rfl)
theorem dX4_due_30 : decode cX4_due 30 = .ok (.aload_n 0, 1) := dk_42 (dk_at dksX4_due_1 6 rfl rfl)
theorem dX4_due_31 : decode cX4_due 31 = .ok (.iconst 2, 1) := dk_5 (dk_at dksX4_due_1 7 rfl rfl)
theorem dX4_due_32 : decode cX4_due 32 = .ok (.invokevirtual 87, 3) := dk_182 0 87 (dk_at dksX4_due_1 8 rfl rfl)
theorem dX4_due_35 : decode cX4_due 35 = .ok (.ireturn, 1) := dk_172 (dk_at dksX4_due_1 11 rfl rfl)
theorem dX4_due_36 : decode cX4_due 36 = .ok (.aload_n 0, 1) := dk_42 (dk_at dksX4_due_1 12 rfl rfl)
theorem dX4_due_37 : decode cX4_due 37 = .ok (.iload_n 1, 1) := dk_27 (dk_at dksX4_due_1 13 rfl rfl)
theorem dX4_due_38 : decode cX4_due 38 = .ok (.invokevirtual 347, 3) := dk_182 1 91 (dk_at dksX4_due_1 14 rfl rfl)
theorem dX4_due_41 : decode cX4_due 41 = .ok (.iconst 0, 1) := dk_3 (dk_at dksX4_due_1 17 rfl rfl)
theorem dX4_due_42 : decode cX4_due 42 = .ok (.istore_n 3, 1) := dk_62 (dk_at dksX4_due_1 18 rfl rfl)
theorem dX4_due_43 : decode cX4_due 43 = .ok (.iconst 0, 1) := dk_3 (dk_at dksX4_due_1 19 rfl rfl)
theorem dX4_due_44 : decode cX4_due 44 = .ok (.istore 4, 2) := dk_54 4 (dk_at dksX4_due_1 20 rfl rfl)
theorem dX4_due_46 : decode cX4_due 46 = .ok (.iload 4, 2) := dk_21 4 (dk_at dksX4_due_1 22 rfl rfl)
theorem dX4_due_48 : decode cX4_due 48 = .ok (.aload_n 0, 1) := dk_42 (dk_at dksX4_due_2 0 rfl rfl)
theorem dX4_due_49 : decode cX4_due 49 = .ok (.getfield 331, 3) := dk_180 1 75 (dk_at dksX4_due_2 1 rfl rfl)
theorem dX4_due_52 : decode cX4_due 52 = .ok (.if_icmp .ge 57, 3) := dk_162 0 57 (dk_at dksX4_due_2 4 rfl rfl)
theorem dX4_due_55 : decode cX4_due 55 = .ok (.aload_n 0, 1) := dk_42 (dk_at dksX4_due_2 7 rfl rfl)
theorem dX4_due_56 : decode cX4_due 56 = .ok (.getfield 7, 3) := dk_180 0 7 (dk_at dksX4_due_2 8 rfl rfl)
theorem dX4_due_59 : decode cX4_due 59 = .ok (.bipush 13, 2) := dk_16 13 (dk_at dksX4_due_2 11 rfl rfl)
theorem dX4_due_61 : decode cX4_due 61 = .ok (.iaload, 1) := dk_46 (dk_at dksX4_due_2 13 rfl rfl)
theorem dX4_due_62 : decode cX4_due 62 = .ok (.iload 4, 2) := dk_21 4 (dk_at dksX4_due_2 14 rfl rfl)
theorem dX4_due_64 : decode cX4_due 64 = .ok (.iadd, 1) := dk_96 (dk_at dksX4_due_2 16 rfl rfl)
theorem dX4_due_65 : decode cX4_due 65 = .ok (.bipush 60, 2) := dk_16 60 (dk_at dksX4_due_2 17 rfl rfl)
theorem dX4_due_67 : decode cX4_due 67 = .ok (.if_icmp .ge 42, 3) := dk_162 0 42 (dk_at dksX4_due_2 19 rfl rfl)
theorem dX4_due_70 : decode cX4_due 70 = .ok (.aload_n 0, 1) := dk_42 (dk_at dksX4_due_2 22 rfl rfl)
theorem dX4_due_71 : decode cX4_due 71 = .ok (.iload 4, 2) := dk_21 4 (dk_at dksX4_due_3 0 rfl rfl)
theorem dX4_due_73 : decode cX4_due 73 = .ok (.iload_n 2, 1) := dk_28 (dk_at dksX4_due_3 2 rfl rfl)
theorem dX4_due_74 : decode cX4_due 74 = .ok (.invokevirtual 384, 3) := dk_182 1 128 (dk_at dksX4_due_3 3 rfl rfl)
theorem dX4_due_77 : decode cX4_due 77 = .ok (.ifCond .eq 32, 3) := dk_153 0 32 (dk_at dksX4_due_3 6 rfl rfl)
theorem dX4_due_80 : decode cX4_due 80 = .ok (.iload_n 3, 1) := dk_29 (dk_at dksX4_due_3 9 rfl rfl)
theorem dX4_due_81 : decode cX4_due 81 = .ok (.aload_n 0, 1) := dk_42 (dk_at dksX4_due_3 10 rfl rfl)
theorem dX4_due_82 : decode cX4_due 82 = .ok (.iload_n 1, 1) := dk_27 (dk_at dksX4_due_3 11 rfl rfl)
theorem dX4_due_83 : decode cX4_due 83 = .ok (.iload 4, 2) := dk_21 4 (dk_at dksX4_due_3 12 rfl rfl)
theorem dX4_due_85 : decode cX4_due 85 = .ok (.aload_n 0, 1) := dk_42 (dk_at dksX4_due_3 14 rfl rfl)
theorem dX4_due_86 : decode cX4_due 86 = .ok (.iload_n 1, 1) := dk_27 (dk_at dksX4_due_3 15 rfl rfl)
theorem dX4_due_87 : decode cX4_due 87 = .ok (.aload_n 0, 1) := dk_42 (dk_at dksX4_due_3 16 rfl rfl)
theorem dX4_due_88 : decode cX4_due 88 = .ok (.iload_n 1, 1) := dk_27 (dk_at dksX4_due_3 17 rfl rfl)
theorem dX4_due_89 : decode cX4_due 89 = .ok (.invokevirtual 369, 3) := dk_182 1 113 (dk_at dksX4_due_3 18 rfl rfl)
theorem dX4_due_92 : decode cX4_due 92 = .ok (.iload 4, 2) := dk_21 4 (dk_at dksX4_due_3 21 rfl rfl)
theorem dX4_due_94 : decode cX4_due 94 = .ok (.iadd, 1) := dk_96 (dk_at dksX4_due_3 23 rfl rfl)
theorem dX4_due_95 : decode cX4_due 95 = .ok (.invokevirtual 372, 3) := dk_182 1 116 (dk_at dksX4_due_4 0 rfl rfl)
theorem dX4_due_98 : decode cX4_due 98 = .ok (.invokevirtual 375, 3) := dk_182 1 119 (dk_at dksX4_due_4 3 rfl rfl)
theorem dX4_due_101 : decode cX4_due 101 = .ok (.iadd, 1) := dk_96 (dk_at dksX4_due_4 6 rfl rfl)
theorem dX4_due_102 : decode cX4_due 102 = .ok (.istore_n 3, 1) := dk_62 (dk_at dksX4_due_4 7 rfl rfl)
theorem dX4_due_103 : decode cX4_due 103 = .ok (.iinc 4 1, 3) := dk_132 4 1 (dk_at dksX4_due_4 8 rfl rfl)
theorem dX4_due_106 : decode cX4_due 106 = .ok (.goto (-60), 3) := dk_167 255 196 (dk_at dksX4_due_4 11 rfl rfl)
theorem dX4_due_109 : decode cX4_due 109 = .ok (.iload_n 3, 1) := dk_29 (dk_at dksX4_due_4 14 rfl rfl)
theorem dX4_due_110 : decode cX4_due 110 = .ok (.ireturn, 1) := dk_172 (dk_at dksX4_due_4 15 rfl rfl)
theorem c_387_0 : LkP (OkP 387) [(0, o_aload 0 1), (1, o_push 1 (.int 0)), (2, o_put 155 1), (5, o_aload 0 1), (6, o_iload 1 1), (7, o_cv [(30, 338)] 1 3 false none), (10, o_if (fun x => decide (¬ x = 0)) 19), (13, o_aload 0 1), (14, o_push 1 (.int 1)), (15, o_cv [(30, 291)] 1 3 false none), (18, o_ret 1), (19, o_iload 2 1), (20, o_push 1 (.int 0)), (21, o_push 3 (.int 200000)), (24, o_cs 293 3 false none), (27, o_if (fun x => decide (¬ x = 0)) 36), (30, o_aload 0 1), (31, o_push 1 (.int 2)), (32, o_cv [(30, 291)] 1 3 false none), (35, o_ret 1), (36, o_aload 0 1), (37, o_iload 1 1), (38, o_cv [(30, 364)] 1 3 true none), (41, o_push 1 (.int 0)), (42, o_istore 3 1), (43, o_push 1 (.int 0)), (44, o_istore 4 2), (46, o_iload 4 2), (48, o_aload 0 1), (49, o_get 185), (52, o_icmp (fun x y => decide (y ≤ x)) 109), (55, o_aload 0 1), (56, o_get 148), (59, o_push 2 (.int 13)), (61, o_rdI 0), (62, o_iload 4 2)] := lkp_c (P := OkP 387) ⟨(PuOK.ok (ok_aload_n dX4_due_0 rfl)), m_aload⟩ (
  lkp_c (P := OkP 387) ⟨(PuOK.ok (ok_iconst dX4_due_1 rfl)), m_push⟩ (
  lkp_c (P := OkP 387) ⟨ok_put ⟨"TollRoadModel", q3087, Or.inl rfl⟩ rfl fd_155 rfl dX4_due_2, m_put⟩ (
  lkp_c (P := OkP 387) ⟨(PuOK.ok (ok_aload_n dX4_due_5 rfl)), m_aload⟩ (
  lkp_c (P := OkP 387) ⟨(PuOK.ok (ok_iload_n dX4_due_6 rfl)), m_iload⟩ (
  lkp_c (P := OkP 387) ⟨ok_cv (List.forall_mem_cons.mpr ⟨tg_V (ci := 30) (r := CLr 30) (y := 338) rfl ⟨rfl, by decide⟩ rfl q3411 q3413 qs72 q139 q3414 ⟨cn_34.1, cn_34.2, pd_77⟩ dX4_due_7, (List.forall_mem_nil _)⟩) hd_no, m_cv⟩ (
  lkp_c (P := OkP 387) ⟨(PuOK.ok (ok_if_ne dX4_due_10 rfl)), m_if⟩ (
  lkp_c (P := OkP 387) ⟨(PuOK.ok (ok_aload_n dX4_due_13 rfl)), m_aload⟩ (
  lkp_c (P := OkP 387) ⟨(PuOK.ok (ok_iconst dX4_due_14 rfl)), m_push⟩ (
  lkp_c (P := OkP 387) ⟨ok_cv (List.forall_mem_cons.mpr ⟨tg_V (ci := 30) (r := CLr 30) (y := 291) rfl ⟨rfl, by decide⟩ rfl q3206 q3208 qs42 q139 q3209 ⟨cn_34.1, cn_34.2, pd_48⟩ dX4_due_15, (List.forall_mem_nil _)⟩) hd_no, m_cv⟩ (
  lkp_c (P := OkP 387) ⟨ok_iret rfl rfl (by decide) dX4_due_18, m_ret⟩ (
  lkp_c (P := OkP 387) ⟨(PuOK.ok (ok_iload_n dX4_due_19 rfl)), m_iload⟩ (
  lkp_c (P := OkP 387) ⟨(PuOK.ok (ok_iconst dX4_due_20 rfl)), m_push⟩ (
  lkp_c (P := OkP 387) ⟨(PuOK.ok (ok_ldcw q3571 dX4_due_21)), m_push⟩ (
  lkp_c (P := OkP 387) ⟨ok_cs (tg_S ⟨rfl, by decide⟩ q3214 q3215 q139 q3216 ⟨cn_34.1, cn_34.2, pd_121⟩ dX4_due_24) hd_no, m_cs⟩ (
  lkp_c (P := OkP 387) ⟨(PuOK.ok (ok_if_ne dX4_due_27 rfl)), m_if⟩ (
  lkp_c (P := OkP 387) ⟨(PuOK.ok (ok_aload_n dX4_due_30 rfl)), m_aload⟩ (
  lkp_c (P := OkP 387) ⟨(PuOK.ok (ok_iconst dX4_due_31 rfl)), m_push⟩ (
  lkp_c (P := OkP 387) ⟨ok_cv (List.forall_mem_cons.mpr ⟨tg_V (ci := 30) (r := CLr 30) (y := 291) rfl ⟨rfl, by decide⟩ rfl q3206 q3208 qs42 q139 q3209 ⟨cn_34.1, cn_34.2, pd_48⟩ dX4_due_32, (List.forall_mem_nil _)⟩) hd_no, m_cv⟩ (
  lkp_c (P := OkP 387) ⟨ok_iret rfl rfl (by decide) dX4_due_35, m_ret⟩ (
  lkp_c (P := OkP 387) ⟨(PuOK.ok (ok_aload_n dX4_due_36 rfl)), m_aload⟩ (
  lkp_c (P := OkP 387) ⟨(PuOK.ok (ok_iload_n dX4_due_37 rfl)), m_iload⟩ (
  lkp_c (P := OkP 387) ⟨ok_cv (List.forall_mem_cons.mpr ⟨tg_V (ci := 30) (r := CLr 30) (y := 364) rfl ⟨rfl, by decide⟩ rfl q3519 q3521 qs87 q139 q3522 ⟨cn_34.1, cn_34.2, pd_9⟩ dX4_due_38, (List.forall_mem_nil _)⟩) hd_no, m_cv⟩ (
  lkp_c (P := OkP 387) ⟨(PuOK.ok (ok_iconst dX4_due_41 rfl)), m_push⟩ (
  lkp_c (P := OkP 387) ⟨(PuOK.ok (ok_istore_n dX4_due_42 rfl)), m_istore⟩ (
  lkp_c (P := OkP 387) ⟨(PuOK.ok (ok_iconst dX4_due_43 rfl)), m_push⟩ (
  lkp_c (P := OkP 387) ⟨(PuOK.ok (ok_istore dX4_due_44)), m_istore⟩ (
  lkp_c (P := OkP 387) ⟨(PuOK.ok (ok_iload dX4_due_46)), m_iload⟩ (
  lkp_c (P := OkP 387) ⟨(PuOK.ok (ok_aload_n dX4_due_48 rfl)), m_aload⟩ (
  lkp_c (P := OkP 387) ⟨ok_get ⟨"TollRoadModel", q3117, Or.inl rfl⟩ dX4_due_49, m_get⟩ (
  lkp_c (P := OkP 387) ⟨(PuOK.ok (ok_icmp_ge dX4_due_52 rfl)), m_icmp⟩ (
  lkp_c (P := OkP 387) ⟨(PuOK.ok (ok_aload_n dX4_due_55 rfl)), m_aload⟩ (
  lkp_c (P := OkP 387) ⟨ok_get ⟨"TollRoadModel", q3080, Or.inl rfl⟩ dX4_due_56, m_get⟩ (
  lkp_c (P := OkP 387) ⟨(PuOK.ok (ok_bipush dX4_due_59 rfl)), m_push⟩ (
  lkp_c (P := OkP 387) ⟨ok_iald dX4_due_61, m_rdI⟩ (
  lkp_c (P := OkP 387) ⟨(PuOK.ok (ok_iload dX4_due_62)), m_iload⟩ (
  trivial))))))))))))))))))))))))))))))))))))
theorem c_387_1 : LkP (OkP 387) [(64, o_iop (fun x y => x + y)), (65, o_push 2 (.int 60)), (67, o_icmp (fun x y => decide (y ≤ x)) 109), (70, o_aload 0 1), (71, o_iload 4 2), (73, o_iload 2 1), (74, o_cv [(30, 378)] 2 3 false none), (77, o_if (fun x => decide (x = 0)) 109), (80, o_iload 3 1), (81, o_aload 0 1), (82, o_iload 1 1), (83, o_iload 4 2), (85, o_aload 0 1), (86, o_iload 1 1), (87, o_aload 0 1), (88, o_iload 1 1), (89, o_cv [(30, 380)] 1 3 false none), (92, o_iload 4 2), (94, o_iop (fun x y => x + y)), (95, o_cv [(30, 381)] 2 3 false none), (98, o_cv [(30, 382)] 3 3 false none), (101, o_iop (fun x y => x + y)), (102, o_istore 3 1), (103, o_iinc 4 1), (106, o_goto 46), (109, o_iload 3 1), (110, o_ret 1)] := lkp_c (P := OkP 387) ⟨(PuOK.ok (ok_iadd dX4_due_64)), m_iop⟩ (
  lkp_c (P := OkP 387) ⟨(PuOK.ok (ok_bipush dX4_due_65 rfl)), m_push⟩ (
  lkp_c (P := OkP 387) ⟨(PuOK.ok (ok_icmp_ge dX4_due_67 rfl)), m_icmp⟩ (
  lkp_c (P := OkP 387) ⟨(PuOK.ok (ok_aload_n dX4_due_70 rfl)), m_aload⟩ (
  lkp_c (P := OkP 387) ⟨(PuOK.ok (ok_iload dX4_due_71)), m_iload⟩ (
  lkp_c (P := OkP 387) ⟨(PuOK.ok (ok_iload_n dX4_due_73 rfl)), m_iload⟩ (
  lkp_c (P := OkP 387) ⟨ok_cv (List.forall_mem_cons.mpr ⟨tg_V (ci := 30) (r := CLr 30) (y := 378) rfl ⟨rfl, by decide⟩ rfl q3576 q3578 qs98 q139 q3579 ⟨cn_34.1, cn_34.2, pd_126⟩ dX4_due_74, (List.forall_mem_nil _)⟩) hd_no, m_cv⟩ (
  lkp_c (P := OkP 387) ⟨(PuOK.ok (ok_if_eq dX4_due_77 rfl)), m_if⟩ (
  lkp_c (P := OkP 387) ⟨(PuOK.ok (ok_iload_n dX4_due_80 rfl)), m_iload⟩ (
  lkp_c (P := OkP 387) ⟨(PuOK.ok (ok_aload_n dX4_due_81 rfl)), m_aload⟩ (
  lkp_c (P := OkP 387) ⟨(PuOK.ok (ok_iload_n dX4_due_82 rfl)), m_iload⟩ (
  lkp_c (P := OkP 387) ⟨(PuOK.ok (ok_iload dX4_due_83)), m_iload⟩ (
  lkp_c (P := OkP 387) ⟨(PuOK.ok (ok_aload_n dX4_due_85 rfl)), m_aload⟩ (
  lkp_c (P := OkP 387) ⟨(PuOK.ok (ok_iload_n dX4_due_86 rfl)), m_iload⟩ (
  lkp_c (P := OkP 387) ⟨(PuOK.ok (ok_aload_n dX4_due_87 rfl)), m_aload⟩ (
  lkp_c (P := OkP 387) ⟨(PuOK.ok (ok_iload_n dX4_due_88 rfl)), m_iload⟩ (
  lkp_c (P := OkP 387) ⟨ok_cv (List.forall_mem_cons.mpr ⟨tg_V (ci := 30) (r := CLr 30) (y := 380) rfl ⟨rfl, by decide⟩ rfl q3584 q3586 qs100 q139 q3587 ⟨cn_34.1, cn_34.2, pd_48⟩ dX4_due_89, (List.forall_mem_nil _)⟩) hd_no, m_cv⟩ (
  lkp_c (P := OkP 387) ⟨(PuOK.ok (ok_iload dX4_due_92)), m_iload⟩ (
  lkp_c (P := OkP 387) ⟨(PuOK.ok (ok_iadd dX4_due_94)), m_iop⟩ (
  lkp_c (P := OkP 387) ⟨ok_cv (List.forall_mem_cons.mpr ⟨tg_V (ci := 30) (r := CLr 30) (y := 381) rfl ⟨rfl, by decide⟩ rfl q3588 q3590 qs101 q139 q3591 ⟨cn_34.1, cn_34.2, pd_1⟩ dX4_due_95, (List.forall_mem_nil _)⟩) hd_no, m_cv⟩ (
  lkp_c (P := OkP 387) ⟨ok_cv (List.forall_mem_cons.mpr ⟨tg_V (ci := 30) (r := CLr 30) (y := 382) rfl ⟨rfl, by decide⟩ rfl q3592 q3594 qs102 q139 q3595 ⟨cn_34.1, cn_34.2, pd_25⟩ dX4_due_98, (List.forall_mem_nil _)⟩) hd_no, m_cv⟩ (
  lkp_c (P := OkP 387) ⟨(PuOK.ok (ok_iadd dX4_due_101)), m_iop⟩ (
  lkp_c (P := OkP 387) ⟨(PuOK.ok (ok_istore_n dX4_due_102 rfl)), m_istore⟩ (
  lkp_c (P := OkP 387) ⟨(PuOK.ok (ok_iinc dX4_due_103 rfl)), m_iinc⟩ (
  lkp_c (P := OkP 387) ⟨(PuOK.ok (ok_goto dX4_due_106 rfl)), m_goto⟩ (
  lkp_c (P := OkP 387) ⟨(PuOK.ok (ok_iload_n dX4_due_109 rfl)), m_iload⟩ (
  lkp_c (P := OkP 387) ⟨ok_iret rfl rfl (by decide) dX4_due_110, m_ret⟩ (
  trivial)))))))))))))))))))))))))))
theorem mt_387 : MtOK TB NT IT 387 := ⟨by decide +kernel, rfl, (fun h => by cases h), Or.inl ⟨rfl, rfl⟩, rfl, by decide, lk2_all (P := OkP 387) ⟨c_387_0, c_387_1, trivial⟩⟩
