set_option maxRecDepth 100000
/-! each op is what its instruction does -/
def dkwX4_billed_1 : List UInt8 := [184, 0, 91, 153, 0, 12, 42, 27, 28, 182, 0, 237, 167, 0, 8, 42, 5, 182, 0, 87, 172]
abbrev dktX4_billed_1 : List UInt8 := dkwX4_billed_1 ++ []
def dkwX4_billed_0 : List UInt8 := [42, 3, 181, 0, 81, 42, 27, 182, 1, 138, 154, 0, 9, 42, 4, 182, 0, 87, 172, 28, 3, 16, 12]
abbrev dktX4_billed_0 : List UInt8 := dkwX4_billed_0 ++ dktX4_billed_1
theorem dksX4_billed_0 : cX4_billed.data.toList.drop 0 = dktX4_billed_0 := by decide +kernel
theorem dksX4_billed_1 : cX4_billed.data.toList.drop 23 = dktX4_billed_1 := dk_seg dksX4_billed_0 23 rfl rfl
theorem dX4_billed_0 : decode cX4_billed 0 = .ok (.aload_n 0, 1) := dk_42 (dk_at dksX4_billed_0 0 rfl rfl)
theorem dX4_billed_1 : decode cX4_billed 1 = .ok (.iconst 0, 1) := dk_3 (dk_at dksX4_billed_0 1 rfl rfl)
theorem dX4_billed_2 : decode cX4_billed 2 = .ok (.putfield 81, 3) := dk_181 0 81 (dk_at dksX4_billed_0 2 rfl rfl)
theorem dX4_billed_5 : decode cX4_billed 5 = .ok (.aload_n 0, 1) := dk_42 (dk_at dksX4_billed_0 5 rfl rfl)
theorem dX4_billed_6 : decode cX4_billed 6 = .ok (.iload_n 1, 1) := dk_27 (dk_at dksX4_billed_0 6 rfl rfl)
theorem dX4_billed_7 : decode cX4_billed 7 = .ok (.invokevirtual 394, 3) := dk_182 1 138 (dk_at dksX4_billed_0 7 rfl rfl)
theorem dX4_billed_10 : decode cX4_billed 10 = .ok (.ifCond .ne 9, 3) := dk_154 0 9 (dk_at dksX4_billed_0 10 rfl rfl)
theorem dX4_billed_13 : decode cX4_billed 13 = .ok (.aload_n 0, 1) := dk_42 (dk_at dksX4_billed_0 13 rfl rfl)
theorem dX4_billed_14 : decode cX4_billed 14 = .ok (.iconst 1, 1) := dk_4 (dk_at dksX4_billed_0 14 rfl rfl)
theorem dX4_billed_15 : decode cX4_billed 15 = .ok (.invokevirtual 87, 3) := dk_182 0 87 (dk_at dksX4_billed_0 15 rfl rfl)
theorem dX4_billed_18 : decode cX4_billed 18 = .ok (.ireturn, 1) := dk_172 (dk_at dksX4_billed_0 18 rfl rfl)
theorem dX4_billed_19 : decode cX4_billed 19 = .ok (.iload_n 2, 1) := dk_28 (dk_at dksX4_billed_0 19 rfl rfl)
theorem dX4_billed_20 : decode cX4_billed 20 = .ok (.iconst 0, 1) := dk_3 (dk_at dksX4_billed_0 20 rfl rfl)
theorem dX4_billed_21 : decode cX4_billed 21 = .ok (.bipush 12, 2) := dk_16 12 (dk_at dksX4_billed_0 21 rfl rfl)
theorem dX4_billed_23 : decode cX4_billed 23 = .ok (.invokestatic 91, 3) := dk_184 0 91 (dk_at dksX4_billed_1 0 rfl rfl)
theorem dX4_billed_26 : decode cX4_billed 26 = .ok (.ifCond .eq 12, 3) := dk_153 0 12 (dk_at dksX4_billed_1 3 rfl rfl)
theorem dX4_billed_29 : decode cX4_billed 29 = .ok (.aload_n 0, 1) := dk_42 (dk_at dksX4_billed_1 6 rfl rfl)
theorem dX4_billed_30 : decode cX4_billed 30 = .ok (.iload_n 1, 1) := dk_27 (dk_at dksX4_billed_1 7 rfl rfl)
theorem dX4_billed_31 : decode cX4_billed 31 = .ok (.iload_n 2, 1) := dk_28 (dk_at dksX4_billed_1 8 rfl rfl)
theorem dX4_billed_32 : decode cX4_billed 32 = .ok (.invokevirtual 237, 3) := dk_182 0 237 (dk_at dksX4_billed_1 9 rfl rfl)
theorem dX4_billed_35 : decode cX4_billed 35 = .ok (.goto 8, 3) := dk_167 0 8 (dk_at dksX4_billed_1 12 rfl rfl)
theorem dX4_billed_38 : decode cX4_billed 38 = .ok (.aload_n 0, 1) := dk_42 (dk_at dksX4_billed_1 15 rfl rfl)
theorem dX4_billed_39 : decode cX4_billed 39 = .ok (.iconst 2, 1) := dk_5 (dk_at dksX4_billed_1 16 rfl rfl)
theorem dX4_billed_40 : decode cX4_billed 40 = .ok (.invokevirtual 87, 3) := dk_182 0 87 (dk_at dksX4_billed_1 17 rfl rfl)
theorem dX4_billed_43 : decode cX4_billed 43 = .ok (.ireturn, 1) := dk_172 (dk_at dksX4_billed_1 20 rfl rfl)
theorem c_388_0 : LkP (OkP 388) [(0, o_aload 0 1), (1, o_push 1 (.int 0)), (2, o_put 155 1), (5, o_aload 0 1), (6, o_iload 1 1), (7, o_cv [(30, 389)] 1 3 false none), (10, o_if (fun x => decide (¬ x = 0)) 19), (13, o_aload 0 1), (14, o_push 1 (.int 1)), (15, o_cv [(30, 291)] 1 3 false none), (18, o_ret 1), (19, o_iload 2 1), (20, o_push 1 (.int 0)), (21, o_push 2 (.int 12)), (23, o_cs 293 3 false none), (26, o_if (fun x => decide (x = 0)) 38), (29, o_aload 0 1), (30, o_iload 1 1), (31, o_iload 2 1), (32, o_cv [(30, 333)] 2 3 false none), (35, o_goto 43), (38, o_aload 0 1), (39, o_push 1 (.int 2)), (40, o_cv [(30, 291)] 1 3 false none), (43, o_ret 1)] := lkp_c (P := OkP 388) ⟨(PuOK.ok (ok_aload_n dX4_billed_0 rfl)), m_aload⟩ (
  lkp_c (P := OkP 388) ⟨(PuOK.ok (ok_iconst dX4_billed_1 rfl)), m_push⟩ (
  lkp_c (P := OkP 388) ⟨ok_put ⟨"TollRoadModel", q3087, Or.inl rfl⟩ rfl fd_155 rfl dX4_billed_2, m_put⟩ (
  lkp_c (P := OkP 388) ⟨(PuOK.ok (ok_aload_n dX4_billed_5 rfl)), m_aload⟩ (
  lkp_c (P := OkP 388) ⟨(PuOK.ok (ok_iload_n dX4_billed_6 rfl)), m_iload⟩ (
  lkp_c (P := OkP 388) ⟨ok_cv (List.forall_mem_cons.mpr ⟨tg_V (ci := 30) (r := CLr 30) (y := 389) rfl ⟨rfl, by decide⟩ rfl q3620 q3622 qs106 q139 q3623 ⟨cn_34.1, cn_34.2, pd_77⟩ dX4_billed_7, (List.forall_mem_nil _)⟩) hd_no, m_cv⟩ (
  lkp_c (P := OkP 388) ⟨(PuOK.ok (ok_if_ne dX4_billed_10 rfl)), m_if⟩ (
  lkp_c (P := OkP 388) ⟨(PuOK.ok (ok_aload_n dX4_billed_13 rfl)), m_aload⟩ (
  lkp_c (P := OkP 388) ⟨(PuOK.ok (ok_iconst dX4_billed_14 rfl)), m_push⟩ (
  lkp_c (P := OkP 388) ⟨ok_cv (List.forall_mem_cons.mpr ⟨tg_V (ci := 30) (r := CLr 30) (y := 291) rfl ⟨rfl, by decide⟩ rfl q3206 q3208 qs42 q139 q3209 ⟨cn_34.1, cn_34.2, pd_48⟩ dX4_billed_15, (List.forall_mem_nil _)⟩) hd_no, m_cv⟩ (
  lkp_c (P := OkP 388) ⟨ok_iret rfl rfl (by decide) dX4_billed_18, m_ret⟩ (
  lkp_c (P := OkP 388) ⟨(PuOK.ok (ok_iload_n dX4_billed_19 rfl)), m_iload⟩ (
  lkp_c (P := OkP 388) ⟨(PuOK.ok (ok_iconst dX4_billed_20 rfl)), m_push⟩ (
  lkp_c (P := OkP 388) ⟨(PuOK.ok (ok_bipush dX4_billed_21 rfl)), m_push⟩ (
  lkp_c (P := OkP 388) ⟨ok_cs (tg_S ⟨rfl, by decide⟩ q3214 q3215 q139 q3216 ⟨cn_34.1, cn_34.2, pd_121⟩ dX4_billed_23) hd_no, m_cs⟩ (
  lkp_c (P := OkP 388) ⟨(PuOK.ok (ok_if_eq dX4_billed_26 rfl)), m_if⟩ (
  lkp_c (P := OkP 388) ⟨(PuOK.ok (ok_aload_n dX4_billed_29 rfl)), m_aload⟩ (
  lkp_c (P := OkP 388) ⟨(PuOK.ok (ok_iload_n dX4_billed_30 rfl)), m_iload⟩ (
  lkp_c (P := OkP 388) ⟨(PuOK.ok (ok_iload_n dX4_billed_31 rfl)), m_iload⟩ (
  lkp_c (P := OkP 388) ⟨ok_cv (List.forall_mem_cons.mpr ⟨tg_V (ci := 30) (r := CLr 30) (y := 333) rfl ⟨rfl, by decide⟩ rfl q3391 q3393 qs70 q139 q3394 ⟨cn_34.1, cn_34.2, pd_1⟩ dX4_billed_32, (List.forall_mem_nil _)⟩) hd_no, m_cv⟩ (
  lkp_c (P := OkP 388) ⟨(PuOK.ok (ok_goto dX4_billed_35 rfl)), m_goto⟩ (
  lkp_c (P := OkP 388) ⟨(PuOK.ok (ok_aload_n dX4_billed_38 rfl)), m_aload⟩ (
  lkp_c (P := OkP 388) ⟨(PuOK.ok (ok_iconst dX4_billed_39 rfl)), m_push⟩ (
  lkp_c (P := OkP 388) ⟨ok_cv (List.forall_mem_cons.mpr ⟨tg_V (ci := 30) (r := CLr 30) (y := 291) rfl ⟨rfl, by decide⟩ rfl q3206 q3208 qs42 q139 q3209 ⟨cn_34.1, cn_34.2, pd_48⟩ dX4_billed_40, (List.forall_mem_nil _)⟩) hd_no, m_cv⟩ (
  lkp_c (P := OkP 388) ⟨ok_iret rfl rfl (by decide) dX4_billed_43, m_ret⟩ (
  trivial)))))))))))))))))))))))))
theorem mt_388 : MtOK TB NT IT 388 := ⟨by decide +kernel, rfl, (fun h => by cases h), Or.inl ⟨rfl, rfl⟩, rfl, by decide, lk2_all (P := OkP 388) ⟨c_388_0, trivial⟩⟩
def dkwX4_isBill_0 : List UInt8 := [27, 3, 42, 180, 0, 7, 16, 13, 46, 4, 100, 184, 0, 91, 172]
abbrev dktX4_isBill_0 : List UInt8 := dkwX4_isBill_0 ++ []
theorem dksX4_isBill_0 : cX4_isBill.data.toList.drop 0 = dktX4_isBill_0 := by decide +kernel
theorem dX4_isBill_0 : decode cX4_isBill 0 = .ok (.iload_n 1, 1) := dk_27 (dk_at dksX4_isBill_0 0 rfl rfl)
theorem dX4_isBill_1 : decode cX4_isBill 1 = .ok (.iconst 0, 1) := dk_3 (dk_at dksX4_isBill_0 1 rfl rfl)
theorem dX4_isBill_2 : decode cX4_isBill 2 = .ok (.aload_n 0, 1) := dk_42 (dk_at dksX4_isBill_0 2 rfl rfl)
theorem dX4_isBill_3 : decode cX4_isBill 3 = .ok (.getfield 7, 3) := dk_180 0 7 (dk_at dksX4_isBill_0 3 rfl rfl)
theorem dX4_isBill_6 : decode cX4_isBill 6 = .ok (.bipush 13, 2) := dk_16 13 (dk_at dksX4_isBill_0 6 rfl rfl)
theorem dX4_isBill_8 : decode cX4_isBill 8 = .ok (.iaload, 1) := dk_46 (dk_at dksX4_isBill_0 8 rfl rfl)
theorem dX4_isBill_9 : decode cX4_isBill 9 = .ok (.iconst 1, 1) := dk_4 (dk_at dksX4_isBill_0 9 rfl rfl)
theorem dX4_isBill_10 : decode cX4_isBill 10 = .ok (.isub, 1) := dk_100 (dk_at dksX4_isBill_0 10 rfl rfl)
theorem dX4_isBill_11 : decode cX4_isBill 11 = .ok (.invokestatic 91, 3) := dk_184 0 91 (dk_at dksX4_isBill_0 11 rfl rfl)
theorem dX4_isBill_14 : decode cX4_isBill 14 = .ok (.ireturn, 1) := dk_172 (dk_at dksX4_isBill_0 14 rfl rfl)
theorem c_389_0 : LkP (OkP 389) [(0, o_iload 1 1), (1, o_push 1 (.int 0)), (2, o_aload 0 1), (3, o_get 148), (6, o_push 2 (.int 13)), (8, o_rdI 0), (9, o_push 1 (.int 1)), (10, o_iop (fun x y => x - y)), (11, o_cs 293 3 false none), (14, o_ret 5)] := lkp_c (P := OkP 389) ⟨(PuOK.ok (ok_iload_n dX4_isBill_0 rfl)), m_iload⟩ (
  lkp_c (P := OkP 389) ⟨(PuOK.ok (ok_iconst dX4_isBill_1 rfl)), m_push⟩ (
  lkp_c (P := OkP 389) ⟨(PuOK.ok (ok_aload_n dX4_isBill_2 rfl)), m_aload⟩ (
  lkp_c (P := OkP 389) ⟨ok_get ⟨"TollRoadModel", q3080, Or.inl rfl⟩ dX4_isBill_3, m_get⟩ (
  lkp_c (P := OkP 389) ⟨(PuOK.ok (ok_bipush dX4_isBill_6 rfl)), m_push⟩ (
  lkp_c (P := OkP 389) ⟨ok_iald dX4_isBill_8, m_rdI⟩ (
  lkp_c (P := OkP 389) ⟨(PuOK.ok (ok_iconst dX4_isBill_9 rfl)), m_push⟩ (
  lkp_c (P := OkP 389) ⟨(PuOK.ok (ok_isub dX4_isBill_10)), m_iop⟩ (
  lkp_c (P := OkP 389) ⟨ok_cs (tg_S ⟨rfl, by decide⟩ q3214 q3215 q139 q3216 ⟨cn_34.1, cn_34.2, pd_121⟩ dX4_isBill_11) hd_no, m_cs⟩ (
  lkp_c (P := OkP 389) ⟨ok_iret rfl rfl (by decide) dX4_isBill_14, m_ret⟩ (
  trivial))))))))))
theorem mt_389 : MtOK TB NT IT 389 := ⟨by decide +kernel, rfl, (fun h => by cases h), Or.inl ⟨rfl, rfl⟩, rfl, by decide, lk2_all (P := OkP 389) ⟨c_389_0, trivial⟩⟩
def dkwX4_billedGantry_2 : List UInt8 := [182, 0, 237, 96, 28, 96, 46, 16, 16, 112, 172]
abbrev dktX4_billedGantry_2 : List UInt8 := dkwX4_billedGantry_2 ++ []
def dkwX4_billedGantry_1 : List UInt8 := [184, 0, 91, 154, 0, 9, 42, 4, 182, 0, 87, 172, 42, 180, 0, 7, 17, 8, 152, 42, 27, 16, 15]
abbrev dktX4_billedGantry_1 : List UInt8 := dkwX4_billedGantry_1 ++ dktX4_billedGantry_2
def dkwX4_billedGantry_0 : List UInt8 := [42, 3, 181, 0, 81, 42, 27, 182, 1, 138, 153, 0, 20, 28, 3, 42, 27, 16, 8, 182, 0, 237, 4, 100]
abbrev dktX4_billedGantry_0 : List UInt8 := dkwX4_billedGantry_0 ++ dktX4_billedGantry_1
theorem dksX4_billedGantry_0 : cX4_billedGantry.data.toList.drop 0 = dktX4_billedGantry_0 := by decide +kernel
theorem dksX4_billedGantry_1 : cX4_billedGantry.data.toList.drop 24 = dktX4_billedGantry_1 := dk_seg dksX4_billedGantry_0 24 rfl rfl
theorem dksX4_billedGantry_2 : cX4_billedGantry.data.toList.drop 47 = dktX4_billedGantry_2 := dk_seg dksX4_billedGantry_1 23 rfl rfl
theorem dX4_billedGantry_0 : decode cX4_billedGantry 0 = .ok (.aload_n 0, 1) := dk_42 (dk_at dksX4_billedGantry_0 0 rfl rfl)
theorem dX4_billedGantry_1 : decode cX4_billedGantry 1 = .ok (.iconst 0, 1) := dk_3 (dk_at dksX4_billedGantry_0 1 rfl rfl)
theorem dX4_billedGantry_2 : decode cX4_billedGantry 2 = .ok (.putfield 81, 3) := dk_181 0 81 (dk_at dksX4_billedGantry_0 2 rfl rfl)
theorem dX4_billedGantry_5 : decode cX4_billedGantry 5 = .ok (.aload_n 0, 1) := dk_42 (dk_at dksX4_billedGantry_0 5 rfl rfl)
theorem dX4_billedGantry_6 : decode cX4_billedGantry 6 = .ok (.iload_n 1, 1) := dk_27 (dk_at dksX4_billedGantry_0 6 rfl rfl)
theorem dX4_billedGantry_7 : decode cX4_billedGantry 7 = .ok (.invokevirtual 394, 3) := dk_182 1 138 (dk_at dksX4_billedGantry_0 7 rfl rfl)
theorem dX4_billedGantry_10 : decode cX4_billedGantry 10 = .ok (.ifCond .eq 20, 3) := dk_153 0 20 (dk_at dksX4_billedGantry_0 10 rfl rfl)
theorem dX4_billedGantry_13 : decode cX4_billedGantry 13 = .ok (.iload_n 2, 1) := dk_28 (dk_at dksX4_billedGantry_0 13 rfl rfl)
theorem dX4_billedGantry_14 : decode cX4_billedGantry 14 = .ok (.iconst 0, 1) := dk_3 (dk_at dksX4_billedGantry_0 14 rfl rfl)
theorem dX4_billedGantry_15 : decode cX4_billedGantry 15 = .ok (.aload_n 0, 1) := dk_42 (dk_at dksX4_billedGantry_0 15 rfl rfl)
theorem dX4_billedGantry_16 : decode cX4_billedGantry 16 = .ok (.iload_n 1, 1) := dk_27 (dk_at dksX4_billedGantry_0 16 rfl rfl)
theorem dX4_billedGantry_17 : decode cX4_billedGantry 17 = .ok (.bipush 8, 2) := dk_16 8 (dk_at dksX4_billedGantry_0 17 rfl rfl)
theorem dX4_billedGantry_19 : decode cX4_billedGantry 19 = .ok (.invokevirtual 237, 3) := dk_182 0 237 (dk_at dksX4_billedGantry_0 19 rfl rfl)
theorem dX4_billedGantry_22 : decode cX4_billedGantry 22 = .ok (.iconst 1, 1) := dk_4 (dk_at dksX4_billedGantry_0 22 rfl rfl)
theorem dX4_billedGantry_23 : decode cX4_billedGantry 23 = .ok (.isub, 1) := dk_100 (dk_at dksX4_billedGantry_0 23 rfl rfl)
theorem dX4_billedGantry_24 : decode cX4_billedGantry 24 = .ok (.invokestatic 91, 3) := dk_184 0 91 (dk_at dksX4_billedGantry_1 0 rfl rfl)
theorem dX4_billedGantry_27 : decode cX4_billedGantry 27 = .ok (.ifCond .ne 9, 3) := dk_154 0 9 (dk_at dksX4_billedGantry_1 3 rfl rfl)
theorem dX4_billedGantry_30 : decode cX4_billedGantry 30 = .ok (.aload_n 0, 1) := dk_42 (dk_at dksX4_billedGantry_1 6 rfl rfl)
theorem dX4_billedGantry_31 : decode cX4_billedGantry 31 = .ok (.iconst 1, 1) := dk_4 (dk_at dksX4_billedGantry_1 7 rfl rfl)
theorem dX4_billedGantry_32 : decode cX4_billedGantry 32 = .ok (.invokevirtual 87, 3) := dk_182 0 87 (dk_at dksX4_billedGantry_1 8 rfl rfl)
theorem dX4_billedGantry_35 : decode cX4_billedGantry 35 = .ok (.ireturn, 1) := dk_172 (dk_at dksX4_billedGantry_1 11 rfl rfl)
theorem dX4_billedGantry_36 : decode cX4_billedGantry 36 = .ok (.aload_n 0, 1) := dk_42 (dk_at dksX4_billedGantry_1 12 rfl rfl)
theorem dX4_billedGantry_37 : decode cX4_billedGantry 37 = .ok (.getfield 7, 3) := dk_180 0 7 (dk_at dksX4_billedGantry_1 13 rfl rfl)
theorem dX4_billedGantry_40 : decode cX4_billedGantry 40 = .ok (.sipush 2200, 3) := dk_17 8 152 (dk_at dksX4_billedGantry_1 16 rfl rfl)
theorem dX4_billedGantry_43 : decode cX4_billedGantry 43 = .ok (.aload_n 0, 1) := dk_42 (dk_at dksX4_billedGantry_1 19 rfl rfl)
theorem dX4_billedGantry_44 : decode cX4_billedGantry 44 = .ok (.iload_n 1, 1) := dk_27 (dk_at dksX4_billedGantry_1 20 rfl rfl)
theorem dX4_billedGantry_45 : decode cX4_billedGantry 45 = .ok (.bipush 15, 2) := dk_16 15 (dk_at dksX4_billedGantry_1 21 rfl rfl)
theorem dX4_billedGantry_47 : decode cX4_billedGantry 47 = .ok (.invokevirtual 237, 3) := dk_182 0 237 (dk_at dksX4_billedGantry_2 0 rfl rfl)
theorem dX4_billedGantry_50 : decode cX4_billedGantry 50 = .ok (.iadd, 1) := dk_96 (dk_at dksX4_billedGantry_2 3 rfl rfl)
theorem dX4_billedGantry_51 : decode cX4_billedGantry 51 = .ok (.iload_n 2, 1) := dk_28 (dk_at dksX4_billedGantry_2 4 rfl rfl)
theorem dX4_billedGantry_52 : decode cX4_billedGantry 52 = .ok (.iadd, 1) := dk_96 (dk_at dksX4_billedGantry_2 5 rfl rfl)
theorem dX4_billedGantry_53 : decode cX4_billedGantry 53 = .ok (.iaload, 1) := dk_46 (dk_at dksX4_billedGantry_2 6 rfl rfl)
theorem dX4_billedGantry_54 : decode cX4_billedGantry 54 = .ok (.bipush 16, 2) := dk_16 16 (dk_at dksX4_billedGantry_2 7 rfl rfl)
theorem dX4_billedGantry_56 : decode cX4_billedGantry 56 = .ok (.irem, 1) := dk_112 (dk_at dksX4_billedGantry_2 9 rfl rfl)
theorem dX4_billedGantry_57 : decode cX4_billedGantry 57 = .ok (.ireturn, 1) := dk_172 (dk_at dksX4_billedGantry_2 10 rfl rfl)
theorem c_390_0 : LkP (OkP 390) [(0, o_aload 0 1), (1, o_push 1 (.int 0)), (2, o_put 155 1), (5, o_aload 0 1), (6, o_iload 1 1), (7, o_cv [(30, 389)] 1 3 false none), (10, o_if (fun x => decide (x = 0)) 30), (13, o_iload 2 1), (14, o_push 1 (.int 0)), (15, o_aload 0 1), (16, o_iload 1 1), (17, o_push 2 (.int 8)), (19, o_cv [(30, 333)] 2 3 false none), (22, o_push 1 (.int 1)), (23, o_iop (fun x y => x - y)), (24, o_cs 293 3 false none), (27, o_if (fun x => decide (¬ x = 0)) 36), (30, o_aload 0 1), (31, o_push 1 (.int 1)), (32, o_cv [(30, 291)] 1 3 false none), (35, o_ret 1), (36, o_aload 0 1), (37, o_get 148), (40, o_push 3 (.int 2200)), (43, o_aload 0 1), (44, o_iload 1 1), (45, o_push 2 (.int 15)), (47, o_cv [(30, 333)] 2 3 false none), (50, o_iop (fun x y => x + y)), (51, o_iload 2 1), (52, o_iop (fun x y => x + y)), (53, o_rdI 0), (54, o_push 2 (.int 16)), (56, o_iopz (fun x y => x - x / y * y)), (57, o_ret 1)] := lkp_c (P := OkP 390) ⟨(PuOK.ok (ok_aload_n dX4_billedGantry_0 rfl)), m_aload⟩ (
  lkp_c (P := OkP 390) ⟨(PuOK.ok (ok_iconst dX4_billedGantry_1 rfl)), m_push⟩ (
  lkp_c (P := OkP 390) ⟨ok_put ⟨"TollRoadModel", q3087, Or.inl rfl⟩ rfl fd_155 rfl dX4_billedGantry_2, m_put⟩ (
  lkp_c (P := OkP 390) ⟨(PuOK.ok (ok_aload_n dX4_billedGantry_5 rfl)), m_aload⟩ (
  lkp_c (P := OkP 390) ⟨(PuOK.ok (ok_iload_n dX4_billedGantry_6 rfl)), m_iload⟩ (
  lkp_c (P := OkP 390) ⟨ok_cv (List.forall_mem_cons.mpr ⟨tg_V (ci := 30) (r := CLr 30) (y := 389) rfl ⟨rfl, by decide⟩ rfl q3620 q3622 qs106 q139 q3623 ⟨cn_34.1, cn_34.2, pd_77⟩ dX4_billedGantry_7, (List.forall_mem_nil _)⟩) hd_no, m_cv⟩ (
  lkp_c (P := OkP 390) ⟨(PuOK.ok (ok_if_eq dX4_billedGantry_10 rfl)), m_if⟩ (
  lkp_c (P := OkP 390) ⟨(PuOK.ok (ok_iload_n dX4_billedGantry_13 rfl)), m_iload⟩ (
  lkp_c (P := OkP 390) ⟨(PuOK.ok (ok_iconst dX4_billedGantry_14 rfl)), m_push⟩ (
  lkp_c (P := OkP 390) ⟨(PuOK.ok (ok_aload_n dX4_billedGantry_15 rfl)), m_aload⟩ (
  lkp_c (P := OkP 390) ⟨(PuOK.ok (ok_iload_n dX4_billedGantry_16 rfl)), m_iload⟩ (
  lkp_c (P := OkP 390) ⟨(PuOK.ok (ok_bipush dX4_billedGantry_17 rfl)), m_push⟩ (
  lkp_c (P := OkP 390) ⟨ok_cv (List.forall_mem_cons.mpr ⟨tg_V (ci := 30) (r := CLr 30) (y := 333) rfl ⟨rfl, by decide⟩ rfl q3391 q3393 qs70 q139 q3394 ⟨cn_34.1, cn_34.2, pd_1⟩ dX4_billedGantry_19, (List.forall_mem_nil _)⟩) hd_no, m_cv⟩ (
  lkp_c (P := OkP 390) ⟨(PuOK.ok (ok_iconst dX4_billedGantry_22 rfl)), m_push⟩ (
  lkp_c (P := OkP 390) ⟨(PuOK.ok (ok_isub dX4_billedGantry_23)), m_iop⟩ (
  lkp_c (P := OkP 390) ⟨ok_cs (tg_S ⟨rfl, by decide⟩ q3214 q3215 q139 q3216 ⟨cn_34.1, cn_34.2, pd_121⟩ dX4_billedGantry_24) hd_no, m_cs⟩ (
  lkp_c (P := OkP 390) ⟨(PuOK.ok (ok_if_ne dX4_billedGantry_27 rfl)), m_if⟩ (
  lkp_c (P := OkP 390) ⟨(PuOK.ok (ok_aload_n dX4_billedGantry_30 rfl)), m_aload⟩ (
  lkp_c (P := OkP 390) ⟨(PuOK.ok (ok_iconst dX4_billedGantry_31 rfl)), m_push⟩ (
  lkp_c (P := OkP 390) ⟨ok_cv (List.forall_mem_cons.mpr ⟨tg_V (ci := 30) (r := CLr 30) (y := 291) rfl ⟨rfl, by decide⟩ rfl q3206 q3208 qs42 q139 q3209 ⟨cn_34.1, cn_34.2, pd_48⟩ dX4_billedGantry_32, (List.forall_mem_nil _)⟩) hd_no, m_cv⟩ (
  lkp_c (P := OkP 390) ⟨ok_iret rfl rfl (by decide) dX4_billedGantry_35, m_ret⟩ (
  lkp_c (P := OkP 390) ⟨(PuOK.ok (ok_aload_n dX4_billedGantry_36 rfl)), m_aload⟩ (
  lkp_c (P := OkP 390) ⟨ok_get ⟨"TollRoadModel", q3080, Or.inl rfl⟩ dX4_billedGantry_37, m_get⟩ (
  lkp_c (P := OkP 390) ⟨(PuOK.ok (ok_sipush dX4_billedGantry_40 rfl)), m_push⟩ (
  lkp_c (P := OkP 390) ⟨(PuOK.ok (ok_aload_n dX4_billedGantry_43 rfl)), m_aload⟩ (
  lkp_c (P := OkP 390) ⟨(PuOK.ok (ok_iload_n dX4_billedGantry_44 rfl)), m_iload⟩ (
  lkp_c (P := OkP 390) ⟨(PuOK.ok (ok_bipush dX4_billedGantry_45 rfl)), m_push⟩ (
  lkp_c (P := OkP 390) ⟨ok_cv (List.forall_mem_cons.mpr ⟨tg_V (ci := 30) (r := CLr 30) (y := 333) rfl ⟨rfl, by decide⟩ rfl q3391 q3393 qs70 q139 q3394 ⟨cn_34.1, cn_34.2, pd_1⟩ dX4_billedGantry_47, (List.forall_mem_nil _)⟩) hd_no, m_cv⟩ (
  lkp_c (P := OkP 390) ⟨(PuOK.ok (ok_iadd dX4_billedGantry_50)), m_iop⟩ (
  lkp_c (P := OkP 390) ⟨(PuOK.ok (ok_iload_n dX4_billedGantry_51 rfl)), m_iload⟩ (
  lkp_c (P := OkP 390) ⟨(PuOK.ok (ok_iadd dX4_billedGantry_52)), m_iop⟩ (
  lkp_c (P := OkP 390) ⟨ok_iald dX4_billedGantry_53, m_rdI⟩ (
  lkp_c (P := OkP 390) ⟨(PuOK.ok (ok_bipush dX4_billedGantry_54 rfl)), m_push⟩ (
  lkp_c (P := OkP 390) ⟨(PuOK.ok (ok_irem dX4_billedGantry_56)), m_iopz⟩ (
  lkp_c (P := OkP 390) ⟨ok_iret rfl rfl (by decide) dX4_billedGantry_57, m_ret⟩ (
  trivial)))))))))))))))))))))))))))))))))))
theorem mt_390 : MtOK TB NT IT 390 := ⟨by decide +kernel, rfl, (fun h => by cases h), Or.inl ⟨rfl, rfl⟩, rfl, by decide, lk2_all (P := OkP 390) ⟨c_390_0, trivial⟩⟩
def dkwX4_dispute_5 : List UInt8 := [100, 79, 167, 0, 19, 42, 21, 4, 3, 29, 182, 0, 224, 42, 21, 4, 8, 29, 182, 0, 224, 29, 172]
abbrev dktX4_dispute_5 : List UInt8 := dkwX4_dispute_5 ++ []
def dkwX4_dispute_4 : List UInt8 := [160, 0, 29, 42, 180, 0, 7, 17, 0, 235, 6, 42, 27, 3, 182, 0, 237, 104, 96, 5, 96, 92, 46, 29]
abbrev dktX4_dispute_4 : List UInt8 := dkwX4_dispute_4 ++ dktX4_dispute_5
def dkwX4_dispute_3 : List UInt8 := [182, 1, 110, 42, 27, 16, 12, 29, 182, 1, 110, 42, 27, 4, 182, 0, 237, 54, 4, 21, 4, 2]
abbrev dktX4_dispute_3 : List UInt8 := dkwX4_dispute_3 ++ dktX4_dispute_4
def dkwX4_dispute_2 : List UInt8 := [182, 0, 87, 172, 42, 27, 28, 182, 1, 150, 62, 42, 27, 16, 11, 29, 153, 0, 7, 4, 167, 0, 4, 5]
abbrev dktX4_dispute_2 : List UInt8 := dkwX4_dispute_2 ++ dktX4_dispute_3
def dkwX4_dispute_1 : List UInt8 := [184, 0, 91, 154, 0, 9, 42, 5, 182, 0, 87, 172, 42, 27, 16, 11, 182, 0, 237, 153, 0, 9, 42, 6]
abbrev dktX4_dispute_1 : List UInt8 := dkwX4_dispute_1 ++ dktX4_dispute_2
def dkwX4_dispute_0 : List UInt8 := [42, 3, 181, 0, 81, 42, 27, 182, 1, 138, 154, 0, 9, 42, 4, 182, 0, 87, 172, 28, 3, 5]
abbrev dktX4_dispute_0 : List UInt8 := dkwX4_dispute_0 ++ dktX4_dispute_1
theorem dksX4_dispute_0 : cX4_dispute.data.toList.drop 0 = dktX4_dispute_0 := by decide +kernel
theorem dksX4_dispute_1 : cX4_dispute.data.toList.drop 22 = dktX4_dispute_1 := dk_seg dksX4_dispute_0 22 rfl rfl
theorem dksX4_dispute_2 : cX4_dispute.data.toList.drop 46 = dktX4_dispute_2 := dk_seg dksX4_dispute_1 24 rfl rfl
theorem dksX4_dispute_3 : cX4_dispute.data.toList.drop 70 = dktX4_dispute_3 := dk_seg dksX4_dispute_2 24 rfl rfl
theorem dksX4_dispute_4 : cX4_dispute.data.toList.drop 92 = dktX4_dispute_4 := dk_seg dksX4_dispute_3 22 rfl rfl
theorem dksX4_dispute_5 : cX4_dispute.data.toList.drop 116 = dktX4_dispute_5 := dk_seg dksX4_dispute_4 24 rfl rfl
theorem dX4_dispute_0 : decode cX4_dispute 0 = .ok (.aload_n 0, 1) := dk_42 (dk_at dksX4_dispute_0 0 rfl rfl)
theorem dX4_dispute_1 : decode cX4_dispute 1 = .ok (.iconst 0, 1) := dk_3 (dk_at dksX4_dispute_0 1 rfl rfl)
theorem dX4_dispute_2 : decode cX4_dispute 2 = .ok (.putfield 81, 3) := dk_181 0 81 (dk_at dksX4_dispute_0 2 rfl rfl)
theorem dX4_dispute_5 : decode cX4_dispute 5 = .ok (.aload_n 0, 1) := dk_42 (dk_at dksX4_dispute_0 5 rfl rfl)
theorem dX4_dispute_6 : decode cX4_dispute 6 = .ok (.iload_n 1, 1) := dk_27 (dk_at dksX4_dispute_0 6 rfl rfl)
theorem dX4_dispute_7 : decode cX4_dispute 7 = .ok (.invokevirtual 394, 3) := dk_182 1 138 (dk_at dksX4_dispute_0 7 rfl rfl)
theorem dX4_dispute_10 : decode cX4_dispute 10 = .ok (.ifCond .ne 9, 3) := dk_154 0 9 (dk_at dksX4_dispute_0 10 rfl rfl)
theorem dX4_dispute_13 : decode cX4_dispute 13 = .ok (.aload_n 0, 1) := dk_42 (dk_at dksX4_dispute_0 13 rfl rfl)
theorem dX4_dispute_14 : decode cX4_dispute 14 = .ok (.iconst 1, 1) := dk_4 (dk_at dksX4_dispute_0 14 rfl rfl)
theorem dX4_dispute_15 : decode cX4_dispute 15 = .ok (.invokevirtual 87, 3) := dk_182 0 87 (dk_at dksX4_dispute_0 15 rfl rfl)
theorem dX4_dispute_18 : decode cX4_dispute 18 = .ok (.ireturn, 1) := dk_172 (dk_at dksX4_dispute_0 18 rfl rfl)
theorem dX4_dispute_19 : decode cX4_dispute 19 = .ok (.iload_n 2, 1) := dk_28 (dk_at dksX4_dispute_0 19 rfl rfl)
theorem dX4_dispute_20 : decode cX4_dispute 20 = .ok (.iconst 0, 1) := dk_3 (dk_at dksX4_dispute_0 20 rfl rfl)
theorem dX4_dispute_21 : decode cX4_dispute 21 = .ok (.iconst 2, 1) := dk_5 (dk_at dksX4_dispute_0 21 rfl rfl)
theorem dX4_dispute_22 : decode cX4_dispute 22 = .ok (.invokestatic 91, 3) := dk_184 0 91 (dk_at dksX4_dispute_1 0 rfl rfl)
theorem dX4_dispute_25 : decode cX4_dispute 25 = .ok (.ifCond .ne 9, 3) := dk_154 0 9 (dk_at dksX4_dispute_1 3 rfl rfl)
theorem dX4_dispute_28 : decode cX4_dispute 28 = .ok (.aload_n 0, 1) := dk_42 (dk_at dksX4_dispute_1 6 rfl rfl)
theorem dX4_dispute_29 : decode cX4_dispute 29 = .ok (.iconst 2, 1) := dk_5 (dk_at dksX4_dispute_1 7 rfl rfl)
theorem dX4_dispute_30 : decode cX4_dispute 30 = .ok (.invokevirtual 87, 3) := dk_182 0 87 (dk_at dksX4_dispute_1 8 rfl rfl)
theorem dX4_dispute_33 : decode cX4_dispute 33 = .ok (.ireturn, 1) := dk_172 (dk_at dksX4_dispute_1 11 rfl rfl)
theorem dX4_dispute_34 : decode cX4_dispute 34 = .ok (.aload_n 0, 1) := dk_42 (dk_at dksX4_dispute_1 12 rfl rfl)
theorem dX4_dispute_35 : decode cX4_dispute 35 = .ok (.iload_n 1, 1) := dk_27 (dk_at dksX4_dispute_1 13 rfl rfl)
theorem dX4_dispute_36 : decode cX4_dispute 36 = .ok (.bipush 11, 2) := dk_16 11 (dk_at dksX4_dispute_1 14 rfl rfl)
theorem dX4_dispute_38 : decode cX4_dispute 38 = .ok (.invokevirtual 237, 3) := dk_182 0 237 (dk_at dksX4_dispute_1 16 rfl rfl)
theorem dX4_dispute_41 : decode cX4_dispute 41 = .ok (.ifCond .eq 9, 3) := dk_153 0 9 (dk_at dksX4_dispute_1 19 rfl rfl)
theorem dX4_dispute_44 : decode cX4_dispute 44 = .ok (.aload_n 0, 1) := dk_42 (dk_at dksX4_dispute_1 22 rfl rfl)
theorem dX4_dispute_45 : decode cX4_dispute 45 = .ok (.iconst 3, 1) := dk_6 (dk_at dksX4_dispute_1 23 rfl rfl)
theorem dX4_dispute_46 : decode cX4_dispute 46 = .ok (.invokevirtual 87, 3) := dk_182 0 87 (dk_at dksX4_dispute_2 0 rfl rfl)
theorem dX4_dispute_49 : decode cX4_dispute 49 = .ok (.ireturn, 1) := dk_172 (dk_at dksX4_dispute_2 3 rfl rfl)
theorem dX4_dispute_50 : decode cX4_dispute 50 = .ok (.aload_n 0, 1) := dk_42 (dk_at dksX4_dispute_2 4 rfl rfl)
theorem dX4_dispute_51 : decode cX4_dispute 51 = .ok (.iload_n 1, 1) := dk_27 (dk_at dksX4_dispute_2 5 rfl rfl)
theorem dX4_dispute_52 : decode cX4_dispute 52 = .ok (.iload_n 2, 1) := dk_28 (dk_at dksX4_dispute_2 6 rfl rfl)
theorem dX4_dispute_53 : decode cX4_dispute 53 = .ok (.invokevirtual 406, 3) := dk_182 1 150 (dk_at dksX4_dispute_2 7 rfl rfl)
theorem dX4_dispute_56 : decode cX4_dispute 56 = .ok (.istore_n 3, 1) := dk_62 (dk_at dksX4_dispute_2 10 rfl rfl)
theorem dX4_dispute_57 : decode cX4_dispute 57 = .ok (.aload_n 0, 1) := dk_42 (dk_at dksX4_dispute_2 11 rfl rfl)
theorem dX4_dispute_58 : decode cX4_dispute 58 = .ok (.iload_n 1, 1) := dk_27 (dk_at dksX4_dispute_2 12 rfl rfl)
theorem dX4_dispute_59 : decode cX4_dispute 59 = .ok (.bipush 11, 2) := dk_16 11 (dk_at dksX4_dispute_2 13 rfl rfl)
theorem dX4_dispute_61 : decode cX4_dispute 61 = .ok (.iload_n 3, 1) := dk_29 (dk_at dksX4_dispute_2 15 rfl rfl)
theorem dX4_dispute_62 : decode cX4_dispute 62 = .ok (.ifCond .eq 7, 3) := dk_153 0 7 (dk_at dksX4_dispute_2 16 rfl rfl)
theorem dX4_dispute_65 : decode cX4_dispute 65 = .ok (.iconst 1, 1) := dk_4 (dk_at dksX4_dispute_2 19 rfl rfl)
theorem dX4_dispute_66 : decode cX4_dispute 66 = .ok (.goto 4, 3) := dk_167 0 4 (dk_at dksX4_dispute_2 20 rfl rfl)
theorem dX4_dispute_69 : decode cX4_dispute 69 = .ok (.iconst 2, 1) := dk_5 (dk_at dksX4_dispute_2 23 rfl rfl)
theorem dX4_dispute_70 : decode cX4_dispute 70 = .ok (.invokevirtual 366, 3) := dk_182 1 110 (dk_at dksX4_dispute_3 0 rfl rfl)
theorem dX4_dispute_73 : decode cX4_dispute 73 = .ok (.aload_n 0, 1) := dk_42 (dk_at dksX4_dispute_3 3 rfl rfl)
theorem dX4_dispute_74 : decode cX4_dispute 74 = .ok (.iload_n 1, 1) := dk_27 (dk_at dksX4_dispute_3 4 rfl rfl)
theorem dX4_dispute_75 : decode cX4_dispute 75 = .ok (.bipush 12, 2) := dk_16 12 (dk_at dksX4_dispute_3 5 rfl rfl)
theorem dX4_dispute_77 : decode cX4_dispute 77 = .ok (.iload_n 3, 1) := dk_29 (dk_at dksX4_dispute_3 7 rfl rfl)
theorem dX4_dispute_78 : decode cX4_dispute 78 = .ok (.invokevirtual 366, 3) := dk_182 1 110 (dk_at dksX4_dispute_3 8 rfl rfl)
theorem dX4_dispute_81 : decode cX4_dispute 81 = .ok (.aload_n 0, 1) := dk_42 (dk_at dksX4_dispute_3 11 rfl rfl)
theorem dX4_dispute_82 : decode cX4_dispute 82 = .ok (.iload_n 1, 1) := dk_27 (dk_at dksX4_dispute_3 12 rfl rfl)
theorem dX4_dispute_83 : decode cX4_dispute 83 = .ok (.iconst 1, 1) := dk_4 (dk_at dksX4_dispute_3 13 rfl rfl)
theorem dX4_dispute_84 : decode cX4_dispute 84 = .ok (.invokevirtual 237, 3) := dk_182 0 237 (dk_at dksX4_dispute_3 14 rfl rfl)
theorem dX4_dispute_87 : decode cX4_dispute 87 = .ok (.istore 4, 2) := dk_54 4 (dk_at dksX4_dispute_3 17 rfl rfl)
theorem dX4_dispute_89 : decode cX4_dispute 89 = .ok (.iload 4, 2) := dk_21 4 (dk_at dksX4_dispute_3 19 rfl rfl)
theorem dX4_dispute_91 : decode cX4_dispute 91 = .ok (.iconst (-1), 1) := dk_2 (dk_at dksX4_dispute_3 21 rfl rfl)
theorem dX4_dispute_92 : decode cX4_dispute 92 = .ok (.if_icmp .ne 29, 3) := dk_160 0 29 (dk_at dksX4_dispute_4 0 rfl rfl)
theorem dX4_dispute_95 : decode cX4_dispute 95 = .ok (.aload_n 0, 1) := dk_42 (dk_at dksX4_dispute_4 3 rfl rfl)
theorem dX4_dispute_96 : decode cX4_dispute 96 = .ok (.getfield 7, 3) := dk_180 0 7 (dk_at dksX4_dispute_4 4 rfl rfl)
theorem dX4_dispute_99 : decode cX4_dispute 99 = .ok (.sipush 235, 3) := dk_17 0 235 (dk_at dksX4_dispute_4 7 rfl rfl)
theorem dX4_dispute_102 : decode cX4_dispute 102 = .ok (.iconst 3, 1) := dk_6 (dk_at dksX4_dispute_4 10 rfl rfl)
theorem dX4_dispute_103 : decode cX4_dispute 103 = .ok (.aload_n 0, 1) := dk_42 (dk_at dksX4_dispute_4 11 rfl rfl)
theorem dX4_dispute_104 : decode cX4_dispute 104 = .ok (.iload_n 1, 1) := dk_27 (dk_at dksX4_dispute_4 12 rfl rfl)
theorem dX4_dispute_105 : decode cX4_dispute 105 = .ok (.iconst 0, 1) := dk_3 (dk_at dksX4_dispute_4 13 rfl rfl)
theorem dX4_dispute_106 : decode cX4_dispute 106 = .ok (.invokevirtual 237, 3) := dk_182 0 237 (dk_at dksX4_dispute_4 14 rfl rfl)
theorem dX4_dispute_109 : decode cX4_dispute 109 = .ok (.imul, 1) := dk_104 (dk_at dksX4_dispute_4 17 rfl rfl)
theorem dX4_dispute_110 : decode cX4_dispute 110 = .ok (.iadd, 1) := dk_96 (dk_at dksX4_dispute_4 18 rfl rfl)
theorem dX4_dispute_111 : decode cX4_dispute 111 = .ok (.iconst 2, 1) := dk_5 (dk_at dksX4_dispute_4 19 rfl rfl)
theorem dX4_dispute_112 : decode cX4_dispute 112 = .ok (.iadd, 1) := dk_96 (dk_at dksX4_dispute_4 20 rfl rfl)
theorem dX4_dispute_113 : decode cX4_dispute 113 = .ok (.dup2, 1) := dk_92 (dk_at dksX4_dispute_4 21 rfl rfl)
theorem dX4_dispute_114 : decode cX4_dispute 114 = .ok (.iaload, 1) := dk_46 (dk_at dksX4_dispute_4 22 rfl rfl)
theorem dX4_dispute_115 : decode cX4_dispute 115 = .ok (.iload_n 3, 1) := dk_29 (dk_at dksX4_dispute_4 23 rfl rfl)
theorem dX4_dispute_116 : decode cX4_dispute 116 = .ok (.isub, 1) := dk_100 (dk_at dksX4_dispute_5 0 rfl rfl)
theorem dX4_dispute_117 : decode cX4_dispute 117 = .ok (.iastore, 1) := dk_79 (dk_at dksX4_dispute_5 1 rfl rfl)
theorem dX4_dispute_118 : decode cX4_dispute 118 = .ok (.goto 19, 3) := dk_167 0 19 (dk_at dksX4_dispute_5 2 rfl rfl)
theorem dX4_dispute_121 : decode cX4_dispute 121 = .ok (.aload_n 0, 1) := dk_42 (dk_at dksX4_dispute_5 5 rfl rfl)
theorem dX4_dispute_122 : decode cX4_dispute 122 = .ok (.iload 4, 2) := dk_21 4 (dk_at dksX4_dispute_5 6 rfl rfl)
theorem dX4_dispute_124 : decode cX4_dispute 124 = .ok (.iconst 0, 1) := dk_3 (dk_at dksX4_dispute_5 8 rfl rfl)
theorem dX4_dispute_125 : decode cX4_dispute 125 = .ok (.iload_n 3, 1) := dk_29 (dk_at dksX4_dispute_5 9 rfl rfl)
theorem dX4_dispute_126 : decode cX4_dispute 126 = .ok (.invokevirtual 224, 3) := dk_182 0 224 (dk_at dksX4_dispute_5 10 rfl rfl)
theorem dX4_dispute_129 : decode cX4_dispute 129 = .ok (.aload_n 0, 1) := dk_42 (dk_at dksX4_dispute_5 13 rfl rfl)
theorem dX4_dispute_130 : decode cX4_dispute 130 = .ok (.iload 4, 2) := dk_21 4 (dk_at dksX4_dispute_5 14 rfl rfl)
theorem dX4_dispute_132 : decode cX4_dispute 132 = .ok (.iconst 5, 1) := dk_8 (dk_at dksX4_dispute_5 16 rfl rfl)
theorem dX4_dispute_133 : decode cX4_dispute 133 = .ok (.iload_n 3, 1) := dk_29 (dk_at dksX4_dispute_5 17 rfl rfl)
theorem dX4_dispute_134 : decode cX4_dispute 134 = .ok (.invokevirtual 224, 3) := dk_182 0 224 (dk_at dksX4_dispute_5 18 rfl rfl)
theorem dX4_dispute_137 : decode cX4_dispute 137 = .ok (.iload_n 3, 1) := dk_29 (dk_at dksX4_dispute_5 21 rfl rfl)
theorem dX4_dispute_138 : decode cX4_dispute 138 = .ok (.ireturn, 1) := dk_172 (dk_at dksX4_dispute_5 22 rfl rfl)
theorem c_391_0 : LkP (OkP 391) [(0, o_aload 0 1), (1, o_push 1 (.int 0)), (2, o_put 155 1), (5, o_aload 0 1), (6, o_iload 1 1), (7, o_cv [(30, 389)] 1 3 false none), (10, o_if (fun x => decide (¬ x = 0)) 19), (13, o_aload 0 1), (14, o_push 1 (.int 1)), (15, o_cv [(30, 291)] 1 3 false none), (18, o_ret 1), (19, o_iload 2 1), (20, o_push 1 (.int 0)), (21, o_push 1 (.int 2)), (22, o_cs 293 3 false none), (25, o_if (fun x => decide (¬ x = 0)) 34), (28, o_aload 0 1), (29, o_push 1 (.int 2)), (30, o_cv [(30, 291)] 1 3 false none), (33, o_ret 1), (34, o_aload 0 1), (35, o_iload 1 1), (36, o_push 2 (.int 11)), (38, o_cv [(30, 333)] 2 3 false none), (41, o_if (fun x => decide (x = 0)) 50), (44, o_aload 0 1), (45, o_push 1 (.int 3)), (46, o_cv [(30, 291)] 1 3 false none), (49, o_ret 1), (50, o_aload 0 1), (51, o_iload 1 1), (52, o_iload 2 1), (53, o_cv [(30, 392)] 2 3 false none), (56, o_istore 3 1), (57, o_aload 0 1), (58, o_iload 1 1), (59, o_push 2 (.int 11)), (61, o_iload 3 1), (62, o_if (fun x => decide (x = 0)) 69)] := lkp_c (P := OkP 391) ⟨(PuOK.ok (ok_aload_n dX4_dispute_0 rfl)), m_aload⟩ (
  lkp_c (P := OkP 391) ⟨(PuOK.ok (ok_iconst dX4_dispute_1 rfl)), m_push⟩ (
  lkp_c (P := OkP 391) ⟨ok_put ⟨"TollRoadModel", q3087, Or.inl rfl⟩ rfl fd_155 rfl dX4_dispute_2, m_put⟩ (
  lkp_c (P := OkP 391) ⟨(PuOK.ok (ok_aload_n dX4_dispute_5 rfl)), m_aload⟩ (
  lkp_c (P := OkP 391) ⟨(PuOK.ok (ok_iload_n dX4_dispute_6 rfl)), m_iload⟩ (
  lkp_c (P := OkP 391) ⟨ok_cv (List.forall_mem_cons.mpr ⟨tg_V (ci := 30) (r := CLr 30) (y := 389) rfl ⟨rfl, by decide⟩ rfl q3620 q3622 qs106 q139 q3623 ⟨cn_34.1, cn_34.2, pd_77⟩ dX4_dispute_7, (List.forall_mem_nil _)⟩) hd_no, m_cv⟩ (
  lkp_c (P := OkP 391) ⟨(PuOK.ok (ok_if_ne dX4_dispute_10 rfl)), m_if⟩ (
  lkp_c (P := OkP 391) ⟨(PuOK.ok (ok_aload_n dX4_dispute_13 rfl)), m_aload⟩ (
  lkp_c (P := OkP 391) ⟨(PuOK.ok (ok_iconst dX4_dispute_14 rfl)), m_push⟩ (
  lkp_c (P := OkP 391) ⟨ok_cv (List.forall_mem_cons.mpr ⟨tg_V (ci := 30) (r := CLr 30) (y := 291) rfl ⟨rfl, by decide⟩ rfl q3206 q3208 qs42 q139 q3209 ⟨cn_34.1, cn_34.2, pd_48⟩ dX4_dispute_15, (List.forall_mem_nil _)⟩) hd_no, m_cv⟩ (
  lkp_c (P := OkP 391) ⟨ok_iret rfl rfl (by decide) dX4_dispute_18, m_ret⟩ (
  lkp_c (P := OkP 391) ⟨(PuOK.ok (ok_iload_n dX4_dispute_19 rfl)), m_iload⟩ (
  lkp_c (P := OkP 391) ⟨(PuOK.ok (ok_iconst dX4_dispute_20 rfl)), m_push⟩ (
  lkp_c (P := OkP 391) ⟨(PuOK.ok (ok_iconst dX4_dispute_21 rfl)), m_push⟩ (
  lkp_c (P := OkP 391) ⟨ok_cs (tg_S ⟨rfl, by decide⟩ q3214 q3215 q139 q3216 ⟨cn_34.1, cn_34.2, pd_121⟩ dX4_dispute_22) hd_no, m_cs⟩ (
  lkp_c (P := OkP 391) ⟨(PuOK.ok (ok_if_ne dX4_dispute_25 rfl)), m_if⟩ (
  lkp_c (P := OkP 391) ⟨(PuOK.ok (ok_aload_n dX4_dispute_28 rfl)), m_aload⟩ (
  lkp_c (P := OkP 391) ⟨(PuOK.ok (ok_iconst dX4_dispute_29 rfl)), m_push⟩ (
  lkp_c (P := OkP 391) ⟨ok_cv (List.forall_mem_cons.mpr ⟨tg_V (ci := 30) (r := CLr 30) (y := 291) rfl ⟨rfl, by decide⟩ rfl q3206 q3208 qs42 q139 q3209 ⟨cn_34.1, cn_34.2, pd_48⟩ dX4_dispute_30, (List.forall_mem_nil _)⟩) hd_no, m_cv⟩ (
  lkp_c (P := OkP 391) ⟨ok_iret rfl rfl (by decide) dX4_dispute_33, m_ret⟩ (
  lkp_c (P := OkP 391) ⟨(PuOK.ok (ok_aload_n dX4_dispute_34 rfl)), m_aload⟩ (
  lkp_c (P := OkP 391) ⟨(PuOK.ok (ok_iload_n dX4_dispute_35 rfl)), m_iload⟩ (
  lkp_c (P := OkP 391) ⟨(PuOK.ok (ok_bipush dX4_dispute_36 rfl)), m_push⟩ (
  lkp_c (P := OkP 391) ⟨ok_cv (List.forall_mem_cons.mpr ⟨tg_V (ci := 30) (r := CLr 30) (y := 333) rfl ⟨rfl, by decide⟩ rfl q3391 q3393 qs70 q139 q3394 ⟨cn_34.1, cn_34.2, pd_1⟩ dX4_dispute_38, (List.forall_mem_nil _)⟩) hd_no, m_cv⟩ (
  lkp_c (P := OkP 391) ⟨(PuOK.ok (ok_if_eq dX4_dispute_41 rfl)), m_if⟩ (
  lkp_c (P := OkP 391) ⟨(PuOK.ok (ok_aload_n dX4_dispute_44 rfl)), m_aload⟩ (
  lkp_c (P := OkP 391) ⟨(PuOK.ok (ok_iconst dX4_dispute_45 rfl)), m_push⟩ (
  lkp_c (P := OkP 391) ⟨ok_cv (List.forall_mem_cons.mpr ⟨tg_V (ci := 30) (r := CLr 30) (y := 291) rfl ⟨rfl, by decide⟩ rfl q3206 q3208 qs42 q139 q3209 ⟨cn_34.1, cn_34.2, pd_48⟩ dX4_dispute_46, (List.forall_mem_nil _)⟩) hd_no, m_cv⟩ (
  lkp_c (P := OkP 391) ⟨ok_iret rfl rfl (by decide) dX4_dispute_49, m_ret⟩ (
  lkp_c (P := OkP 391) ⟨(PuOK.ok (ok_aload_n dX4_dispute_50 rfl)), m_aload⟩ (
  lkp_c (P := OkP 391) ⟨(PuOK.ok (ok_iload_n dX4_dispute_51 rfl)), m_iload⟩ (
  lkp_c (P := OkP 391) ⟨(PuOK.ok (ok_iload_n dX4_dispute_52 rfl)), m_iload⟩ (
  lkp_c (P := OkP 391) ⟨ok_cv (List.forall_mem_cons.mpr ⟨tg_V (ci := 30) (r := CLr 30) (y := 392) rfl ⟨rfl, by decide⟩ rfl q3632 q3634 qs107 q139 q3635 ⟨cn_34.1, cn_34.2, pd_1⟩ dX4_dispute_53, (List.forall_mem_nil _)⟩) hd_no, m_cv⟩ (
  lkp_c (P := OkP 391) ⟨(PuOK.ok (ok_istore_n dX4_dispute_56 rfl)), m_istore⟩ (
  lkp_c (P := OkP 391) ⟨(PuOK.ok (ok_aload_n dX4_dispute_57 rfl)), m_aload⟩ (
  lkp_c (P := OkP 391) ⟨(PuOK.ok (ok_iload_n dX4_dispute_58 rfl)), m_iload⟩ (
  lkp_c (P := OkP 391) ⟨(PuOK.ok (ok_bipush dX4_dispute_59 rfl)), m_push⟩ (
  lkp_c (P := OkP 391) ⟨(PuOK.ok (ok_iload_n dX4_dispute_61 rfl)), m_iload⟩ (
  lkp_c (P := OkP 391) ⟨(PuOK.ok (ok_if_eq dX4_dispute_62 rfl)), m_if⟩ (
  trivial)))))))))))))))))))))))))))))))))))))))
theorem c_391_1 : LkP (OkP 391) [(65, o_push 1 (.int 1)), (66, o_goto 70), (69, o_push 1 (.int 2)), (70, o_cv [(30, 383)] 3 3 true none), (73, o_aload 0 1), (74, o_iload 1 1), (75, o_push 2 (.int 12)), (77, o_iload 3 1), (78, o_cv [(30, 383)] 3 3 true none), (81, o_aload 0 1), (82, o_iload 1 1), (83, o_push 1 (.int 1)), (84, o_cv [(30, 333)] 2 3 false none), (87, o_istore 4 2), (89, o_iload 4 2), (91, o_push 1 (.int (-1))), (92, o_icmp (fun x y => decide (¬ x = y)) 121), (95, o_aload 0 1), (96, o_get 148), (99, o_push 3 (.int 235)), (102, o_push 1 (.int 3)), (103, o_aload 0 1), (104, o_iload 1 1), (105, o_push 1 (.int 0)), (106, o_cv [(30, 333)] 2 3 false none), (109, o_iop (fun x y => x * y)), (110, o_iop (fun x y => x + y)), (111, o_push 1 (.int 2)), (112, o_iop (fun x y => x + y)), (113, o_dup2), (114, o_rdI 0), (115, o_iload 3 1), (116, o_iop (fun x y => x - y)), (117, o_wrI 0), (118, o_goto 137), (121, o_aload 0 1), (122, o_iload 4 2), (124, o_push 1 (.int 0)), (125, o_iload 3 1), (126, o_cv [(30, 314)] 3 3 true none)] := lkp_c (P := OkP 391) ⟨(PuOK.ok (ok_iconst dX4_dispute_65 rfl)), m_push⟩ (
  lkp_c (P := OkP 391) ⟨(PuOK.ok (ok_goto dX4_dispute_66 rfl)), m_goto⟩ (
  lkp_c (P := OkP 391) ⟨(PuOK.ok (ok_iconst dX4_dispute_69 rfl)), m_push⟩ (
  lkp_c (P := OkP 391) ⟨ok_cv (List.forall_mem_cons.mpr ⟨tg_V (ci := 30) (r := CLr 30) (y := 383) rfl ⟨rfl, by decide⟩ rfl q3596 q3598 qs103 q139 q3599 ⟨cn_34.1, cn_34.2, pd_105⟩ dX4_dispute_70, (List.forall_mem_nil _)⟩) hd_no, m_cv⟩ (
  lkp_c (P := OkP 391) ⟨(PuOK.ok (ok_aload_n dX4_dispute_73 rfl)), m_aload⟩ (
  lkp_c (P := OkP 391) ⟨(PuOK.ok (ok_iload_n dX4_dispute_74 rfl)), m_iload⟩ (
  lkp_c (P := OkP 391) ⟨(PuOK.ok (ok_bipush dX4_dispute_75 rfl)), m_push⟩ (
  lkp_c (P := OkP 391) ⟨(PuOK.ok (ok_iload_n dX4_dispute_77 rfl)), m_iload⟩ (
  lkp_c (P := OkP 391) ⟨ok_cv (List.forall_mem_cons.mpr ⟨tg_V (ci := 30) (r := CLr 30) (y := 383) rfl ⟨rfl, by decide⟩ rfl q3596 q3598 qs103 q139 q3599 ⟨cn_34.1, cn_34.2, pd_105⟩ dX4_dispute_78, (List.forall_mem_nil _)⟩) hd_no, m_cv⟩ (
  lkp_c (P := OkP 391) ⟨(PuOK.ok (ok_aload_n dX4_dispute_81 rfl)), m_aload⟩ (
  lkp_c (P := OkP 391) ⟨(PuOK.ok (ok_iload_n dX4_dispute_82 rfl)), m_iload⟩ (
  lkp_c (P := OkP 391) ⟨(PuOK.ok (ok_iconst dX4_dispute_83 rfl)), m_push⟩ (
  lkp_c (P := OkP 391) ⟨ok_cv (List.forall_mem_cons.mpr ⟨tg_V (ci := 30) (r := CLr 30) (y := 333) rfl ⟨rfl, by decide⟩ rfl q3391 q3393 qs70 q139 q3394 ⟨cn_34.1, cn_34.2, pd_1⟩ dX4_dispute_84, (List.forall_mem_nil _)⟩) hd_no, m_cv⟩ (
  lkp_c (P := OkP 391) ⟨(PuOK.ok (ok_istore dX4_dispute_87)), m_istore⟩ (
  lkp_c (P := OkP 391) ⟨(PuOK.ok (ok_iload dX4_dispute_89)), m_iload⟩ (
  lkp_c (P := OkP 391) ⟨(PuOK.ok (ok_iconst dX4_dispute_91 rfl)), m_push⟩ (
  lkp_c (P := OkP 391) ⟨(PuOK.ok (ok_icmp_ne dX4_dispute_92 rfl)), m_icmp⟩ (
  lkp_c (P := OkP 391) ⟨(PuOK.ok (ok_aload_n dX4_dispute_95 rfl)), m_aload⟩ (
  lkp_c (P := OkP 391) ⟨ok_get ⟨"TollRoadModel", q3080, Or.inl rfl⟩ dX4_dispute_96, m_get⟩ (
  lkp_c (P := OkP 391) ⟨(PuOK.ok (ok_sipush dX4_dispute_99 rfl)), m_push⟩ (
  lkp_c (P := OkP 391) ⟨(PuOK.ok (ok_iconst dX4_dispute_102 rfl)), m_push⟩ (
  lkp_c (P := OkP 391) ⟨(PuOK.ok (ok_aload_n dX4_dispute_103 rfl)), m_aload⟩ (
  lkp_c (P := OkP 391) ⟨(PuOK.ok (ok_iload_n dX4_dispute_104 rfl)), m_iload⟩ (
  lkp_c (P := OkP 391) ⟨(PuOK.ok (ok_iconst dX4_dispute_105 rfl)), m_push⟩ (
  lkp_c (P := OkP 391) ⟨ok_cv (List.forall_mem_cons.mpr ⟨tg_V (ci := 30) (r := CLr 30) (y := 333) rfl ⟨rfl, by decide⟩ rfl q3391 q3393 qs70 q139 q3394 ⟨cn_34.1, cn_34.2, pd_1⟩ dX4_dispute_106, (List.forall_mem_nil _)⟩) hd_no, m_cv⟩ (
  lkp_c (P := OkP 391) ⟨(PuOK.ok (ok_imul dX4_dispute_109)), m_iop⟩ (
  lkp_c (P := OkP 391) ⟨(PuOK.ok (ok_iadd dX4_dispute_110)), m_iop⟩ (
  lkp_c (P := OkP 391) ⟨(PuOK.ok (ok_iconst dX4_dispute_111 rfl)), m_push⟩ (
  lkp_c (P := OkP 391) ⟨(PuOK.ok (ok_iadd dX4_dispute_112)), m_iop⟩ (
  lkp_c (P := OkP 391) ⟨(PuOK.ok (ok_dup2 dX4_dispute_113)), m_dup2⟩ (
  lkp_c (P := OkP 391) ⟨ok_iald dX4_dispute_114, m_rdI⟩ (
  lkp_c (P := OkP 391) ⟨(PuOK.ok (ok_iload_n dX4_dispute_115 rfl)), m_iload⟩ (
  lkp_c (P := OkP 391) ⟨(PuOK.ok (ok_isub dX4_dispute_116)), m_iop⟩ (
  lkp_c (P := OkP 391) ⟨ok_iast dX4_dispute_117, m_wrI⟩ (
  lkp_c (P := OkP 391) ⟨(PuOK.ok (ok_goto dX4_dispute_118 rfl)), m_goto⟩ (
  lkp_c (P := OkP 391) ⟨(PuOK.ok (ok_aload_n dX4_dispute_121 rfl)), m_aload⟩ (
  lkp_c (P := OkP 391) ⟨(PuOK.ok (ok_iload dX4_dispute_122)), m_iload⟩ (
  lkp_c (P := OkP 391) ⟨(PuOK.ok (ok_iconst dX4_dispute_124 rfl)), m_push⟩ (
  lkp_c (P := OkP 391) ⟨(PuOK.ok (ok_iload_n dX4_dispute_125 rfl)), m_iload⟩ (
  lkp_c (P := OkP 391) ⟨ok_cv (List.forall_mem_cons.mpr ⟨tg_V (ci := 30) (r := CLr 30) (y := 314) rfl ⟨rfl, by decide⟩ rfl q3313 q3315 qs59 q139 q3316 ⟨cn_34.1, cn_34.2, pd_105⟩ dX4_dispute_126, (List.forall_mem_nil _)⟩) hd_no, m_cv⟩ (
  trivial))))))))))))))))))))))))))))))))))))))))
theorem c_391_2 : LkP (OkP 391) [(129, o_aload 0 1), (130, o_iload 4 2), (132, o_push 1 (.int 5)), (133, o_iload 3 1), (134, o_cv [(30, 314)] 3 3 true none), (137, o_iload 3 1), (138, o_ret 1)] := lkp_c (P := OkP 391) ⟨(PuOK.ok (ok_aload_n dX4_dispute_129 rfl)), m_aload⟩ (
  lkp_c (P := OkP 391) ⟨(PuOK.ok (ok_iload dX4_dispute_130)), m_iload⟩ (
  lkp_c (P := OkP 391) ⟨(PuOK.ok (ok_iconst dX4_dispute_132 rfl)), m_push⟩ (
  lkp_c (P := OkP 391) ⟨(PuOK.ok (ok_iload_n dX4_dispute_133 rfl)), m_iload⟩ (
  lkp_c (P := OkP 391) ⟨ok_cv (List.forall_mem_cons.mpr ⟨tg_V (ci := 30) (r := CLr 30) (y := 314) rfl ⟨rfl, by decide⟩ rfl q3313 q3315 qs59 q139 q3316 ⟨cn_34.1, cn_34.2, pd_105⟩ dX4_dispute_134, (List.forall_mem_nil _)⟩) hd_no, m_cv⟩ (
  lkp_c (P := OkP 391) ⟨(PuOK.ok (ok_iload_n dX4_dispute_137 rfl)), m_iload⟩ (
  lkp_c (P := OkP 391) ⟨ok_iret rfl rfl (by decide) dX4_dispute_138, m_ret⟩ (
  trivial)))))))
theorem mt_391 : MtOK TB NT IT 391 := ⟨by decide +kernel, rfl, (fun h => by cases h), Or.inl ⟨rfl, rfl⟩, rfl, by decide, lk2_all (P := OkP 391) ⟨c_391_0, c_391_1, c_391_2, trivial⟩⟩
def dkwX4_refundFor_3 : List UInt8 := [158, 0, 17, 21, 4, 154, 0, 12, 42, 27, 8, 182, 0, 237, 167, 0, 4, 3, 172]
abbrev dktX4_refundFor_3 : List UInt8 := dkwX4_refundFor_3 ++ []
def dkwX4_refundFor_2 : List UInt8 := [42, 27, 5, 182, 0, 237, 167, 0, 4, 3, 172, 28, 4, 160, 0, 9, 42, 27, 182, 1, 147, 172, 29]
abbrev dktX4_refundFor_2 : List UInt8 := dkwX4_refundFor_2 ++ dktX4_refundFor_3
def dkwX4_refundFor_1 : List UInt8 := [54, 4, 28, 154, 0, 32, 21, 4, 153, 0, 25, 42, 27, 182, 1, 144, 42, 8, 182, 0, 231, 162, 0, 12]
abbrev dktX4_refundFor_1 : List UInt8 := dkwX4_refundFor_1 ++ dktX4_refundFor_2
def dkwX4_refundFor_0 : List UInt8 := [42, 27, 16, 17, 182, 0, 237, 62, 29, 42, 27, 16, 10, 182, 0, 237, 160, 0, 7, 4, 167, 0, 4, 3]
abbrev dktX4_refundFor_0 : List UInt8 := dkwX4_refundFor_0 ++ dktX4_refundFor_1
theorem dksX4_refundFor_0 : cX4_refundFor.data.toList.drop 0 = dktX4_refundFor_0 := by decide +kernel
theorem dksX4_refundFor_1 : cX4_refundFor.data.toList.drop 24 = dktX4_refundFor_1 := dk_seg dksX4_refundFor_0 24 rfl rfl
theorem dksX4_refundFor_2 : cX4_refundFor.data.toList.drop 48 = dktX4_refundFor_2 := dk_seg dksX4_refundFor_1 24 rfl rfl
theorem dksX4_refundFor_3 : cX4_refundFor.data.toList.drop 71 = dktX4_refundFor_3 := dk_seg dksX4_refundFor_2 23 rfl rfl
theorem dX4_refundFor_0 : decode cX4_refundFor 0 = .ok (.aload_n 0, 1) := dk_42 (dk_at dksX4_refundFor_0 0 rfl rfl)
theorem dX4_refundFor_1 : decode cX4_refundFor 1 = .ok (.iload_n 1, 1) := dk_27 (dk_at dksX4_refundFor_0 1 rfl rfl)
theorem dX4_refundFor_2 : decode cX4_refundFor 2 = .ok (.bipush 17, 2) := dk_16 17 (dk_at dksX4_refundFor_0 2 rfl rfl)
theorem dX4_refundFor_4 : decode cX4_refundFor 4 = .ok (.invokevirtual 237, 3) := dk_182 0 237 (dk_at dksX4_refundFor_0 4 rfl rfl)
theorem dX4_refundFor_7 : decode cX4_refundFor 7 = .ok (.istore_n 3, 1) := dk_62 (dk_at dksX4_refundFor_0 7 rfl rfl)
theorem dX4_refundFor_8 : decode cX4_refundFor 8 = .ok (.iload_n 3, 1) := dk_29 (dk_at dksX4_refundFor_0 8 rfl rfl)
theorem dX4_refundFor_9 : decode cX4_refundFor 9 = .ok (.aload_n 0, 1) := dk_42 (dk_at dksX4_refundFor_0 9 rfl rfl)
theorem dX4_refundFor_10 : decode cX4_refundFor 10 = .ok (.iload_n 1, 1) := dk_27 (dk_at dksX4_refundFor_0 10 rfl rfl)
theorem dX4_refundFor_11 : decode cX4_refundFor 11 = .ok (.bipush 10, 2) := dk_16 10 (dk_at dksX4_refundFor_0 11 rfl rfl)
theorem dX4_refundFor_13 : decode cX4_refundFor 13 = .ok (.invokevirtual 237, 3) := dk_182 0 237 (dk_at dksX4_refundFor_0 13 rfl rfl)
theorem dX4_refundFor_16 : decode cX4_refundFor 16 = .ok (.if_icmp .ne 7, 3) := dk_160 0 7 (dk_at dksX4_refundFor_0 16 rfl rfl)
theorem dX4_refundFor_19 : decode cX4_refundFor 19 = .ok (.iconst 1, 1) := dk_4 (dk_at dksX4_refundFor_0 19 rfl rfl)
theorem dX4_refundFor_20 : decode cX4_refundFor 20 = .ok (.goto 4, 3) := dk_167 0 4 (dk_at dksX4_refundFor_0 20 rfl rfl)
theorem dX4_refundFor_23 : decode cX4_refundFor 23 = .ok (.iconst 0, 1) := dk_3 (dk_at dksX4_refundFor_0 23 rfl rfl)
theorem dX4_refundFor_24 : decode cX4_refundFor 24 = .ok (.istore 4, 2) := dk_54 4 (dk_at dksX4_refundFor_1 0 rfl rfl)
theorem dX4_refundFor_26 : decode cX4_refundFor 26 = .ok (.iload_n 2, 1) := dk_28 (dk_at dksX4_refundFor_1 2 rfl rfl)
theorem dX4_refundFor_27 : decode cX4_refundFor 27 = .ok (.ifCond .ne 32, 3) := dk_154 0 32 (dk_at dksX4_refundFor_1 3 rfl rfl)
theorem dX4_refundFor_30 : decode cX4_refundFor 30 = .ok (.iload 4, 2) := dk_21 4 (dk_at dksX4_refundFor_1 6 rfl rfl)
theorem dX4_refundFor_32 : decode cX4_refundFor 32 = .ok (.ifCond .eq 25, 3) := dk_153 0 25 (dk_at dksX4_refundFor_1 8 rfl rfl)
theorem dX4_refundFor_35 : decode cX4_refundFor 35 = .ok (.aload_n 0, 1) := dk_42 (dk_at dksX4_refundFor_1 11 rfl rfl)
theorem dX4_refundFor_36 : decode cX4_refundFor 36 = .ok (.iload_n 1, 1) := dk_27 (dk_at dksX4_refundFor_1 12 rfl rfl)
theorem dX4_refundFor_37 : decode cX4_refundFor 37 = .ok (.invokevirtual 400, 3) := dk_182 1 144 (dk_at dksX4_refundFor_1 13 rfl rfl)
theorem dX4_refundFor_40 : decode cX4_refundFor 40 = .ok (.aload_n 0, 1) := dk_42 (dk_at dksX4_refundFor_1 16 rfl rfl)
theorem dX4_refundFor_41 : decode cX4_refundFor 41 = .ok (.iconst 5, 1) := dk_8 (dk_at dksX4_refundFor_1 17 rfl rfl)
theorem dX4_refundFor_42 : decode cX4_refundFor 42 = .ok (.invokevirtual 231, 3) := dk_182 0 231 (dk_at dksX4_refundFor_1 18 rfl rfl)
theorem dX4_refundFor_45 : decode cX4_refundFor 45 = .ok (.if_icmp .ge 12, 3) := dk_162 0 12 (dk_at dksX4_refundFor_1 21 rfl rfl)
theorem dX4_refundFor_48 : decode cX4_refundFor 48 = .ok (.aload_n 0, 1) := dk_42 (dk_at dksX4_refundFor_2 0 rfl rfl)
theorem dX4_refundFor_49 : decode cX4_refundFor 49 = .ok (.iload_n 1, 1) := dk_27 (dk_at dksX4_refundFor_2 1 rfl rfl)
theorem dX4_refundFor_50 : decode cX4_refundFor 50 = .ok (.iconst 2, 1) := dk_5 (dk_at dksX4_refundFor_2 2 rfl rfl)
theorem dX4_refundFor_51 : decode cX4_refundFor 51 = .ok (.invokevirtual 237, 3) := dk_182 0 237 (dk_at dksX4_refundFor_2 3 rfl rfl)
theorem dX4_refundFor_54 : decode cX4_refundFor 54 = .ok (.goto 4, 3) := dk_167 0 4 (dk_at dksX4_refundFor_2 6 rfl rfl)
theorem dX4_refundFor_57 : decode cX4_refundFor 57 = .ok (.iconst 0, 1) := dk_3 (dk_at dksX4_refundFor_2 9 rfl rfl)
theorem dX4_refundFor_58 : decode cX4_refundFor 58 = .ok (.ireturn, 1) := dk_172 (dk_at dksX4_refundFor_2 10 rfl rfl)
theorem dX4_refundFor_59 : decode cX4_refundFor 59 = .ok (.iload_n 2, 1) := dk_28 (dk_at dksX4_refundFor_2 11 rfl rfl)
theorem dX4_refundFor_60 : decode cX4_refundFor 60 = .ok (.iconst 1, 1) := dk_4 (dk_at dksX4_refundFor_2 12 rfl rfl)
theorem dX4_refundFor_61 : decode cX4_refundFor 61 = .ok (.if_icmp .ne 9, 3) := dk_160 0 9 (dk_at dksX4_refundFor_2 13 rfl rfl)
theorem dX4_refundFor_64 : decode cX4_refundFor 64 = .ok (.aload_n 0, 1) := dk_42 (dk_at dksX4_refundFor_2 16 rfl rfl)
theorem dX4_refundFor_65 : decode cX4_refundFor 65 = .ok (.iload_n 1, 1) := dk_27 (dk_at dksX4_refundFor_2 17 rfl rfl)
theorem dX4_refundFor_66 : decode cX4_refundFor 66 = .ok (.invokevirtual 403, 3) := dk_182 1 147 (dk_at dksX4_refundFor_2 18 rfl rfl)
theorem dX4_refundFor_69 : decode cX4_refundFor 69 = .ok (.ireturn, 1) := dk_172 (dk_at dksX4_refundFor_2 21 rfl rfl)
theorem dX4_refundFor_70 : decode cX4_refundFor 70 = .ok (.iload_n 3, 1) := dk_29 (dk_at dksX4_refundFor_2 22 rfl rfl)
theorem dX4_refundFor_71 : decode cX4_refundFor 71 = .ok (.ifCond .le 17, 3) := dk_158 0 17 (dk_at dksX4_refundFor_3 0 rfl rfl)
theorem dX4_refundFor_74 : decode cX4_refundFor 74 = .ok (.iload 4, 2) := dk_21 4 (dk_at dksX4_refundFor_3 3 rfl rfl)
theorem dX4_refundFor_76 : decode cX4_refundFor 76 = .ok (.ifCond .ne 12, 3) := dk_154 0 12 (dk_at dksX4_refundFor_3 5 rfl rfl)
theorem dX4_refundFor_79 : decode cX4_refundFor 79 = .ok (.aload_n 0, 1) := dk_42 (dk_at dksX4_refundFor_3 8 rfl rfl)
theorem dX4_refundFor_80 : decode cX4_refundFor 80 = .ok (.iload_n 1, 1) := dk_27 (dk_at dksX4_refundFor_3 9 rfl rfl)
theorem dX4_refundFor_81 : decode cX4_refundFor 81 = .ok (.iconst 5, 1) := dk_8 (dk_at dksX4_refundFor_3 10 rfl rfl)
theorem dX4_refundFor_82 : decode cX4_refundFor 82 = .ok (.invokevirtual 237, 3) := dk_182 0 237 (dk_at dksX4_refundFor_3 11 rfl rfl)
theorem dX4_refundFor_85 : decode cX4_refundFor 85 = .ok (.goto 4, 3) := dk_167 0 4 (dk_at dksX4_refundFor_3 14 rfl rfl)
theorem dX4_refundFor_88 : decode cX4_refundFor 88 = .ok (.iconst 0, 1) := dk_3 (dk_at dksX4_refundFor_3 17 rfl rfl)
theorem dX4_refundFor_89 : decode cX4_refundFor 89 = .ok (.ireturn, 1) := dk_172 (dk_at dksX4_refundFor_3 18 rfl rfl)
theorem c_392_0 : LkP (OkP 392) [(0, o_aload 0 1), (1, o_iload 1 1), (2, o_push 2 (.int 17)), (4, o_cv [(30, 333)] 2 3 false none), (7, o_istore 3 1), (8, o_iload 3 1), (9, o_aload 0 1), (10, o_iload 1 1), (11, o_push 2 (.int 10)), (13, o_cv [(30, 333)] 2 3 false none), (16, o_icmp (fun x y => decide (¬ x = y)) 23), (19, o_push 1 (.int 1)), (20, o_goto 24), (23, o_push 1 (.int 0)), (24, o_istore 4 2), (26, o_iload 2 1), (27, o_if (fun x => decide (¬ x = 0)) 59), (30, o_iload 4 2), (32, o_if (fun x => decide (x = 0)) 57), (35, o_aload 0 1), (36, o_iload 1 1), (37, o_cv [(30, 393)] 1 3 false none), (40, o_aload 0 1), (41, o_push 1 (.int 5)), (42, o_cv [(30, 328)] 1 3 false none), (45, o_icmp (fun x y => decide (y ≤ x)) 57), (48, o_aload 0 1), (49, o_iload 1 1), (50, o_push 1 (.int 2)), (51, o_cv [(30, 333)] 2 3 false none), (54, o_goto 58), (57, o_push 1 (.int 0)), (58, o_ret 1), (59, o_iload 2 1), (60, o_push 1 (.int 1)), (61, o_icmp (fun x y => decide (¬ x = y)) 70)] := lkp_c (P := OkP 392) ⟨(PuOK.ok (ok_aload_n dX4_refundFor_0 rfl)), m_aload⟩ (
  lkp_c (P := OkP 392) ⟨(PuOK.ok (ok_iload_n dX4_refundFor_1 rfl)), m_iload⟩ (
  lkp_c (P := OkP 392) ⟨(PuOK.ok (ok_bipush dX4_refundFor_2 rfl)), m_push⟩ (
  lkp_c (P := OkP 392) ⟨ok_cv (List.forall_mem_cons.mpr ⟨tg_V (ci := 30) (r := CLr 30) (y := 333) rfl ⟨rfl, by decide⟩ rfl q3391 q3393 qs70 q139 q3394 ⟨cn_34.1, cn_34.2, pd_1⟩ dX4_refundFor_4, (List.forall_mem_nil _)⟩) hd_no, m_cv⟩ (
  lkp_c (P := OkP 392) ⟨(PuOK.ok (ok_istore_n dX4_refundFor_7 rfl)), m_istore⟩ (
  lkp_c (P := OkP 392) ⟨(PuOK.ok (ok_iload_n dX4_refundFor_8 rfl)), m_iload⟩ (
  lkp_c (P := OkP 392) ⟨(PuOK.ok (ok_aload_n dX4_refundFor_9 rfl)), m_aload⟩ (
  lkp_c (P := OkP 392) ⟨(PuOK.ok (ok_iload_n dX4_refundFor_10 rfl)), m_iload⟩ (
  lkp_c (P := OkP 392) ⟨(PuOK.ok (ok_bipush dX4_refundFor_11 rfl)), m_push⟩ (
  lkp_c (P := OkP 392) ⟨ok_cv (List.forall_mem_cons.mpr ⟨tg_V (ci := 30) (r := CLr 30) (y := 333) rfl ⟨rfl, by decide⟩ rfl q3391 q3393 qs70 q139 q3394 ⟨cn_34.1, cn_34.2, pd_1⟩ dX4_refundFor_13, (List.forall_mem_nil _)⟩) hd_no, m_cv⟩ (
  lkp_c (P := OkP 392) ⟨(PuOK.ok (ok_icmp_ne dX4_refundFor_16 rfl)), m_icmp⟩ (
  lkp_c (P := OkP 392) ⟨(PuOK.ok (ok_iconst dX4_refundFor_19 rfl)), m_push⟩ (
  lkp_c (P := OkP 392) ⟨(PuOK.ok (ok_goto dX4_refundFor_20 rfl)), m_goto⟩ (
  lkp_c (P := OkP 392) ⟨(PuOK.ok (ok_iconst dX4_refundFor_23 rfl)), m_push⟩ (
  lkp_c (P := OkP 392) ⟨(PuOK.ok (ok_istore dX4_refundFor_24)), m_istore⟩ (
  lkp_c (P := OkP 392) ⟨(PuOK.ok (ok_iload_n dX4_refundFor_26 rfl)), m_iload⟩ (
  lkp_c (P := OkP 392) ⟨(PuOK.ok (ok_if_ne dX4_refundFor_27 rfl)), m_if⟩ (
  lkp_c (P := OkP 392) ⟨(PuOK.ok (ok_iload dX4_refundFor_30)), m_iload⟩ (
  lkp_c (P := OkP 392) ⟨(PuOK.ok (ok_if_eq dX4_refundFor_32 rfl)), m_if⟩ (
  lkp_c (P := OkP 392) ⟨(PuOK.ok (ok_aload_n dX4_refundFor_35 rfl)), m_aload⟩ (
  lkp_c (P := OkP 392) ⟨(PuOK.ok (ok_iload_n dX4_refundFor_36 rfl)), m_iload⟩ (
  lkp_c (P := OkP 392) ⟨ok_cv (List.forall_mem_cons.mpr ⟨tg_V (ci := 30) (r := CLr 30) (y := 393) rfl ⟨rfl, by decide⟩ rfl q3636 q3638 qs108 q139 q3639 ⟨cn_34.1, cn_34.2, pd_48⟩ dX4_refundFor_37, (List.forall_mem_nil _)⟩) hd_no, m_cv⟩ (
  lkp_c (P := OkP 392) ⟨(PuOK.ok (ok_aload_n dX4_refundFor_40 rfl)), m_aload⟩ (
  lkp_c (P := OkP 392) ⟨(PuOK.ok (ok_iconst dX4_refundFor_41 rfl)), m_push⟩ (
  lkp_c (P := OkP 392) ⟨ok_cv (List.forall_mem_cons.mpr ⟨tg_V (ci := 30) (r := CLr 30) (y := 328) rfl ⟨rfl, by decide⟩ rfl q3371 q3373 qs66 q139 q3374 ⟨cn_34.1, cn_34.2, pd_48⟩ dX4_refundFor_42, (List.forall_mem_nil _)⟩) hd_no, m_cv⟩ (
  lkp_c (P := OkP 392) ⟨(PuOK.ok (ok_icmp_ge dX4_refundFor_45 rfl)), m_icmp⟩ (
  lkp_c (P := OkP 392) ⟨(PuOK.ok (ok_aload_n dX4_refundFor_48 rfl)), m_aload⟩ (
  lkp_c (P := OkP 392) ⟨(PuOK.ok (ok_iload_n dX4_refundFor_49 rfl)), m_iload⟩ (
  lkp_c (P := OkP 392) ⟨(PuOK.ok (ok_iconst dX4_refundFor_50 rfl)), m_push⟩ (
  lkp_c (P := OkP 392) ⟨ok_cv (List.forall_mem_cons.mpr ⟨tg_V (ci := 30) (r := CLr 30) (y := 333) rfl ⟨rfl, by decide⟩ rfl q3391 q3393 qs70 q139 q3394 ⟨cn_34.1, cn_34.2, pd_1⟩ dX4_refundFor_51, (List.forall_mem_nil _)⟩) hd_no, m_cv⟩ (
  lkp_c (P := OkP 392) ⟨(PuOK.ok (ok_goto dX4_refundFor_54 rfl)), m_goto⟩ (
  lkp_c (P := OkP 392) ⟨(PuOK.ok (ok_iconst dX4_refundFor_57 rfl)), m_push⟩ (
  lkp_c (P := OkP 392) ⟨ok_iret rfl rfl (by decide) dX4_refundFor_58, m_ret⟩ (
  lkp_c (P := OkP 392) ⟨(PuOK.ok (ok_iload_n dX4_refundFor_59 rfl)), m_iload⟩ (
  lkp_c (P := OkP 392) ⟨(PuOK.ok (ok_iconst dX4_refundFor_60 rfl)), m_push⟩ (
  lkp_c (P := OkP 392) ⟨(PuOK.ok (ok_icmp_ne dX4_refundFor_61 rfl)), m_icmp⟩ (
  trivial))))))))))))))))))))))))))))))))))))
theorem c_392_1 : LkP (OkP 392) [(64, o_aload 0 1), (65, o_iload 1 1), (66, o_cv [(30, 394)] 1 3 false none), (69, o_ret 1), (70, o_iload 3 1), (71, o_if (fun x => decide (x ≤ 0)) 88), (74, o_iload 4 2), (76, o_if (fun x => decide (¬ x = 0)) 88), (79, o_aload 0 1), (80, o_iload 1 1), (81, o_push 1 (.int 5)), (82, o_cv [(30, 333)] 2 3 false none), (85, o_goto 89), (88, o_push 1 (.int 0)), (89, o_ret 1)] := lkp_c (P := OkP 392) ⟨(PuOK.ok (ok_aload_n dX4_refundFor_64 rfl)), m_aload⟩ (
  lkp_c (P := OkP 392) ⟨(PuOK.ok (ok_iload_n dX4_refundFor_65 rfl)), m_iload⟩ (
  lkp_c (P := OkP 392) ⟨ok_cv (List.forall_mem_cons.mpr ⟨tg_V (ci := 30) (r := CLr 30) (y := 394) rfl ⟨rfl, by decide⟩ rfl q3640 q3642 qs109 q139 q3643 ⟨cn_34.1, cn_34.2, pd_48⟩ dX4_refundFor_66, (List.forall_mem_nil _)⟩) hd_no, m_cv⟩ (
  lkp_c (P := OkP 392) ⟨ok_iret rfl rfl (by decide) dX4_refundFor_69, m_ret⟩ (
  lkp_c (P := OkP 392) ⟨(PuOK.ok (ok_iload_n dX4_refundFor_70 rfl)), m_iload⟩ (
  lkp_c (P := OkP 392) ⟨(PuOK.ok (ok_if_le dX4_refundFor_71 rfl)), m_if⟩ (
  lkp_c (P := OkP 392) ⟨(PuOK.ok (ok_iload dX4_refundFor_74)), m_iload⟩ (
  lkp_c (P := OkP 392) ⟨(PuOK.ok (ok_if_ne dX4_refundFor_76 rfl)), m_if⟩ (
  lkp_c (P := OkP 392) ⟨(PuOK.ok (ok_aload_n dX4_refundFor_79 rfl)), m_aload⟩ (
  lkp_c (P := OkP 392) ⟨(PuOK.ok (ok_iload_n dX4_refundFor_80 rfl)), m_iload⟩ (
  lkp_c (P := OkP 392) ⟨(PuOK.ok (ok_iconst dX4_refundFor_81 rfl)), m_push⟩ (
  lkp_c (P := OkP 392) ⟨ok_cv (List.forall_mem_cons.mpr ⟨tg_V (ci := 30) (r := CLr 30) (y := 333) rfl ⟨rfl, by decide⟩ rfl q3391 q3393 qs70 q139 q3394 ⟨cn_34.1, cn_34.2, pd_1⟩ dX4_refundFor_82, (List.forall_mem_nil _)⟩) hd_no, m_cv⟩ (
  lkp_c (P := OkP 392) ⟨(PuOK.ok (ok_goto dX4_refundFor_85 rfl)), m_goto⟩ (
  lkp_c (P := OkP 392) ⟨(PuOK.ok (ok_iconst dX4_refundFor_88 rfl)), m_push⟩ (
  lkp_c (P := OkP 392) ⟨ok_iret rfl rfl (by decide) dX4_refundFor_89, m_ret⟩ (
  trivial)))))))))))))))
theorem mt_392 : MtOK TB NT IT 392 := ⟨by decide +kernel, rfl, (fun h => by cases h), Or.inl ⟨rfl, rfl⟩, rfl, by decide, lk2_all (P := OkP 392) ⟨c_392_0, c_392_1, trivial⟩⟩
def dkwX4_leastSure_2 : List UInt8 := [28, 172]
abbrev dktX4_leastSure_2 : List UInt8 := dkwX4_leastSure_2 ++ []
def dkwX4_leastSure_1 : List UInt8 := [160, 0, 16, 28, 42, 29, 7, 182, 0, 234, 184, 1, 17, 167, 0, 4, 28, 61, 132, 3, 1, 167, 255, 216]
abbrev dktX4_leastSure_1 : List UInt8 := dkwX4_leastSure_1 ++ dktX4_leastSure_2
def dkwX4_leastSure_0 : List UInt8 := [16, 101, 61, 3, 62, 29, 42, 180, 0, 7, 16, 12, 46, 162, 0, 35, 42, 29, 16, 6, 182, 0, 234, 27]
abbrev dktX4_leastSure_0 : List UInt8 := dkwX4_leastSure_0 ++ dktX4_leastSure_1
theorem dksX4_leastSure_0 : cX4_leastSure.data.toList.drop 0 = dktX4_leastSure_0 := by decide +kernel
theorem dksX4_leastSure_1 : cX4_leastSure.data.toList.drop 24 = dktX4_leastSure_1 := dk_seg dksX4_leastSure_0 24 rfl rfl
theorem dksX4_leastSure_2 : cX4_leastSure.data.toList.drop 48 = dktX4_leastSure_2 := dk_seg dksX4_leastSure_1 24 rfl rfl
theorem dX4_leastSure_0 : decode cX4_leastSure 0 = .ok (.bipush 101, 2) := dk_16 101 (dk_at dksX4_leastSure_0 0 rfl rfl)
theorem dX4_leastSure_2 : decode cX4_leastSure 2 = .ok (.istore_n 2, 1) := dk_61 (dk_at dksX4_leastSure_0 2 rfl rfl)
theorem dX4_leastSure_3 : decode cX4_leastSure 3 = .ok (.iconst 0, 1) := dk_3 (dk_at dksX4_leastSure_0 3 rfl rfl)
theorem dX4_leastSure_4 : decode cX4_leastSure 4 = .ok (.istore_n 3, 1) := dk_62 (dk_at dksX4_leastSure_0 4 rfl rfl)
theorem dX4_leastSure_5 : decode cX4_leastSure 5 = .ok (.iload_n 3, 1) := dk_29 (dk_at dksX4_leastSure_0 5 rfl rfl)
theorem dX4_leastSure_6 : decode cX4_leastSure 6 = .ok (.aload_n 0, 1) := dk_42 (dk_at dksX4_leastSure_0 6 rfl rfl)
theorem dX4_leastSure_7 : decode cX4_leastSure 7 = .ok (.getfield 7, 3) := dk_180 0 7 (dk_at dksX4_leastSure_0 7 rfl rfl)
theorem dX4_leastSure_10 : decode cX4_leastSure 10 = .ok (.bipush 12, 2) := dk_16 12 (dk_at dksX4_leastSure_0 10 rfl rfl)
theorem dX4_leastSure_12 : decode cX4_leastSure 12 = .ok (.iaload, 1) := dk_46 (dk_at dksX4_leastSure_0 12 rfl rfl)
theorem dX4_leastSure_13 : decode cX4_leastSure 13 = .ok (.if_icmp .ge 35, 3) := dk_162 0 35 (dk_at dksX4_leastSure_0 13 rfl rfl)
theorem dX4_leastSure_16 : decode cX4_leastSure 16 = .ok (.aload_n 0, 1) := dk_42 (dk_at dksX4_leastSure_0 16 rfl rfl)
theorem dX4_leastSure_17 : decode cX4_leastSure 17 = .ok (.iload_n 3, 1) := dk_29 (dk_at dksX4_leastSure_0 17 rfl rfl)
theorem dX4_leastSure_18 : decode cX4_leastSure 18 = .ok (.bipush 6, 2) := dk_16 6 (dk_at dksX4_leastSure_0 18 rfl rfl)
theorem dX4_leastSure_20 : decode cX4_leastSure 20 = .ok (.invokevirtual 234, 3) := dk_182 0 234 (dk_at dksX4_leastSure_0 20 rfl rfl)
theorem dX4_leastSure_23 : decode cX4_leastSure 23 = .ok (.iload_n 1, 1) := dk_27 (dk_at dksX4_leastSure_0 23 rfl rfl)
theorem dX4_leastSure_24 : decode cX4_leastSure 24 = .ok (.if_icmp .ne 16, 3) := dk_160 0 16 (dk_at dksX4_leastSure_1 0 rfl rfl)
theorem dX4_leastSure_27 : decode cX4_leastSure 27 = .ok (.iload_n 2, 1) := dk_28 (dk_at dksX4_leastSure_1 3 rfl rfl)
theorem dX4_leastSure_28 : decode cX4_leastSure 28 = .ok (.aload_n 0, 1) := dk_42 (dk_at dksX4_leastSure_1 4 rfl rfl)
theorem dX4_leastSure_29 : decode cX4_leastSure 29 = .ok (.iload_n 3, 1) := dk_29 (dk_at dksX4_leastSure_1 5 rfl rfl)
theorem dX4_leastSure_30 : decode cX4_leastSure 30 = .ok (.iconst 4, 1) := dk_7 (dk_at dksX4_leastSure_1 6 rfl rfl)
theorem dX4_leastSure_31 : decode cX4_leastSure 31 = .ok (.invokevirtual 234, 3) := dk_182 0 234 (dk_at dksX4_leastSure_1 7 rfl rfl)
theorem dX4_leastSure_34 : decode cX4_leastSure 34 = .ok (.invokestatic 273, 3) := dk_184 1 17 (dk_at dksX4_leastSure_1 10 rfl rfl)
theorem dX4_leastSure_37 : decode cX4_leastSure 37 = .ok (.goto 4, 3) := dk_167 0 4 (dk_at dksX4_leastSure_1 13 rfl rfl)
theorem dX4_leastSure_40 : decode cX4_leastSure 40 = .ok (.iload_n 2, 1) := dk_28 (dk_at dksX4_leastSure_1 16 rfl rfl)
theorem dX4_leastSure_41 : decode cX4_leastSure 41 = .ok (.istore_n 2, 1) := dk_61 (dk_at dksX4_leastSure_1 17 rfl rfl)
theorem dX4_leastSure_42 : decode cX4_leastSure 42 = .ok (.iinc 3 1, 3) := dk_132 3 1 (dk_at dksX4_leastSure_1 18 rfl rfl)
theorem dX4_leastSure_45 : decode cX4_leastSure 45 = .ok (.goto (-40), 3) := dk_167 255 216 (dk_at dksX4_leastSure_1 21 rfl rfl)
theorem dX4_leastSure_48 : decode cX4_leastSure 48 = .ok (.iload_n 2, 1) := dk_28 (dk_at dksX4_leastSure_2 0 rfl rfl)
theorem dX4_leastSure_49 : decode cX4_leastSure 49 = .ok (.ireturn, 1) := dk_172 (dk_at dksX4_leastSure_2 1 rfl rfl)
theorem c_393_0 : LkP (OkP 393) [(0, o_push 2 (.int 101)), (2, o_istore 2 1), (3, o_push 1 (.int 0)), (4, o_istore 3 1), (5, o_iload 3 1), (6, o_aload 0 1), (7, o_get 148), (10, o_push 2 (.int 12)), (12, o_rdI 0), (13, o_icmp (fun x y => decide (y ≤ x)) 48), (16, o_aload 0 1), (17, o_iload 3 1), (18, o_push 2 (.int 6)), (20, o_cv [(30, 331)] 2 3 false none), (23, o_iload 1 1), (24, o_icmp (fun x y => decide (¬ x = y)) 40), (27, o_iload 2 1), (28, o_aload 0 1), (29, o_iload 3 1), (30, o_push 1 (.int 4)), (31, o_cv [(30, 331)] 2 3 false none), (34, o_cs 7 2 false none), (37, o_goto 41), (40, o_iload 2 1), (41, o_istore 2 1), (42, o_iinc 3 1), (45, o_goto 5), (48, o_iload 2 1), (49, o_ret 1)] := lkp_c (P := OkP 393) ⟨(PuOK.ok (ok_bipush dX4_leastSure_0 rfl)), m_push⟩ (
  lkp_c (P := OkP 393) ⟨(PuOK.ok (ok_istore_n dX4_leastSure_2 rfl)), m_istore⟩ (
  lkp_c (P := OkP 393) ⟨(PuOK.ok (ok_iconst dX4_leastSure_3 rfl)), m_push⟩ (
  lkp_c (P := OkP 393) ⟨(PuOK.ok (ok_istore_n dX4_leastSure_4 rfl)), m_istore⟩ (
  lkp_c (P := OkP 393) ⟨(PuOK.ok (ok_iload_n dX4_leastSure_5 rfl)), m_iload⟩ (
  lkp_c (P := OkP 393) ⟨(PuOK.ok (ok_aload_n dX4_leastSure_6 rfl)), m_aload⟩ (
  lkp_c (P := OkP 393) ⟨ok_get ⟨"TollRoadModel", q3080, Or.inl rfl⟩ dX4_leastSure_7, m_get⟩ (
  lkp_c (P := OkP 393) ⟨(PuOK.ok (ok_bipush dX4_leastSure_10 rfl)), m_push⟩ (
  lkp_c (P := OkP 393) ⟨ok_iald dX4_leastSure_12, m_rdI⟩ (
  lkp_c (P := OkP 393) ⟨(PuOK.ok (ok_icmp_ge dX4_leastSure_13 rfl)), m_icmp⟩ (
  lkp_c (P := OkP 393) ⟨(PuOK.ok (ok_aload_n dX4_leastSure_16 rfl)), m_aload⟩ (
  lkp_c (P := OkP 393) ⟨(PuOK.ok (ok_iload_n dX4_leastSure_17 rfl)), m_iload⟩ (
  lkp_c (P := OkP 393) ⟨(PuOK.ok (ok_bipush dX4_leastSure_18 rfl)), m_push⟩ (
  lkp_c (P := OkP 393) ⟨ok_cv (List.forall_mem_cons.mpr ⟨tg_V (ci := 30) (r := CLr 30) (y := 331) rfl ⟨rfl, by decide⟩ rfl q3383 q3385 qs68 q139 q3386 ⟨cn_34.1, cn_34.2, pd_1⟩ dX4_leastSure_20, (List.forall_mem_nil _)⟩) hd_no, m_cv⟩ (
  lkp_c (P := OkP 393) ⟨(PuOK.ok (ok_iload_n dX4_leastSure_23 rfl)), m_iload⟩ (
  lkp_c (P := OkP 393) ⟨(PuOK.ok (ok_icmp_ne dX4_leastSure_24 rfl)), m_icmp⟩ (
  lkp_c (P := OkP 393) ⟨(PuOK.ok (ok_iload_n dX4_leastSure_27 rfl)), m_iload⟩ (
  lkp_c (P := OkP 393) ⟨(PuOK.ok (ok_aload_n dX4_leastSure_28 rfl)), m_aload⟩ (
  lkp_c (P := OkP 393) ⟨(PuOK.ok (ok_iload_n dX4_leastSure_29 rfl)), m_iload⟩ (
  lkp_c (P := OkP 393) ⟨(PuOK.ok (ok_iconst dX4_leastSure_30 rfl)), m_push⟩ (
  lkp_c (P := OkP 393) ⟨ok_cv (List.forall_mem_cons.mpr ⟨tg_V (ci := 30) (r := CLr 30) (y := 331) rfl ⟨rfl, by decide⟩ rfl q3383 q3385 qs68 q139 q3386 ⟨cn_34.1, cn_34.2, pd_1⟩ dX4_leastSure_31, (List.forall_mem_nil _)⟩) hd_no, m_cv⟩ (
  lkp_c (P := OkP 393) ⟨ok_cs (tg_S ⟨rfl, by decide⟩ q3453 q374 q130 q375 ⟨cn_1.1, cn_1.2, pd_1⟩ dX4_leastSure_34) hd_no, m_cs⟩ (
  lkp_c (P := OkP 393) ⟨(PuOK.ok (ok_goto dX4_leastSure_37 rfl)), m_goto⟩ (
  lkp_c (P := OkP 393) ⟨(PuOK.ok (ok_iload_n dX4_leastSure_40 rfl)), m_iload⟩ (
  lkp_c (P := OkP 393) ⟨(PuOK.ok (ok_istore_n dX4_leastSure_41 rfl)), m_istore⟩ (
  lkp_c (P := OkP 393) ⟨(PuOK.ok (ok_iinc dX4_leastSure_42 rfl)), m_iinc⟩ (
  lkp_c (P := OkP 393) ⟨(PuOK.ok (ok_goto dX4_leastSure_45 rfl)), m_goto⟩ (
  lkp_c (P := OkP 393) ⟨(PuOK.ok (ok_iload_n dX4_leastSure_48 rfl)), m_iload⟩ (
  lkp_c (P := OkP 393) ⟨ok_iret rfl rfl (by decide) dX4_leastSure_49, m_ret⟩ (
  trivial)))))))))))))))))))))))))))))
theorem mt_393 : MtOK TB NT IT 393 := ⟨by decide +kernel, rfl, (fun h => by cases h), Or.inl ⟨rfl, rfl⟩, rfl, by decide, lk2_all (P := OkP 393) ⟨c_393_0, trivial⟩⟩
def dkwX4_routeRefund_4 : List UInt8 := [27, 5, 182, 0, 237, 42, 27, 21, 4, 182, 1, 141, 100, 167, 0, 4, 3, 172]
abbrev dktX4_routeRefund_4 : List UInt8 := dkwX4_routeRefund_4 ++ []
def dkwX4_routeRefund_3 : List UInt8 := [21, 4, 42, 27, 6, 182, 0, 237, 162, 0, 7, 4, 167, 0, 4, 3, 54, 5, 21, 5, 153, 0, 20, 42]
abbrev dktX4_routeRefund_3 : List UInt8 := dkwX4_routeRefund_3 ++ dktX4_routeRefund_4
def dkwX4_routeRefund_2 : List UInt8 := [27, 16, 13, 182, 0, 237, 104, 54, 4, 42, 27, 16, 9, 182, 0, 237, 158, 0, 23, 29, 2, 159, 0, 18]
abbrev dktX4_routeRefund_2 : List UInt8 := dkwX4_routeRefund_2 ++ dktX4_routeRefund_3
def dkwX4_routeRefund_1 : List UInt8 := [180, 0, 7, 28, 42, 27, 16, 8, 182, 0, 237, 96, 4, 100, 46, 16, 16, 112, 182, 1, 46, 62, 29, 42]
abbrev dktX4_routeRefund_1 : List UInt8 := dkwX4_routeRefund_1 ++ dktX4_routeRefund_2
def dkwX4_routeRefund_0 : List UInt8 := [17, 8, 152, 42, 27, 16, 15, 182, 0, 237, 96, 61, 42, 42, 180, 0, 7, 28, 46, 16, 16, 112, 42]
abbrev dktX4_routeRefund_0 : List UInt8 := dkwX4_routeRefund_0 ++ dktX4_routeRefund_1
theorem dksX4_routeRefund_0 : cX4_routeRefund.data.toList.drop 0 = dktX4_routeRefund_0 := by decide +kernel
theorem dksX4_routeRefund_1 : cX4_routeRefund.data.toList.drop 23 = dktX4_routeRefund_1 := dk_seg dksX4_routeRefund_0 23 rfl rfl
theorem dksX4_routeRefund_2 : cX4_routeRefund.data.toList.drop 47 = dktX4_routeRefund_2 := dk_seg dksX4_routeRefund_1 24 rfl rfl
theorem dksX4_routeRefund_3 : cX4_routeRefund.data.toList.drop 71 = dktX4_routeRefund_3 := dk_seg dksX4_routeRefund_2 24 rfl rfl
theorem dksX4_routeRefund_4 : cX4_routeRefund.data.toList.drop 95 = dktX4_routeRefund_4 := dk_seg dksX4_routeRefund_3 24 rfl rfl
theorem dX4_routeRefund_0 : decode cX4_routeRefund 0 = .ok (.sipush 2200, 3) := dk_17 8 152 (dk_at dksX4_routeRefund_0 0 rfl rfl)
theorem dX4_routeRefund_3 : decode cX4_routeRefund 3 = .ok (.aload_n 0, 1) := dk_42 (dk_at dksX4_routeRefund_0 3 rfl rfl)
theorem dX4_routeRefund_4 : decode cX4_routeRefund 4 = .ok (.iload_n 1, 1) := dk_27 (dk_at dksX4_routeRefund_0 4 rfl rfl)
theorem dX4_routeRefund_5 : decode cX4_routeRefund 5 = .ok (.bipush 15, 2) := dk_16 15 (dk_at dksX4_routeRefund_0 5 rfl rfl)
theorem dX4_routeRefund_7 : decode cX4_routeRefund 7 = .ok (.invokevirtual 237, 3) := dk_182 0 237 (dk_at dksX4_routeRefund_0 7 rfl rfl)
theorem dX4_routeRefund_10 : decode cX4_routeRefund 10 = .ok (.iadd, 1) := dk_96 (dk_at dksX4_routeRefund_0 10 rfl rfl)
theorem dX4_routeRefund_11 : decode cX4_routeRefund 11 = .ok (.istore_n 2, 1) := dk_61 (dk_at dksX4_routeRefund_0 11 rfl rfl)
theorem dX4_routeRefund_12 : decode cX4_routeRefund 12 = .ok (.aload_n 0, 1) := dk_42 (dk_at dksX4_routeRefund_0 12 rfl rfl)
theorem dX4_routeRefund_13 : decode cX4_routeRefund 13 = .ok (.aload_n 0, 1) := dk_42 (dk_at dksX4_routeRefund_0 13 rfl rfl)
theorem dX4_routeRefund_14 : decode cX4_routeRefund 14 = .ok (.getfield 7, 3) := dk_180 0 7 (dk_at dksX4_routeRefund_0 14 rfl rfl)
theorem dX4_routeRefund_17 : decode cX4_routeRefund 17 = .ok (.iload_n 2, 1) := dk_28 (dk_at dksX4_routeRefund_0 17 rfl rfl)
theorem dX4_routeRefund_18 : decode cX4_routeRefund 18 = .ok (.iaload, 1) := dk_46 (dk_at dksX4_routeRefund_0 18 rfl rfl)
theorem dX4_routeRefund_19 : decode cX4_routeRefund 19 = .ok (.bipush 16, 2) := dk_16 16 (dk_at dksX4_routeRefund_0 19 rfl rfl)
theorem dX4_routeRefund_21 : decode cX4_routeRefund 21 = .ok (.irem, 1) := dk_112 (dk_at dksX4_routeRefund_0 21 rfl rfl)
theorem dX4_routeRefund_22 : decode cX4_routeRefund 22 = .ok (.aload_n 0, 1) := dk_42 (dk_at dksX4_routeRefund_0 22 rfl rfl)
theorem dX4_routeRefund_23 : decode cX4_routeRefund 23 = .ok (.getfield 7, 3) := dk_180 0 7 (dk_at dksX4_routeRefund_1 0 rfl rfl)
theorem dX4_routeRefund_26 : decode cX4_routeRefund 26 = .ok (.iload_n 2, 1) := dk_28 (dk_at dksX4_routeRefund_1 3 rfl rfl)
theorem dX4_routeRefund_27 : decode cX4_routeRefund 27 = .ok (.aload_n 0, 1) := dk_42 (dk_at dksX4_routeRefund_1 4 rfl rfl)
theorem dX4_routeRefund_28 : decode cX4_routeRefund 28 = .ok (.iload_n 1, 1) := dk_27 (dk_at dksX4_routeRefund_1 5 rfl rfl)
theorem dX4_routeRefund_29 : decode cX4_routeRefund 29 = .ok (.bipush 8, 2) := dk_16 8 (dk_at dksX4_routeRefund_1 6 rfl rfl)
theorem dX4_routeRefund_31 : decode cX4_routeRefund 31 = .ok (.invokevirtual 237, 3) := dk_182 0 237 (dk_at dksX4_routeRefund_1 8 rfl rfl)
theorem dX4_routeRefund_34 : decode cX4_routeRefund 34 = .ok (.iadd, 1) := dk_96 (dk_at dksX4_routeRefund_1 11 rfl rfl)
theorem dX4_routeRefund_35 : decode cX4_routeRefund 35 = .ok (.iconst 1, 1) := dk_4 (dk_at dksX4_routeRefund_1 12 rfl rfl)
theorem dX4_routeRefund_36 : decode cX4_routeRefund 36 = .ok (.isub, 1) := dk_100 (dk_at dksX4_routeRefund_1 13 rfl rfl)
theorem dX4_routeRefund_37 : decode cX4_routeRefund 37 = .ok (.iaload, 1) := dk_46 (dk_at dksX4_routeRefund_1 14 rfl rfl)
theorem dX4_routeRefund_38 : decode cX4_routeRefund 38 = .ok (.bipush 16, 2) := dk_16 16 (dk_at dksX4_routeRefund_1 15 rfl rfl)
theorem dX4_routeRefund_40 : decode cX4_routeRefund 40 = .ok (.irem, 1) := dk_112 (dk_at dksX4_routeRefund_1 17 rfl rfl)
theorem dX4_routeRefund_41 : decode cX4_routeRefund 41 = .ok (.invokevirtual 302, 3) := dk_182 1 46 (dk_at dksX4_routeRefund_1 18 rfl rfl)
theorem dX4_routeRefund_44 : decode cX4_routeRefund 44 = .ok (.istore_n 3, 1) := dk_62 (dk_at dksX4_routeRefund_1 21 rfl rfl)
theorem dX4_routeRefund_45 : decode cX4_routeRefund 45 = .ok (.iload_n 3, 1) := dk_29 (dk_at dksX4_routeRefund_1 22 rfl rfl)
theorem dX4_routeRefund_46 : decode cX4_routeRefund 46 = .ok (.aload_n 0, 1) := dk_42 (dk_at dksX4_routeRefund_1 23 rfl rfl)
theorem dX4_routeRefund_47 : decode cX4_routeRefund 47 = .ok (.iload_n 1, 1) := dk_27 (dk_at dksX4_routeRefund_2 0 rfl rfl)
theorem dX4_routeRefund_48 : decode cX4_routeRefund 48 = .ok (.bipush 13, 2) := dk_16 13 (dk_at dksX4_routeRefund_2 1 rfl rfl)
theorem dX4_routeRefund_50 : decode cX4_routeRefund 50 = .ok (.invokevirtual 237, 3) := dk_182 0 237 (dk_at dksX4_routeRefund_2 3 rfl rfl)
theorem dX4_routeRefund_53 : decode cX4_routeRefund 53 = .ok (.imul, 1) := dk_104 (dk_at dksX4_routeRefund_2 6 rfl rfl)
theorem dX4_routeRefund_54 : decode cX4_routeRefund 54 = .ok (.istore 4, 2) := dk_54 4 (dk_at dksX4_routeRefund_2 7 rfl rfl)
theorem dX4_routeRefund_56 : decode cX4_routeRefund 56 = .ok (.aload_n 0, 1) := dk_42 (dk_at dksX4_routeRefund_2 9 rfl rfl)
theorem dX4_routeRefund_57 : decode cX4_routeRefund 57 = .ok (.iload_n 1, 1) := dk_27 (dk_at dksX4_routeRefund_2 10 rfl rfl)
theorem dX4_routeRefund_58 : decode cX4_routeRefund 58 = .ok (.bipush 9, 2) := dk_16 9 (dk_at dksX4_routeRefund_2 11 rfl rfl)
theorem dX4_routeRefund_60 : decode cX4_routeRefund 60 = .ok (.invokevirtual 237, 3) := dk_182 0 237 (dk_at dksX4_routeRefund_2 13 rfl rfl)
theorem dX4_routeRefund_63 : decode cX4_routeRefund 63 = .ok (.ifCond .le 23, 3) := dk_158 0 23 (dk_at dksX4_routeRefund_2 16 rfl rfl)
theorem dX4_routeRefund_66 : decode cX4_routeRefund 66 = .ok (.iload_n 3, 1) := dk_29 (dk_at dksX4_routeRefund_2 19 rfl rfl)
theorem dX4_routeRefund_67 : decode cX4_routeRefund 67 = .ok (.iconst (-1), 1) := dk_2 (dk_at dksX4_routeRefund_2 20 rfl rfl)
theorem dX4_routeRefund_68 : decode cX4_routeRefund 68 = .ok (.if_icmp .eq 18, 3) := dk_159 0 18 (dk_at dksX4_routeRefund_2 21 rfl rfl)
theorem dX4_routeRefund_71 : decode cX4_routeRefund 71 = .ok (.iload 4, 2) := dk_21 4 (dk_at dksX4_routeRefund_3 0 rfl rfl)
theorem dX4_routeRefund_73 : decode cX4_routeRefund 73 = .ok (.aload_n 0, 1) := dk_42 (dk_at dksX4_routeRefund_3 2 rfl rfl)
theorem dX4_routeRefund_74 : decode cX4_routeRefund 74 = .ok (.iload_n 1, 1) := dk_27 (dk_at dksX4_routeRefund_3 3 rfl rfl)
theorem dX4_routeRefund_75 : decode cX4_routeRefund 75 = .ok (.iconst 3, 1) := dk_6 (dk_at dksX4_routeRefund_3 4 rfl rfl)
theorem dX4_routeRefund_76 : decode cX4_routeRefund 76 = .ok (.invokevirtual 237, 3) := dk_182 0 237 (dk_at dksX4_routeRefund_3 5 rfl rfl)
theorem dX4_routeRefund_79 : decode cX4_routeRefund 79 = .ok (.if_icmp .ge 7, 3) := dk_162 0 7 (dk_at dksX4_routeRefund_3 8 rfl rfl)
theorem dX4_routeRefund_82 : decode cX4_routeRefund 82 = .ok (.iconst 1, 1) := dk_4 (dk_at dksX4_routeRefund_3 11 rfl rfl)
theorem dX4_routeRefund_83 : decode cX4_routeRefund 83 = .ok (.goto 4, 3) := dk_167 0 4 (dk_at dksX4_routeRefund_3 12 rfl rfl)
theorem dX4_routeRefund_86 : decode cX4_routeRefund 86 = .ok (.iconst 0, 1) := dk_3 (dk_at dksX4_routeRefund_3 15 rfl rfl)
theorem dX4_routeRefund_87 : decode cX4_routeRefund 87 = .ok (.istore 5, 2) := dk_54 5 (dk_at dksX4_routeRefund_3 16 rfl rfl)
theorem dX4_routeRefund_89 : decode cX4_routeRefund 89 = .ok (.iload 5, 2) := dk_21 5 (dk_at dksX4_routeRefund_3 18 rfl rfl)
theorem dX4_routeRefund_91 : decode cX4_routeRefund 91 = .ok (.ifCond .eq 20, 3) := dk_153 0 20 (dk_at dksX4_routeRefund_3 20 rfl rfl)
theorem dX4_routeRefund_94 : decode cX4_routeRefund 94 = .ok (.aload_n 0, 1) := dk_42 (dk_at dksX4_routeRefund_3 23 rfl rfl)
theorem dX4_routeRefund_95 : decode cX4_routeRefund 95 = .ok (.iload_n 1, 1) := dk_27 (dk_at dksX4_routeRefund_4 0 rfl rfl)
theorem dX4_routeRefund_96 : decode cX4_routeRefund 96 = .ok (.iconst 2, 1) := dk_5 (dk_at dksX4_routeRefund_4 1 rfl rfl)
theorem dX4_routeRefund_97 : decode cX4_routeRefund 97 = .ok (.invokevirtual 237, 3) := dk_182 0 237 (dk_at dksX4_routeRefund_4 2 rfl rfl)
theorem dX4_routeRefund_100 : decode cX4_routeRefund 100 = .ok (.aload_n 0, 1) := dk_42 (dk_at dksX4_routeRefund_4 5 rfl rfl)
theorem dX4_routeRefund_101 : decode cX4_routeRefund 101 = .ok (.iload_n 1, 1) := dk_27 (dk_at dksX4_routeRefund_4 6 rfl rfl)
theorem dX4_routeRefund_102 : decode cX4_routeRefund 102 = .ok (.iload 4, 2) := dk_21 4 (dk_at dksX4_routeRefund_4 7 rfl rfl)
theorem dX4_routeRefund_104 : decode cX4_routeRefund 104 = .ok (.invokevirtual 397, 3) := dk_182 1 141 (dk_at dksX4_routeRefund_4 9 rfl rfl)
theorem dX4_routeRefund_107 : decode cX4_routeRefund 107 = .ok (.isub, 1) := dk_100 (dk_at dksX4_routeRefund_4 12 rfl rfl)
theorem dX4_routeRefund_108 : decode cX4_routeRefund 108 = .ok (.goto 4, 3) := dk_167 0 4 (dk_at dksX4_routeRefund_4 13 rfl rfl)
theorem dX4_routeRefund_111 : decode cX4_routeRefund 111 = .ok (.iconst 0, 1) := dk_3 (dk_at dksX4_routeRefund_4 16 rfl rfl)
theorem dX4_routeRefund_112 : decode cX4_routeRefund 112 = .ok (.ireturn, 1) := dk_172 (dk_at dksX4_routeRefund_4 17 rfl rfl)
theorem c_394_0 : LkP (OkP 394) [(0, o_push 3 (.int 2200)), (3, o_aload 0 1), (4, o_iload 1 1), (5, o_push 2 (.int 15)), (7, o_cv [(30, 333)] 2 3 false none), (10, o_iop (fun x y => x + y)), (11, o_istore 2 1), (12, o_aload 0 1), (13, o_aload 0 1), (14, o_get 148), (17, o_iload 2 1), (18, o_rdI 0), (19, o_push 2 (.int 16)), (21, o_iopz (fun x y => x - x / y * y)), (22, o_aload 0 1), (23, o_get 148), (26, o_iload 2 1), (27, o_aload 0 1), (28, o_iload 1 1), (29, o_push 2 (.int 8)), (31, o_cv [(30, 333)] 2 3 false none), (34, o_iop (fun x y => x + y)), (35, o_push 1 (.int 1)), (36, o_iop (fun x y => x - y)), (37, o_rdI 0), (38, o_push 2 (.int 16)), (40, o_iopz (fun x y => x - x / y * y)), (41, o_cv [(30, 350)] 2 3 false none), (44, o_istore 3 1), (45, o_iload 3 1), (46, o_aload 0 1), (47, o_iload 1 1), (48, o_push 2 (.int 13)), (50, o_cv [(30, 333)] 2 3 false none), (53, o_iop (fun x y => x * y)), (54, o_istore 4 2), (56, o_aload 0 1), (57, o_iload 1 1), (58, o_push 2 (.int 9)), (60, o_cv [(30, 333)] 2 3 false none), (63, o_if (fun x => decide (x ≤ 0)) 86)] := lkp_c (P := OkP 394) ⟨(PuOK.ok (ok_sipush dX4_routeRefund_0 rfl)), m_push⟩ (
  lkp_c (P := OkP 394) ⟨(PuOK.ok (ok_aload_n dX4_routeRefund_3 rfl)), m_aload⟩ (
  lkp_c (P := OkP 394) ⟨(PuOK.ok (ok_iload_n dX4_routeRefund_4 rfl)), m_iload⟩ (
  lkp_c (P := OkP 394) ⟨(PuOK.ok (ok_bipush dX4_routeRefund_5 rfl)), m_push⟩ (
  lkp_c (P := OkP 394) ⟨ok_cv (List.forall_mem_cons.mpr ⟨tg_V (ci := 30) (r := CLr 30) (y := 333) rfl ⟨rfl, by decide⟩ rfl q3391 q3393 qs70 q139 q3394 ⟨cn_34.1, cn_34.2, pd_1⟩ dX4_routeRefund_7, (List.forall_mem_nil _)⟩) hd_no, m_cv⟩ (
  lkp_c (P := OkP 394) ⟨(PuOK.ok (ok_iadd dX4_routeRefund_10)), m_iop⟩ (
  lkp_c (P := OkP 394) ⟨(PuOK.ok (ok_istore_n dX4_routeRefund_11 rfl)), m_istore⟩ (
  lkp_c (P := OkP 394) ⟨(PuOK.ok (ok_aload_n dX4_routeRefund_12 rfl)), m_aload⟩ (
  lkp_c (P := OkP 394) ⟨(PuOK.ok (ok_aload_n dX4_routeRefund_13 rfl)), m_aload⟩ (
  lkp_c (P := OkP 394) ⟨ok_get ⟨"TollRoadModel", q3080, Or.inl rfl⟩ dX4_routeRefund_14, m_get⟩ (
  lkp_c (P := OkP 394) ⟨(PuOK.ok (ok_iload_n dX4_routeRefund_17 rfl)), m_iload⟩ (
  lkp_c (P := OkP 394) ⟨ok_iald dX4_routeRefund_18, m_rdI⟩ (
  lkp_c (P := OkP 394) ⟨(PuOK.ok (ok_bipush dX4_routeRefund_19 rfl)), m_push⟩ (
  lkp_c (P := OkP 394) ⟨(PuOK.ok (ok_irem dX4_routeRefund_21)), m_iopz⟩ (
  lkp_c (P := OkP 394) ⟨(PuOK.ok (ok_aload_n dX4_routeRefund_22 rfl)), m_aload⟩ (
  lkp_c (P := OkP 394) ⟨ok_get ⟨"TollRoadModel", q3080, Or.inl rfl⟩ dX4_routeRefund_23, m_get⟩ (
  lkp_c (P := OkP 394) ⟨(PuOK.ok (ok_iload_n dX4_routeRefund_26 rfl)), m_iload⟩ (
  lkp_c (P := OkP 394) ⟨(PuOK.ok (ok_aload_n dX4_routeRefund_27 rfl)), m_aload⟩ (
  lkp_c (P := OkP 394) ⟨(PuOK.ok (ok_iload_n dX4_routeRefund_28 rfl)), m_iload⟩ (
  lkp_c (P := OkP 394) ⟨(PuOK.ok (ok_bipush dX4_routeRefund_29 rfl)), m_push⟩ (
  lkp_c (P := OkP 394) ⟨ok_cv (List.forall_mem_cons.mpr ⟨tg_V (ci := 30) (r := CLr 30) (y := 333) rfl ⟨rfl, by decide⟩ rfl q3391 q3393 qs70 q139 q3394 ⟨cn_34.1, cn_34.2, pd_1⟩ dX4_routeRefund_31, (List.forall_mem_nil _)⟩) hd_no, m_cv⟩ (
  lkp_c (P := OkP 394) ⟨(PuOK.ok (ok_iadd dX4_routeRefund_34)), m_iop⟩ (
  lkp_c (P := OkP 394) ⟨(PuOK.ok (ok_iconst dX4_routeRefund_35 rfl)), m_push⟩ (
  lkp_c (P := OkP 394) ⟨(PuOK.ok (ok_isub dX4_routeRefund_36)), m_iop⟩ (
  lkp_c (P := OkP 394) ⟨ok_iald dX4_routeRefund_37, m_rdI⟩ (
  lkp_c (P := OkP 394) ⟨(PuOK.ok (ok_bipush dX4_routeRefund_38 rfl)), m_push⟩ (
  lkp_c (P := OkP 394) ⟨(PuOK.ok (ok_irem dX4_routeRefund_40)), m_iopz⟩ (
  lkp_c (P := OkP 394) ⟨ok_cv (List.forall_mem_cons.mpr ⟨tg_V (ci := 30) (r := CLr 30) (y := 350) rfl ⟨rfl, by decide⟩ rfl q3463 q3465 qs80 q139 q3466 ⟨cn_34.1, cn_34.2, pd_1⟩ dX4_routeRefund_41, (List.forall_mem_nil _)⟩) hd_no, m_cv⟩ (
  lkp_c (P := OkP 394) ⟨(PuOK.ok (ok_istore_n dX4_routeRefund_44 rfl)), m_istore⟩ (
  lkp_c (P := OkP 394) ⟨(PuOK.ok (ok_iload_n dX4_routeRefund_45 rfl)), m_iload⟩ (
  lkp_c (P := OkP 394) ⟨(PuOK.ok (ok_aload_n dX4_routeRefund_46 rfl)), m_aload⟩ (
  lkp_c (P := OkP 394) ⟨(PuOK.ok (ok_iload_n dX4_routeRefund_47 rfl)), m_iload⟩ (
  lkp_c (P := OkP 394) ⟨(PuOK.ok (ok_bipush dX4_routeRefund_48 rfl)), m_push⟩ (
  lkp_c (P := OkP 394) ⟨ok_cv (List.forall_mem_cons.mpr ⟨tg_V (ci := 30) (r := CLr 30) (y := 333) rfl ⟨rfl, by decide⟩ rfl q3391 q3393 qs70 q139 q3394 ⟨cn_34.1, cn_34.2, pd_1⟩ dX4_routeRefund_50, (List.forall_mem_nil _)⟩) hd_no, m_cv⟩ (
  lkp_c (P := OkP 394) ⟨(PuOK.ok (ok_imul dX4_routeRefund_53)), m_iop⟩ (
  lkp_c (P := OkP 394) ⟨(PuOK.ok (ok_istore dX4_routeRefund_54)), m_istore⟩ (
  lkp_c (P := OkP 394) ⟨(PuOK.ok (ok_aload_n dX4_routeRefund_56 rfl)), m_aload⟩ (
  lkp_c (P := OkP 394) ⟨(PuOK.ok (ok_iload_n dX4_routeRefund_57 rfl)), m_iload⟩ (
  lkp_c (P := OkP 394) ⟨(PuOK.ok (ok_bipush dX4_routeRefund_58 rfl)), m_push⟩ (
  lkp_c (P := OkP 394) ⟨ok_cv (List.forall_mem_cons.mpr ⟨tg_V (ci := 30) (r := CLr 30) (y := 333) rfl ⟨rfl, by decide⟩ rfl q3391 q3393 qs70 q139 q3394 ⟨cn_34.1, cn_34.2, pd_1⟩ dX4_routeRefund_60, (List.forall_mem_nil _)⟩) hd_no, m_cv⟩ (
  lkp_c (P := OkP 394) ⟨(PuOK.ok (ok_if_le dX4_routeRefund_63 rfl)), m_if⟩ (
  trivial)))))))))))))))))))))))))))))))))))))))))
theorem c_394_1 : LkP (OkP 394) [(66, o_iload 3 1), (67, o_push 1 (.int (-1))), (68, o_icmp (fun x y => decide (x = y)) 86), (71, o_iload 4 2), (73, o_aload 0 1), (74, o_iload 1 1), (75, o_push 1 (.int 3)), (76, o_cv [(30, 333)] 2 3 false none), (79, o_icmp (fun x y => decide (y ≤ x)) 86), (82, o_push 1 (.int 1)), (83, o_goto 87), (86, o_push 1 (.int 0)), (87, o_istore 5 2), (89, o_iload 5 2), (91, o_if (fun x => decide (x = 0)) 111), (94, o_aload 0 1), (95, o_iload 1 1), (96, o_push 1 (.int 2)), (97, o_cv [(30, 333)] 2 3 false none), (100, o_aload 0 1), (101, o_iload 1 1), (102, o_iload 4 2), (104, o_cv [(30, 395)] 2 3 false none), (107, o_iop (fun x y => x - y)), (108, o_goto 112), (111, o_push 1 (.int 0)), (112, o_ret 1)] := lkp_c (P := OkP 394) ⟨(PuOK.ok (ok_iload_n dX4_routeRefund_66 rfl)), m_iload⟩ (
  lkp_c (P := OkP 394) ⟨(PuOK.ok (ok_iconst dX4_routeRefund_67 rfl)), m_push⟩ (
  lkp_c (P := OkP 394) ⟨(PuOK.ok (ok_icmp_eq dX4_routeRefund_68 rfl)), m_icmp⟩ (
  lkp_c (P := OkP 394) ⟨(PuOK.ok (ok_iload dX4_routeRefund_71)), m_iload⟩ (
  lkp_c (P := OkP 394) ⟨(PuOK.ok (ok_aload_n dX4_routeRefund_73 rfl)), m_aload⟩ (
  lkp_c (P := OkP 394) ⟨(PuOK.ok (ok_iload_n dX4_routeRefund_74 rfl)), m_iload⟩ (
  lkp_c (P := OkP 394) ⟨(PuOK.ok (ok_iconst dX4_routeRefund_75 rfl)), m_push⟩ (
  lkp_c (P := OkP 394) ⟨ok_cv (List.forall_mem_cons.mpr ⟨tg_V (ci := 30) (r := CLr 30) (y := 333) rfl ⟨rfl, by decide⟩ rfl q3391 q3393 qs70 q139 q3394 ⟨cn_34.1, cn_34.2, pd_1⟩ dX4_routeRefund_76, (List.forall_mem_nil _)⟩) hd_no, m_cv⟩ (
  lkp_c (P := OkP 394) ⟨(PuOK.ok (ok_icmp_ge dX4_routeRefund_79 rfl)), m_icmp⟩ (
  lkp_c (P := OkP 394) ⟨(PuOK.ok (ok_iconst dX4_routeRefund_82 rfl)), m_push⟩ (
  lkp_c (P := OkP 394) ⟨(PuOK.ok (ok_goto dX4_routeRefund_83 rfl)), m_goto⟩ (
  lkp_c (P := OkP 394) ⟨(PuOK.ok (ok_iconst dX4_routeRefund_86 rfl)), m_push⟩ (
  lkp_c (P := OkP 394) ⟨(PuOK.ok (ok_istore dX4_routeRefund_87)), m_istore⟩ (
  lkp_c (P := OkP 394) ⟨(PuOK.ok (ok_iload dX4_routeRefund_89)), m_iload⟩ (
  lkp_c (P := OkP 394) ⟨(PuOK.ok (ok_if_eq dX4_routeRefund_91 rfl)), m_if⟩ (
  lkp_c (P := OkP 394) ⟨(PuOK.ok (ok_aload_n dX4_routeRefund_94 rfl)), m_aload⟩ (
  lkp_c (P := OkP 394) ⟨(PuOK.ok (ok_iload_n dX4_routeRefund_95 rfl)), m_iload⟩ (
  lkp_c (P := OkP 394) ⟨(PuOK.ok (ok_iconst dX4_routeRefund_96 rfl)), m_push⟩ (
  lkp_c (P := OkP 394) ⟨ok_cv (List.forall_mem_cons.mpr ⟨tg_V (ci := 30) (r := CLr 30) (y := 333) rfl ⟨rfl, by decide⟩ rfl q3391 q3393 qs70 q139 q3394 ⟨cn_34.1, cn_34.2, pd_1⟩ dX4_routeRefund_97, (List.forall_mem_nil _)⟩) hd_no, m_cv⟩ (
  lkp_c (P := OkP 394) ⟨(PuOK.ok (ok_aload_n dX4_routeRefund_100 rfl)), m_aload⟩ (
  lkp_c (P := OkP 394) ⟨(PuOK.ok (ok_iload_n dX4_routeRefund_101 rfl)), m_iload⟩ (
  lkp_c (P := OkP 394) ⟨(PuOK.ok (ok_iload dX4_routeRefund_102)), m_iload⟩ (
  lkp_c (P := OkP 394) ⟨ok_cv (List.forall_mem_cons.mpr ⟨tg_V (ci := 30) (r := CLr 30) (y := 395) rfl ⟨rfl, by decide⟩ rfl q3644 q3646 qs110 q139 q3647 ⟨cn_34.1, cn_34.2, pd_1⟩ dX4_routeRefund_104, (List.forall_mem_nil _)⟩) hd_no, m_cv⟩ (
  lkp_c (P := OkP 394) ⟨(PuOK.ok (ok_isub dX4_routeRefund_107)), m_iop⟩ (
  lkp_c (P := OkP 394) ⟨(PuOK.ok (ok_goto dX4_routeRefund_108 rfl)), m_goto⟩ (
  lkp_c (P := OkP 394) ⟨(PuOK.ok (ok_iconst dX4_routeRefund_111 rfl)), m_push⟩ (
  lkp_c (P := OkP 394) ⟨ok_iret rfl rfl (by decide) dX4_routeRefund_112, m_ret⟩ (
  trivial)))))))))))))))))))))))))))
theorem mt_394 : MtOK TB NT IT 394 := ⟨by decide +kernel, rfl, (fun h => by cases h), Or.inl ⟨rfl, rfl⟩, rfl, by decide, lk2_all (P := OkP 394) ⟨c_394_0, c_394_1, trivial⟩⟩
def dkwX4_newAmount_1 : List UInt8 := [16, 16, 182, 0, 237, 96, 172]
abbrev dktX4_newAmount_1 : List UInt8 := dkwX4_newAmount_1 ++ []
def dkwX4_newAmount_0 : List UInt8 := [28, 28, 42, 27, 16, 14, 182, 0, 237, 104, 16, 100, 108, 100, 42, 27, 8, 182, 0, 237, 96, 42, 27]
abbrev dktX4_newAmount_0 : List UInt8 := dkwX4_newAmount_0 ++ dktX4_newAmount_1
theorem dksX4_newAmount_0 : cX4_newAmount.data.toList.drop 0 = dktX4_newAmount_0 := by decide +kernel
theorem dksX4_newAmount_1 : cX4_newAmount.data.toList.drop 23 = dktX4_newAmount_1 := dk_seg dksX4_newAmount_0 23 rfl rfl
theorem dX4_newAmount_0 : decode cX4_newAmount 0 = .ok (.iload_n 2, 1) := dk_28 (dk_at dksX4_newAmount_0 0 rfl rfl)
theorem dX4_newAmount_1 : decode cX4_newAmount 1 = .ok (.iload_n 2, 1) := dk_28 (dk_at dksX4_newAmount_0 1 rfl rfl)
theorem dX4_newAmount_2 : decode cX4_newAmount 2 = .ok (.aload_n 0, 1) := dk_42 (dk_at dksX4_newAmount_0 2 rfl rfl)
theorem dX4_newAmount_3 : decode cX4_newAmount 3 = .ok (.iload_n 1, 1) := dk_27 (dk_at dksX4_newAmount_0 3 rfl rfl)
theorem dX4_newAmount_4 : decode cX4_newAmount 4 = .ok (.bipush 14, 2) := dk_16 14 (dk_at dksX4_newAmount_0 4 rfl rfl)
theorem dX4_newAmount_6 : decode cX4_newAmount 6 = .ok (.invokevirtual 237, 3) := dk_182 0 237 (dk_at dksX4_newAmount_0 6 rfl rfl)
theorem dX4_newAmount_9 : decode cX4_newAmount 9 = .ok (.imul, 1) := dk_104 (dk_at dksX4_newAmount_0 9 rfl rfl)
theorem dX4_newAmount_10 : decode cX4_newAmount 10 = .ok (.bipush 100, 2) := dk_16 100 (dk_at dksX4_newAmount_0 10 rfl rfl)
theorem dX4_newAmount_12 : decode cX4_newAmount 12 = .ok (.idiv, 1) := dk_108 (dk_at dksX4_newAmount_0 12 rfl rfl)
theorem dX4_newAmount_13 : decode cX4_newAmount 13 = .ok (.isub, 1) := dk_100 (dk_at dksX4_newAmount_0 13 rfl rfl)
theorem dX4_newAmount_14 : decode cX4_newAmount 14 = .ok (.aload_n 0, 1) := dk_42 (dk_at dksX4_newAmount_0 14 rfl rfl)
theorem dX4_newAmount_15 : decode cX4_newAmount 15 = .ok (.iload_n 1, 1) := dk_27 (dk_at dksX4_newAmount_0 15 rfl rfl)
theorem dX4_newAmount_16 : decode cX4_newAmount 16 = .ok (.iconst 5, 1) := dk_8 (dk_at dksX4_newAmount_0 16 rfl rfl)
theorem dX4_newAmount_17 : decode cX4_newAmount 17 = .ok (.invokevirtual 237, 3) := dk_182 0 237 (dk_at dksX4_newAmount_0 17 rfl rfl)
theorem dX4_newAmount_20 : decode cX4_newAmount 20 = .ok (.iadd, 1) := dk_96 (dk_at dksX4_newAmount_0 20 rfl rfl)
theorem dX4_newAmount_21 : decode cX4_newAmount 21 = .ok (.aload_n 0, 1) := dk_42 (dk_at dksX4_newAmount_0 21 rfl rfl)
theorem dX4_newAmount_22 : decode cX4_newAmount 22 = .ok (.iload_n 1, 1) := dk_27 (dk_at dksX4_newAmount_0 22 rfl rfl)
theorem dX4_newAmount_23 : decode cX4_newAmount 23 = .ok (.bipush 16, 2) := dk_16 16 (dk_at dksX4_newAmount_1 0 rfl rfl)
theorem dX4_newAmount_25 : decode cX4_newAmount 25 = .ok (.invokevirtual 237, 3) := dk_182 0 237 (dk_at dksX4_newAmount_1 2 rfl rfl)
theorem dX4_newAmount_28 : decode cX4_newAmount 28 = .ok (.iadd, 1) := dk_96 (dk_at dksX4_newAmount_1 5 rfl rfl)
theorem dX4_newAmount_29 : decode cX4_newAmount 29 = .ok (.ireturn, 1) := dk_172 (dk_at dksX4_newAmount_1 6 rfl rfl)
theorem c_395_0 : LkP (OkP 395) [(0, o_iload 2 1), (1, o_iload 2 1), (2, o_aload 0 1), (3, o_iload 1 1), (4, o_push 2 (.int 14)), (6, o_cv [(30, 333)] 2 3 false none), (9, o_iop (fun x y => x * y)), (10, o_push 2 (.int 100)), (12, o_iopz (fun x y => x / y)), (13, o_iop (fun x y => x - y)), (14, o_aload 0 1), (15, o_iload 1 1), (16, o_push 1 (.int 5)), (17, o_cv [(30, 333)] 2 3 false none), (20, o_iop (fun x y => x + y)), (21, o_aload 0 1), (22, o_iload 1 1), (23, o_push 2 (.int 16)), (25, o_cv [(30, 333)] 2 3 false none), (28, o_iop (fun x y => x + y)), (29, o_ret 1)] := lkp_c (P := OkP 395) ⟨(PuOK.ok (ok_iload_n dX4_newAmount_0 rfl)), m_iload⟩ (
  lkp_c (P := OkP 395) ⟨(PuOK.ok (ok_iload_n dX4_newAmount_1 rfl)), m_iload⟩ (
  lkp_c (P := OkP 395) ⟨(PuOK.ok (ok_aload_n dX4_newAmount_2 rfl)), m_aload⟩ (
  lkp_c (P := OkP 395) ⟨(PuOK.ok (ok_iload_n dX4_newAmount_3 rfl)), m_iload⟩ (
  lkp_c (P := OkP 395) ⟨(PuOK.ok (ok_bipush dX4_newAmount_4 rfl)), m_push⟩ (
  lkp_c (P := OkP 395) ⟨ok_cv (List.forall_mem_cons.mpr ⟨tg_V (ci := 30) (r := CLr 30) (y := 333) rfl ⟨rfl, by decide⟩ rfl q3391 q3393 qs70 q139 q3394 ⟨cn_34.1, cn_34.2, pd_1⟩ dX4_newAmount_6, (List.forall_mem_nil _)⟩) hd_no, m_cv⟩ (
  lkp_c (P := OkP 395) ⟨(PuOK.ok (ok_imul dX4_newAmount_9)), m_iop⟩ (
  lkp_c (P := OkP 395) ⟨(PuOK.ok (ok_bipush dX4_newAmount_10 rfl)), m_push⟩ (
  lkp_c (P := OkP 395) ⟨(PuOK.ok (ok_idiv dX4_newAmount_12)), m_iopz⟩ (
  lkp_c (P := OkP 395) ⟨(PuOK.ok (ok_isub dX4_newAmount_13)), m_iop⟩ (
  lkp_c (P := OkP 395) ⟨(PuOK.ok (ok_aload_n dX4_newAmount_14 rfl)), m_aload⟩ (
  lkp_c (P := OkP 395) ⟨(PuOK.ok (ok_iload_n dX4_newAmount_15 rfl)), m_iload⟩ (
  lkp_c (P := OkP 395) ⟨(PuOK.ok (ok_iconst dX4_newAmount_16 rfl)), m_push⟩ (
  lkp_c (P := OkP 395) ⟨ok_cv (List.forall_mem_cons.mpr ⟨tg_V (ci := 30) (r := CLr 30) (y := 333) rfl ⟨rfl, by decide⟩ rfl q3391 q3393 qs70 q139 q3394 ⟨cn_34.1, cn_34.2, pd_1⟩ dX4_newAmount_17, (List.forall_mem_nil _)⟩) hd_no, m_cv⟩ (
  lkp_c (P := OkP 395) ⟨(PuOK.ok (ok_iadd dX4_newAmount_20)), m_iop⟩ (
  lkp_c (P := OkP 395) ⟨(PuOK.ok (ok_aload_n dX4_newAmount_21 rfl)), m_aload⟩ (
  lkp_c (P := OkP 395) ⟨(PuOK.ok (ok_iload_n dX4_newAmount_22 rfl)), m_iload⟩ (
  lkp_c (P := OkP 395) ⟨(PuOK.ok (ok_bipush dX4_newAmount_23 rfl)), m_push⟩ (
  lkp_c (P := OkP 395) ⟨ok_cv (List.forall_mem_cons.mpr ⟨tg_V (ci := 30) (r := CLr 30) (y := 333) rfl ⟨rfl, by decide⟩ rfl q3391 q3393 qs70 q139 q3394 ⟨cn_34.1, cn_34.2, pd_1⟩ dX4_newAmount_25, (List.forall_mem_nil _)⟩) hd_no, m_cv⟩ (
  lkp_c (P := OkP 395) ⟨(PuOK.ok (ok_iadd dX4_newAmount_28)), m_iop⟩ (
  lkp_c (P := OkP 395) ⟨ok_iret rfl rfl (by decide) dX4_newAmount_29, m_ret⟩ (
  trivial)))))))))))))))))))))
theorem mt_395 : MtOK TB NT IT 395 := ⟨by decide +kernel, rfl, (fun h => by cases h), Or.inl ⟨rfl, rfl⟩, rfl, by decide, lk2_all (P := OkP 395) ⟨c_395_0, trivial⟩⟩
def dkwX4_disputable_2 : List UInt8 := [27, 182, 1, 150, 153, 0, 7, 4, 167, 0, 4, 3, 96, 61, 132, 3, 1, 167, 255, 215, 28, 172]
abbrev dktX4_disputable_2 : List UInt8 := dkwX4_disputable_2 ++ []
def dkwX4_disputable_1 : List UInt8 := [29, 42, 180, 0, 7, 16, 13, 46, 162, 0, 36, 28, 42, 29, 16, 11, 182, 0, 237, 154, 0, 16, 42, 29]
abbrev dktX4_disputable_1 : List UInt8 := dkwX4_disputable_1 ++ dktX4_disputable_2
def dkwX4_disputable_0 : List UInt8 := [42, 3, 181, 0, 81, 27, 3, 5, 184, 0, 91, 154, 0, 9, 42, 4, 182, 0, 87, 172, 3, 61, 3, 62]
abbrev dktX4_disputable_0 : List UInt8 := dkwX4_disputable_0 ++ dktX4_disputable_1
theorem dksX4_disputable_0 : cX4_disputable.data.toList.drop 0 = dktX4_disputable_0 := by decide +kernel
theorem dksX4_disputable_1 : cX4_disputable.data.toList.drop 24 = dktX4_disputable_1 := dk_seg dksX4_disputable_0 24 rfl rfl
theorem dksX4_disputable_2 : cX4_disputable.data.toList.drop 48 = dktX4_disputable_2 := dk_seg dksX4_disputable_1 24 rfl rfl
theorem dX4_disputable_0 : decode cX4_disputable 0 = .ok (.aload_n 0, 1) := dk_42 (dk_at dksX4_disputable_0 0 rfl rfl)
theorem dX4_disputable_1 : decode cX4_disputable 1 = .ok (.iconst 0, 1) := dk_3 (dk_at dksX4_disputable_0 1 rfl rfl)
theorem dX4_disputable_2 : decode cX4_disputable 2 = .ok (.putfield 81, 3) := dk_181 0 81 (dk_at dksX4_disputable_0 2 rfl rfl)
theorem dX4_disputable_5 : decode cX4_disputable 5 = .ok (.iload_n 1, 1) := dk_27 (dk_at dksX4_disputable_0 5 rfl rfl)
theorem dX4_disputable_6 : decode cX4_disputable 6 = .ok (.iconst 0, 1) := dk_3 (dk_at dksX4_disputable_0 6 rfl rfl)
theorem dX4_disputable_7 : decode cX4_disputable 7 = .ok (.iconst 2, 1) := dk_5 (dk_at dksX4_disputable_0 7 rfl rfl)
theorem dX4_disputable_8 : decode cX4_disputable 8 = .ok (.invokestatic 91, 3) := dk_184 0 91 (dk_at dksX4_disputable_0 8 rfl rfl)
theorem dX4_disputable_11 : decode cX4_disputable 11 = .ok (.ifCond .ne 9, 3) := dk_154 0 9 (dk_at dksX4_disputable_0 11 rfl rfl)
theorem dX4_disputable_14 : decode cX4_disputable 14 = .ok (.aload_n 0, 1) := dk_42 (dk_at dksX4_disputable_0 14 rfl rfl)
theorem dX4_disputable_15 : decode cX4_disputable 15 = .ok (.iconst 1, 1) := dk_4 (dk_at dksX4_disputable_0 15 rfl rfl)
theorem dX4_disputable_16 : decode cX4_disputable 16 = .ok (.invokevirtual 87, 3) := dk_182 0 87 (dk_at dksX4_disputable_0 16 rfl rfl)
theorem dX4_disputable_19 : decode cX4_disputable 19 = .ok (.ireturn, 1) := dk_172 (dk_at dksX4_disputable_0 19 rfl rfl)
theorem dX4_disputable_20 : decode cX4_disputable 20 = .ok (.iconst 0, 1) := dk_3 (dk_at dksX4_disputable_0 20 rfl rfl)
theorem dX4_disputable_21 : decode cX4_disputable 21 = .ok (.istore_n 2, 1) := dk_61 (dk_at dksX4_disputable_0 21 rfl rfl)
theorem dX4_disputable_22 : decode cX4_disputable 22 = .ok (.iconst 0, 1) := dk_3 (dk_at dksX4_disputable_0 22 rfl rfl)
theorem dX4_disputable_23 : decode cX4_disputable 23 = .ok (.istore_n 3, 1) := dk_62 (dk_at dksX4_disputable_0 23 rfl rfl)
theorem dX4_disputable_24 : decode cX4_disputable 24 = .ok (.iload_n 3, 1) := dk_29 (dk_at dksX4_disputable_1 0 rfl rfl)
theorem dX4_disputable_25 : decode cX4_disputable 25 = .ok (.aload_n 0, 1) := dk_42 (dk_at dksX4_disputable_1 1 rfl rfl)
theorem dX4_disputable_26 : decode cX4_disputable 26 = .ok (.getfield 7, 3) := dk_180 0 7 (dk_at dksX4_disputable_1 2 rfl rfl)
theorem dX4_disputable_29 : decode cX4_disputable 29 = .ok (.bipush 13, 2) := dk_16 13 (dk_at dksX4_disputable_1 5 rfl rfl)
theorem dX4_disputable_31 : decode cX4_disputable 31 = .ok (.iaload, 1) := dk_46 (dk_at dksX4_disputable_1 7 rfl rfl)
theorem dX4_disputable_32 : decode cX4_disputable 32 = .ok (.if_icmp .ge 36, 3) := dk_162 0 36 (dk_at dksX4_disputable_1 8 rfl rfl)
theorem dX4_disputable_35 : decode cX4_disputable 35 = .ok (.iload_n 2, 1) := dk_28 (dk_at dksX4_disputable_1 11 rfl rfl)
theorem dX4_disputable_36 : decode cX4_disputable 36 = .ok (.aload_n 0, 1) := dk_42 (dk_at dksX4_disputable_1 12 rfl rfl)
theorem dX4_disputable_37 : decode cX4_disputable 37 = .ok (.iload_n 3, 1) := dk_29 (dk_at dksX4_disputable_1 13 rfl rfl)
theorem dX4_disputable_38 : decode cX4_disputable 38 = .ok (.bipush 11, 2) := dk_16 11 (dk_at dksX4_disputable_1 14 rfl rfl)
theorem dX4_disputable_40 : decode cX4_disputable 40 = .ok (.invokevirtual 237, 3) := dk_182 0 237 (dk_at dksX4_disputable_1 16 rfl rfl)
theorem dX4_disputable_43 : decode cX4_disputable 43 = .ok (.ifCond .ne 16, 3) := dk_154 0 16 (dk_at dksX4_disputable_1 19 rfl rfl)
theorem dX4_disputable_46 : decode cX4_disputable 46 = .ok (.aload_n 0, 1) := dk_42 (dk_at dksX4_disputable_1 22 rfl rfl)
theorem dX4_disputable_47 : decode cX4_disputable 47 = .ok (.iload_n 3, 1) := dk_29 (dk_at dksX4_disputable_1 23 rfl rfl)
theorem dX4_disputable_48 : decode cX4_disputable 48 = .ok (.iload_n 1, 1) := dk_27 (dk_at dksX4_disputable_2 0 rfl rfl)
theorem dX4_disputable_49 : decode cX4_disputable 49 = .ok (.invokevirtual 406, 3) := dk_182 1 150 (dk_at dksX4_disputable_2 1 rfl rfl)
theorem dX4_disputable_52 : decode cX4_disputable 52 = .ok (.ifCond .eq 7, 3) := dk_153 0 7 (dk_at dksX4_disputable_2 4 rfl rfl)
theorem dX4_disputable_55 : decode cX4_disputable 55 = .ok (.iconst 1, 1) := dk_4 (dk_at dksX4_disputable_2 7 rfl rfl)
theorem dX4_disputable_56 : decode cX4_disputable 56 = .ok (.goto 4, 3) := dk_167 0 4 (dk_at dksX4_disputable_2 8 rfl rfl)
theorem dX4_disputable_59 : decode cX4_disputable 59 = .ok (.iconst 0, 1) := dk_3 (dk_at dksX4_disputable_2 11 rfl rfl)
theorem dX4_disputable_60 : decode cX4_disputable 60 = .ok (.iadd, 1) := dk_96 (dk_at dksX4_disputable_2 12 rfl rfl)
theorem dX4_disputable_61 : decode cX4_disputable 61 = .ok (.istore_n 2, 1) := dk_61 (dk_at dksX4_disputable_2 13 rfl rfl)
theorem dX4_disputable_62 : decode cX4_disputable 62 = .ok (.iinc 3 1, 3) := dk_132 3 1 (dk_at dksX4_disputable_2 14 rfl rfl)
theorem dX4_disputable_65 : decode cX4_disputable 65 = .ok (.goto (-41), 3) := dk_167 255 215 (dk_at dksX4_disputable_2 17 rfl rfl)
theorem dX4_disputable_68 : decode cX4_disputable 68 = .ok (.iload_n 2, 1) := dk_28 (dk_at dksX4_disputable_2 20 rfl rfl)
theorem dX4_disputable_69 : decode cX4_disputable 69 = .ok (.ireturn, 1) := dk_172 (dk_at dksX4_disputable_2 21 rfl rfl)
theorem c_396_0 : LkP (OkP 396) [(0, o_aload 0 1), (1, o_push 1 (.int 0)), (2, o_put 155 1), (5, o_iload 1 1), (6, o_push 1 (.int 0)), (7, o_push 1 (.int 2)), (8, o_cs 293 3 false none), (11, o_if (fun x => decide (¬ x = 0)) 20), (14, o_aload 0 1), (15, o_push 1 (.int 1)), (16, o_cv [(30, 291)] 1 3 false none), (19, o_ret 1), (20, o_push 1 (.int 0)), (21, o_istore 2 1), (22, o_push 1 (.int 0)), (23, o_istore 3 1), (24, o_iload 3 1), (25, o_aload 0 1), (26, o_get 148), (29, o_push 2 (.int 13)), (31, o_rdI 0), (32, o_icmp (fun x y => decide (y ≤ x)) 68), (35, o_iload 2 1), (36, o_aload 0 1), (37, o_iload 3 1), (38, o_push 2 (.int 11)), (40, o_cv [(30, 333)] 2 3 false none), (43, o_if (fun x => decide (¬ x = 0)) 59), (46, o_aload 0 1), (47, o_iload 3 1), (48, o_iload 1 1), (49, o_cv [(30, 392)] 2 3 false none), (52, o_if (fun x => decide (x = 0)) 59), (55, o_push 1 (.int 1)), (56, o_goto 60), (59, o_push 1 (.int 0)), (60, o_iop (fun x y => x + y)), (61, o_istore 2 1), (62, o_iinc 3 1)] := lkp_c (P := OkP 396) ⟨(PuOK.ok (ok_aload_n dX4_disputable_0 rfl)), m_aload⟩ (
  lkp_c (P := OkP 396) ⟨(PuOK.ok (ok_iconst dX4_disputable_1 rfl)), m_push⟩ (
  lkp_c (P := OkP 396) ⟨ok_put ⟨"TollRoadModel", q3087, Or.inl rfl⟩ rfl fd_155 rfl dX4_disputable_2, m_put⟩ (
  lkp_c (P := OkP 396) ⟨(PuOK.ok (ok_iload_n dX4_disputable_5 rfl)), m_iload⟩ (
  lkp_c (P := OkP 396) ⟨(PuOK.ok (ok_iconst dX4_disputable_6 rfl)), m_push⟩ (
  lkp_c (P := OkP 396) ⟨(PuOK.ok (ok_iconst dX4_disputable_7 rfl)), m_push⟩ (
  lkp_c (P := OkP 396) ⟨ok_cs (tg_S ⟨rfl, by decide⟩ q3214 q3215 q139 q3216 ⟨cn_34.1, cn_34.2, pd_121⟩ dX4_disputable_8) hd_no, m_cs⟩ (
  lkp_c (P := OkP 396) ⟨(PuOK.ok (ok_if_ne dX4_disputable_11 rfl)), m_if⟩ (
  lkp_c (P := OkP 396) ⟨(PuOK.ok (ok_aload_n dX4_disputable_14 rfl)), m_aload⟩ (
  lkp_c (P := OkP 396) ⟨(PuOK.ok (ok_iconst dX4_disputable_15 rfl)), m_push⟩ (
  lkp_c (P := OkP 396) ⟨ok_cv (List.forall_mem_cons.mpr ⟨tg_V (ci := 30) (r := CLr 30) (y := 291) rfl ⟨rfl, by decide⟩ rfl q3206 q3208 qs42 q139 q3209 ⟨cn_34.1, cn_34.2, pd_48⟩ dX4_disputable_16, (List.forall_mem_nil _)⟩) hd_no, m_cv⟩ (
  lkp_c (P := OkP 396) ⟨ok_iret rfl rfl (by decide) dX4_disputable_19, m_ret⟩ (
  lkp_c (P := OkP 396) ⟨(PuOK.ok (ok_iconst dX4_disputable_20 rfl)), m_push⟩ (
  lkp_c (P := OkP 396) ⟨(PuOK.ok (ok_istore_n dX4_disputable_21 rfl)), m_istore⟩ (
  lkp_c (P := OkP 396) ⟨(PuOK.ok (ok_iconst dX4_disputable_22 rfl)), m_push⟩ (
  lkp_c (P := OkP 396) ⟨(PuOK.ok (ok_istore_n dX4_disputable_23 rfl)), m_istore⟩ (
  lkp_c (P := OkP 396) ⟨(PuOK.ok (ok_iload_n dX4_disputable_24 rfl)), m_iload⟩ (
  lkp_c (P := OkP 396) ⟨(PuOK.ok (ok_aload_n dX4_disputable_25 rfl)), m_aload⟩ (
  lkp_c (P := OkP 396) ⟨ok_get ⟨"TollRoadModel", q3080, Or.inl rfl⟩ dX4_disputable_26, m_get⟩ (
  lkp_c (P := OkP 396) ⟨(PuOK.ok (ok_bipush dX4_disputable_29 rfl)), m_push⟩ (
  lkp_c (P := OkP 396) ⟨ok_iald dX4_disputable_31, m_rdI⟩ (
  lkp_c (P := OkP 396) ⟨(PuOK.ok (ok_icmp_ge dX4_disputable_32 rfl)), m_icmp⟩ (
  lkp_c (P := OkP 396) ⟨(PuOK.ok (ok_iload_n dX4_disputable_35 rfl)), m_iload⟩ (
  lkp_c (P := OkP 396) ⟨(PuOK.ok (ok_aload_n dX4_disputable_36 rfl)), m_aload⟩ (
  lkp_c (P := OkP 396) ⟨(PuOK.ok (ok_iload_n dX4_disputable_37 rfl)), m_iload⟩ (
  lkp_c (P := OkP 396) ⟨(PuOK.ok (ok_bipush dX4_disputable_38 rfl)), m_push⟩ (
  lkp_c (P := OkP 396) ⟨ok_cv (List.forall_mem_cons.mpr ⟨tg_V (ci := 30) (r := CLr 30) (y := 333) rfl ⟨rfl, by decide⟩ rfl q3391 q3393 qs70 q139 q3394 ⟨cn_34.1, cn_34.2, pd_1⟩ dX4_disputable_40, (List.forall_mem_nil _)⟩) hd_no, m_cv⟩ (
  lkp_c (P := OkP 396) ⟨(PuOK.ok (ok_if_ne dX4_disputable_43 rfl)), m_if⟩ (
  lkp_c (P := OkP 396) ⟨(PuOK.ok (ok_aload_n dX4_disputable_46 rfl)), m_aload⟩ (
  lkp_c (P := OkP 396) ⟨(PuOK.ok (ok_iload_n dX4_disputable_47 rfl)), m_iload⟩ (
  lkp_c (P := OkP 396) ⟨(PuOK.ok (ok_iload_n dX4_disputable_48 rfl)), m_iload⟩ (
  lkp_c (P := OkP 396) ⟨ok_cv (List.forall_mem_cons.mpr ⟨tg_V (ci := 30) (r := CLr 30) (y := 392) rfl ⟨rfl, by decide⟩ rfl q3632 q3634 qs107 q139 q3635 ⟨cn_34.1, cn_34.2, pd_1⟩ dX4_disputable_49, (List.forall_mem_nil _)⟩) hd_no, m_cv⟩ (
  lkp_c (P := OkP 396) ⟨(PuOK.ok (ok_if_eq dX4_disputable_52 rfl)), m_if⟩ (
  lkp_c (P := OkP 396) ⟨(PuOK.ok (ok_iconst dX4_disputable_55 rfl)), m_push⟩ (
  lkp_c (P := OkP 396) ⟨(PuOK.ok (ok_goto dX4_disputable_56 rfl)), m_goto⟩ (
  lkp_c (P := OkP 396) ⟨(PuOK.ok (ok_iconst dX4_disputable_59 rfl)), m_push⟩ (
  lkp_c (P := OkP 396) ⟨(PuOK.ok (ok_iadd dX4_disputable_60)), m_iop⟩ (
  lkp_c (P := OkP 396) ⟨(PuOK.ok (ok_istore_n dX4_disputable_61 rfl)), m_istore⟩ (
  lkp_c (P := OkP 396) ⟨(PuOK.ok (ok_iinc dX4_disputable_62 rfl)), m_iinc⟩ (
  trivial)))))))))))))))))))))))))))))))))))))))
theorem c_396_1 : LkP (OkP 396) [(65, o_goto 24), (68, o_iload 2 1), (69, o_ret 1)] := lkp_c (P := OkP 396) ⟨(PuOK.ok (ok_goto dX4_disputable_65 rfl)), m_goto⟩ (
  lkp_c (P := OkP 396) ⟨(PuOK.ok (ok_iload_n dX4_disputable_68 rfl)), m_iload⟩ (
  lkp_c (P := OkP 396) ⟨ok_iret rfl rfl (by decide) dX4_disputable_69, m_ret⟩ (
  trivial)))
theorem mt_396 : MtOK TB NT IT 396 := ⟨by decide +kernel, rfl, (fun h => by cases h), Or.inl ⟨rfl, rfl⟩, rfl, by decide, lk2_all (P := OkP 396) ⟨c_396_0, c_396_1, trivial⟩⟩
def dkwX4_revenue_0 : List UInt8 := [42, 3, 181, 0, 81, 42, 4, 182, 1, 153, 173]
abbrev dktX4_revenue_0 : List UInt8 := dkwX4_revenue_0 ++ []
theorem dksX4_revenue_0 : cX4_revenue.data.toList.drop 0 = dktX4_revenue_0 := by decide +kernel
theorem dX4_revenue_0 : decode cX4_revenue 0 = .ok (.aload_n 0, 1) := dk_42 (dk_at dksX4_revenue_0 0 rfl rfl)
theorem dX4_revenue_1 : decode cX4_revenue 1 = .ok (.iconst 0, 1) := dk_3 (dk_at dksX4_revenue_0 1 rfl rfl)
theorem dX4_revenue_2 : decode cX4_revenue 2 = .ok (.putfield 81, 3) := dk_181 0 81 (dk_at dksX4_revenue_0 2 rfl rfl)
theorem dX4_revenue_5 : decode cX4_revenue 5 = .ok (.aload_n 0, 1) := dk_42 (dk_at dksX4_revenue_0 5 rfl rfl)
theorem dX4_revenue_6 : decode cX4_revenue 6 = .ok (.iconst 1, 1) := dk_4 (dk_at dksX4_revenue_0 6 rfl rfl)
theorem dX4_revenue_7 : decode cX4_revenue 7 = .ok (.invokevirtual 409, 3) := dk_182 1 153 (dk_at dksX4_revenue_0 7 rfl rfl)
theorem dX4_revenue_10 : decode cX4_revenue 10 = .ok (.lreturn, 1) := dk_173 (dk_at dksX4_revenue_0 10 rfl rfl)
theorem c_397_0 : LkP (OkP 397) [(0, o_aload 0 1), (1, o_push 1 (.int 0)), (2, o_put 155 1), (5, o_aload 0 1), (6, o_push 1 (.int 1)), (7, o_cv [(30, 398)] 1 3 false none), (10, o_ret 2)] := lkp_c (P := OkP 397) ⟨(PuOK.ok (ok_aload_n dX4_revenue_0 rfl)), m_aload⟩ (
  lkp_c (P := OkP 397) ⟨(PuOK.ok (ok_iconst dX4_revenue_1 rfl)), m_push⟩ (
  lkp_c (P := OkP 397) ⟨ok_put ⟨"TollRoadModel", q3087, Or.inl rfl⟩ rfl fd_155 rfl dX4_revenue_2, m_put⟩ (
  lkp_c (P := OkP 397) ⟨(PuOK.ok (ok_aload_n dX4_revenue_5 rfl)), m_aload⟩ (
  lkp_c (P := OkP 397) ⟨(PuOK.ok (ok_iconst dX4_revenue_6 rfl)), m_push⟩ (
  lkp_c (P := OkP 397) ⟨ok_cv (List.forall_mem_cons.mpr ⟨tg_V (ci := 30) (r := CLr 30) (y := 398) rfl ⟨rfl, by decide⟩ rfl q3656 q3658 qs111 q139 q3659 ⟨cn_34.1, cn_34.2, pd_128⟩ dX4_revenue_7, (List.forall_mem_nil _)⟩) hd_no, m_cv⟩ (
  lkp_c (P := OkP 397) ⟨ok_lret rfl dX4_revenue_10, m_ret⟩ (
  trivial)))))))
theorem mt_397 : MtOK TB NT IT 397 := ⟨by decide +kernel, rfl, (fun h => by cases h), Or.inl ⟨rfl, rfl⟩, rfl, by decide, lk2_all (P := OkP 397) ⟨c_397_0, trivial⟩⟩
def dkwX4_amounts_2 : List UInt8 := [132, 4, 1, 167, 255, 213, 32, 173]
abbrev dktX4_amounts_2 : List UInt8 := dkwX4_amounts_2 ++ []
def dkwX4_amounts_1 : List UInt8 := [182, 0, 237, 27, 153, 0, 14, 42, 21, 4, 16, 12, 182, 0, 237, 167, 0, 4, 3, 100, 133, 97, 65]
abbrev dktX4_amounts_1 : List UInt8 := dkwX4_amounts_1 ++ dktX4_amounts_2
def dkwX4_amounts_0 : List UInt8 := [9, 65, 3, 54, 4, 21, 4, 42, 180, 0, 7, 16, 13, 46, 162, 0, 37, 32, 42, 21, 4, 5]
abbrev dktX4_amounts_0 : List UInt8 := dkwX4_amounts_0 ++ dktX4_amounts_1
theorem dksX4_amounts_0 : cX4_amounts.data.toList.drop 0 = dktX4_amounts_0 := by decide +kernel
theorem dksX4_amounts_1 : cX4_amounts.data.toList.drop 22 = dktX4_amounts_1 := dk_seg dksX4_amounts_0 22 rfl rfl
theorem dksX4_amounts_2 : cX4_amounts.data.toList.drop 45 = dktX4_amounts_2 := dk_seg dksX4_amounts_1 23 rfl rfl
theorem dX4_amounts_0 : decode cX4_amounts 0 = .ok (.lconst 0, 1) := dk_9 (dk_at dksX4_amounts_0 0 rfl rfl)
theorem dX4_amounts_1 : decode cX4_amounts 1 = .ok (.lstore_n 2, 1) := dk_65 (dk_at dksX4_amounts_0 1 rfl rfl)
theorem dX4_amounts_2 : decode cX4_amounts 2 = .ok (.iconst 0, 1) := dk_3 (dk_at dksX4_amounts_0 2 rfl rfl)
theorem dX4_amounts_3 : decode cX4_amounts 3 = .ok (.istore 4, 2) := dk_54 4 (dk_at dksX4_amounts_0 3 rfl rfl)
theorem dX4_amounts_5 : decode cX4_amounts 5 = .ok (.iload 4, 2) := dk_21 4 (dk_at dksX4_amounts_0 5 rfl rfl)
theorem dX4_amounts_7 : decode cX4_amounts 7 = .ok (.aload_n 0, 1) := dk_42 (dk_at dksX4_amounts_0 7 rfl rfl)
theorem dX4_amounts_8 : decode cX4_amounts 8 = .ok (.getfield 7, 3) := dk_180 0 7 (dk_at dksX4_amounts_0 8 rfl rfl)
theorem dX4_amounts_11 : decode cX4_amounts 11 = .ok (.bipush 13, 2) := dk_16 13 (dk_at dksX4_amounts_0 11 rfl rfl)
theorem dX4_amounts_13 : decode cX4_amounts 13 = .ok (.iaload, 1) := dk_46 (dk_at dksX4_amounts_0 13 rfl rfl)
theorem dX4_amounts_14 : decode cX4_amounts 14 = .ok (.if_icmp .ge 37, 3) := dk_162 0 37 (dk_at dksX4_amounts_0 14 rfl rfl)
theorem dX4_amounts_17 : decode cX4_amounts 17 = .ok (.lload_n 2, 1) := dk_32 (dk_at dksX4_amounts_0 17 rfl rfl)
theorem dX4_amounts_18 : decode cX4_amounts 18 = .ok (.aload_n 0, 1) := dk_42 (dk_at dksX4_amounts_0 18 rfl rfl)
theorem dX4_amounts_19 : decode cX4_amounts 19 = .ok (.iload 4, 2) := dk_21 4 (dk_at dksX4_amounts_0 19 rfl rfl)
theorem dX4_amounts_21 : decode cX4_amounts 21 = .ok (.iconst 2, 1) := dk_5 (dk_at dksX4_amounts_0 21 rfl rfl)
theorem dX4_amounts_22 : decode cX4_amounts 22 = .ok (.invokevirtual 237, 3) := dk_182 0 237 (dk_at dksX4_amounts_1 0 rfl rfl)
theorem dX4_amounts_25 : decode cX4_amounts 25 = .ok (.iload_n 1, 1) := dk_27 (dk_at dksX4_amounts_1 3 rfl rfl)
theorem dX4_amounts_26 : decode cX4_amounts 26 = .ok (.ifCond .eq 14, 3) := dk_153 0 14 (dk_at dksX4_amounts_1 4 rfl rfl)
theorem dX4_amounts_29 : decode cX4_amounts 29 = .ok (.aload_n 0, 1) := dk_42 (dk_at dksX4_amounts_1 7 rfl rfl)
theorem dX4_amounts_30 : decode cX4_amounts 30 = .ok (.iload 4, 2) := dk_21 4 (dk_at dksX4_amounts_1 8 rfl rfl)
theorem dX4_amounts_32 : decode cX4_amounts 32 = .ok (.bipush 12, 2) := dk_16 12 (dk_at dksX4_amounts_1 10 rfl rfl)
theorem dX4_amounts_34 : decode cX4_amounts 34 = .ok (.invokevirtual 237, 3) := dk_182 0 237 (dk_at dksX4_amounts_1 12 rfl rfl)
theorem dX4_amounts_37 : decode cX4_amounts 37 = .ok (.goto 4, 3) := dk_167 0 4 (dk_at dksX4_amounts_1 15 rfl rfl)
theorem dX4_amounts_40 : decode cX4_amounts 40 = .ok (.iconst 0, 1) := dk_3 (dk_at dksX4_amounts_1 18 rfl rfl)
theorem dX4_amounts_41 : decode cX4_amounts 41 = .ok (.isub, 1) := dk_100 (dk_at dksX4_amounts_1 19 rfl rfl)
theorem dX4_amounts_42 : decode cX4_amounts 42 = .ok (.i2l, 1) := dk_133 (dk_at dksX4_amounts_1 20 rfl rfl)
theorem dX4_amounts_43 : decode cX4_amounts 43 = .ok (.ladd, 1) := dk_97 (dk_at dksX4_amounts_1 21 rfl rfl)
theorem dX4_amounts_44 : decode cX4_amounts 44 = .ok (.lstore_n 2, 1) := dk_65 (dk_at dksX4_amounts_1 22 rfl rfl)
theorem dX4_amounts_45 : decode cX4_amounts 45 = .ok (.iinc 4 1, 3) := dk_132 4 1 (dk_at dksX4_amounts_2 0 rfl rfl)
theorem dX4_amounts_48 : decode cX4_amounts 48 = .ok (.goto (-43), 3) := dk_167 255 213 (dk_at dksX4_amounts_2 3 rfl rfl)
theorem dX4_amounts_51 : decode cX4_amounts 51 = .ok (.lload_n 2, 1) := dk_32 (dk_at dksX4_amounts_2 6 rfl rfl)
theorem dX4_amounts_52 : decode cX4_amounts 52 = .ok (.lreturn, 1) := dk_173 (dk_at dksX4_amounts_2 7 rfl rfl)
theorem c_398_0 : LkP (OkP 398) [(0, o_push 1 (.long 0)), (1, o_lstore 2 1), (2, o_push 1 (.int 0)), (3, o_istore 4 2), (5, o_iload 4 2), (7, o_aload 0 1), (8, o_get 148), (11, o_push 2 (.int 13)), (13, o_rdI 0), (14, o_icmp (fun x y => decide (y ≤ x)) 51), (17, o_lload 2 1), (18, o_aload 0 1), (19, o_iload 4 2), (21, o_push 1 (.int 2)), (22, o_cv [(30, 333)] 2 3 false none), (25, o_iload 1 1), (26, o_if (fun x => decide (x = 0)) 40), (29, o_aload 0 1), (30, o_iload 4 2), (32, o_push 2 (.int 12)), (34, o_cv [(30, 333)] 2 3 false none), (37, o_goto 41), (40, o_push 1 (.int 0)), (41, o_iop (fun x y => x - y)), (42, o_i2l), (43, o_lop (fun x y => x + y)), (44, o_lstore 2 1), (45, o_iinc 4 1), (48, o_goto 5), (51, o_lload 2 1), (52, o_ret 2)] := lkp_c (P := OkP 398) ⟨(PuOK.ok (ok_lconst dX4_amounts_0 rfl)), m_push⟩ (
  lkp_c (P := OkP 398) ⟨(PuOK.ok (ok_lstore_n dX4_amounts_1 rfl)), m_lstore⟩ (
  lkp_c (P := OkP 398) ⟨(PuOK.ok (ok_iconst dX4_amounts_2 rfl)), m_push⟩ (
  lkp_c (P := OkP 398) ⟨(PuOK.ok (ok_istore dX4_amounts_3)), m_istore⟩ (
  lkp_c (P := OkP 398) ⟨(PuOK.ok (ok_iload dX4_amounts_5)), m_iload⟩ (
  lkp_c (P := OkP 398) ⟨(PuOK.ok (ok_aload_n dX4_amounts_7 rfl)), m_aload⟩ (
  lkp_c (P := OkP 398) ⟨ok_get ⟨"TollRoadModel", q3080, Or.inl rfl⟩ dX4_amounts_8, m_get⟩ (
  lkp_c (P := OkP 398) ⟨(PuOK.ok (ok_bipush dX4_amounts_11 rfl)), m_push⟩ (
  lkp_c (P := OkP 398) ⟨ok_iald dX4_amounts_13, m_rdI⟩ (
  lkp_c (P := OkP 398) ⟨(PuOK.ok (ok_icmp_ge dX4_amounts_14 rfl)), m_icmp⟩ (
  lkp_c (P := OkP 398) ⟨(PuOK.ok (ok_lload_n dX4_amounts_17 rfl)), m_lload⟩ (
  lkp_c (P := OkP 398) ⟨(PuOK.ok (ok_aload_n dX4_amounts_18 rfl)), m_aload⟩ (
  lkp_c (P := OkP 398) ⟨(PuOK.ok (ok_iload dX4_amounts_19)), m_iload⟩ (
  lkp_c (P := OkP 398) ⟨(PuOK.ok (ok_iconst dX4_amounts_21 rfl)), m_push⟩ (
  lkp_c (P := OkP 398) ⟨ok_cv (List.forall_mem_cons.mpr ⟨tg_V (ci := 30) (r := CLr 30) (y := 333) rfl ⟨rfl, by decide⟩ rfl q3391 q3393 qs70 q139 q3394 ⟨cn_34.1, cn_34.2, pd_1⟩ dX4_amounts_22, (List.forall_mem_nil _)⟩) hd_no, m_cv⟩ (
  lkp_c (P := OkP 398) ⟨(PuOK.ok (ok_iload_n dX4_amounts_25 rfl)), m_iload⟩ (
  lkp_c (P := OkP 398) ⟨(PuOK.ok (ok_if_eq dX4_amounts_26 rfl)), m_if⟩ (
  lkp_c (P := OkP 398) ⟨(PuOK.ok (ok_aload_n dX4_amounts_29 rfl)), m_aload⟩ (
  lkp_c (P := OkP 398) ⟨(PuOK.ok (ok_iload dX4_amounts_30)), m_iload⟩ (
  lkp_c (P := OkP 398) ⟨(PuOK.ok (ok_bipush dX4_amounts_32 rfl)), m_push⟩ (
  lkp_c (P := OkP 398) ⟨ok_cv (List.forall_mem_cons.mpr ⟨tg_V (ci := 30) (r := CLr 30) (y := 333) rfl ⟨rfl, by decide⟩ rfl q3391 q3393 qs70 q139 q3394 ⟨cn_34.1, cn_34.2, pd_1⟩ dX4_amounts_34, (List.forall_mem_nil _)⟩) hd_no, m_cv⟩ (
  lkp_c (P := OkP 398) ⟨(PuOK.ok (ok_goto dX4_amounts_37 rfl)), m_goto⟩ (
  lkp_c (P := OkP 398) ⟨(PuOK.ok (ok_iconst dX4_amounts_40 rfl)), m_push⟩ (
  lkp_c (P := OkP 398) ⟨(PuOK.ok (ok_isub dX4_amounts_41)), m_iop⟩ (
  lkp_c (P := OkP 398) ⟨(PuOK.ok (ok_i2l dX4_amounts_42)), m_i2l⟩ (
  lkp_c (P := OkP 398) ⟨(PuOK.ok (ok_ladd dX4_amounts_43)), m_lop⟩ (
  lkp_c (P := OkP 398) ⟨(PuOK.ok (ok_lstore_n dX4_amounts_44 rfl)), m_lstore⟩ (
  lkp_c (P := OkP 398) ⟨(PuOK.ok (ok_iinc dX4_amounts_45 rfl)), m_iinc⟩ (
  lkp_c (P := OkP 398) ⟨(PuOK.ok (ok_goto dX4_amounts_48 rfl)), m_goto⟩ (
  lkp_c (P := OkP 398) ⟨(PuOK.ok (ok_lload_n dX4_amounts_51 rfl)), m_lload⟩ (
  lkp_c (P := OkP 398) ⟨ok_lret rfl dX4_amounts_52, m_ret⟩ (
  trivial)))))))))))))))))))))))))))))))
theorem mt_398 : MtOK TB NT IT 398 := ⟨by decide +kernel, rfl, (fun h => by cases h), Or.inl ⟨rfl, rfl⟩, rfl, by decide, lk2_all (P := OkP 398) ⟨c_398_0, trivial⟩⟩
def dkwX4_gantry_3 : List UInt8 := [27, 4, 182, 1, 160, 172, 42, 5, 182, 0, 87, 172]
abbrev dktX4_gantry_3 : List UInt8 := dkwX4_gantry_3 ++ []
def dkwX4_gantry_2 : List UInt8 := [42, 180, 0, 7, 16, 15, 27, 96, 46, 172, 42, 27, 182, 1, 157, 172, 42, 27, 3, 182, 1, 160, 172, 42]
abbrev dktX4_gantry_2 : List UInt8 := dkwX4_gantry_2 ++ dktX4_gantry_3
def dkwX4_gantry_1 : List UInt8 := [170, 0, 0, 0, 0, 0, 0, 62, 0, 0, 0, 0, 0, 0, 0, 3, 0, 0, 0, 32, 0, 0, 0, 42, 0, 0, 0, 48, 0, 0, 0, 55]
abbrev dktX4_gantry_1 : List UInt8 := dkwX4_gantry_1 ++ dktX4_gantry_2
def dkwX4_gantry_0 : List UInt8 := [42, 3, 181, 0, 81, 42, 27, 182, 0, 221, 154, 0, 9, 42, 4, 182, 0, 87, 172, 28]
abbrev dktX4_gantry_0 : List UInt8 := dkwX4_gantry_0 ++ dktX4_gantry_1
theorem dksX4_gantry_0 : cX4_gantry.data.toList.drop 0 = dktX4_gantry_0 := by decide +kernel
theorem dksX4_gantry_1 : cX4_gantry.data.toList.drop 20 = dktX4_gantry_1 := dk_seg dksX4_gantry_0 20 rfl rfl
theorem dksX4_gantry_2 : cX4_gantry.data.toList.drop 52 = dktX4_gantry_2 := dk_seg dksX4_gantry_1 32 rfl rfl
theorem dksX4_gantry_3 : cX4_gantry.data.toList.drop 76 = dktX4_gantry_3 := dk_seg dksX4_gantry_2 24 rfl rfl
theorem dX4_gantry_0 : decode cX4_gantry 0 = .ok (.aload_n 0, 1) := dk_42 (dk_at dksX4_gantry_0 0 rfl rfl)
theorem dX4_gantry_1 : decode cX4_gantry 1 = .ok (.iconst 0, 1) := dk_3 (dk_at dksX4_gantry_0 1 rfl rfl)
theorem dX4_gantry_2 : decode cX4_gantry 2 = .ok (.putfield 81, 3) := dk_181 0 81 (dk_at dksX4_gantry_0 2 rfl rfl)
theorem dX4_gantry_5 : decode cX4_gantry 5 = .ok (.aload_n 0, 1) := dk_42 (dk_at dksX4_gantry_0 5 rfl rfl)
theorem dX4_gantry_6 : decode cX4_gantry 6 = .ok (.iload_n 1, 1) := dk_27 (dk_at dksX4_gantry_0 6 rfl rfl)
theorem dX4_gantry_7 : decode cX4_gantry 7 = .ok (.invokevirtual 221, 3) := dk_182 0 221 (dk_at dksX4_gantry_0 7 rfl rfl)
theorem dX4_gantry_10 : decode cX4_gantry 10 = .ok (.ifCond .ne 9, 3) := dk_154 0 9 (dk_at dksX4_gantry_0 10 rfl rfl)
theorem dX4_gantry_13 : decode cX4_gantry 13 = .ok (.aload_n 0, 1) := dk_42 (dk_at dksX4_gantry_0 13 rfl rfl)
theorem dX4_gantry_14 : decode cX4_gantry 14 = .ok (.iconst 1, 1) := dk_4 (dk_at dksX4_gantry_0 14 rfl rfl)
theorem dX4_gantry_15 : decode cX4_gantry 15 = .ok (.invokevirtual 87, 3) := dk_182 0 87 (dk_at dksX4_gantry_0 15 rfl rfl)
theorem dX4_gantry_18 : decode cX4_gantry 18 = .ok (.ireturn, 1) := dk_172 (dk_at dksX4_gantry_0 18 rfl rfl)
theorem dX4_gantry_19 : decode cX4_gantry 19 = .ok (.iload_n 2, 1) := dk_28 (dk_at dksX4_gantry_0 19 rfl rfl)
theorem dX4_gantry_20 : decode cX4_gantry 20 = .ok (.tableswitch 62 0 3 #[32, 42, 48, 55], 32) := by decide +kernel
theorem dX4_gantry_52 : decode cX4_gantry 52 = .ok (.aload_n 0, 1) := dk_42 (dk_at dksX4_gantry_2 0 rfl rfl)
theorem dX4_gantry_53 : decode cX4_gantry 53 = .ok (.getfield 7, 3) := dk_180 0 7 (dk_at dksX4_gantry_2 1 rfl rfl)
theorem dX4_gantry_56 : decode cX4_gantry 56 = .ok (.bipush 15, 2) := dk_16 15 (dk_at dksX4_gantry_2 4 rfl rfl)
theorem dX4_gantry_58 : decode cX4_gantry 58 = .ok (.iload_n 1, 1) := dk_27 (dk_at dksX4_gantry_2 6 rfl rfl)
theorem dX4_gantry_59 : decode cX4_gantry 59 = .ok (.iadd, 1) := dk_96 (dk_at dksX4_gantry_2 7 rfl rfl)
theorem dX4_gantry_60 : decode cX4_gantry 60 = .ok (.iaload, 1) := dk_46 (dk_at dksX4_gantry_2 8 rfl rfl)
theorem dX4_gantry_61 : decode cX4_gantry 61 = .ok (.ireturn, 1) := dk_172 (dk_at dksX4_gantry_2 9 rfl rfl)
theorem dX4_gantry_62 : decode cX4_gantry 62 = .ok (.aload_n 0, 1) := dk_42 (dk_at dksX4_gantry_2 10 rfl rfl)
theorem dX4_gantry_63 : decode cX4_gantry 63 = .ok (.iload_n 1, 1) := dk_27 (dk_at dksX4_gantry_2 11 rfl rfl)
theorem dX4_gantry_64 : decode cX4_gantry 64 = .ok (.invokevirtual 413, 3) := dk_182 1 157 (dk_at dksX4_gantry_2 12 rfl rfl)
theorem dX4_gantry_67 : decode cX4_gantry 67 = .ok (.ireturn, 1) := dk_172 (dk_at dksX4_gantry_2 15 rfl rfl)
theorem dX4_gantry_68 : decode cX4_gantry 68 = .ok (.aload_n 0, 1) := dk_42 (dk_at dksX4_gantry_2 16 rfl rfl)
theorem dX4_gantry_69 : decode cX4_gantry 69 = .ok (.iload_n 1, 1) := dk_27 (dk_at dksX4_gantry_2 17 rfl rfl)
theorem dX4_gantry_70 : decode cX4_gantry 70 = .ok (.iconst 0, 1) := dk_3 (dk_at dksX4_gantry_2 18 rfl rfl)
theorem dX4_gantry_71 : decode cX4_gantry 71 = .ok (.invokevirtual 416, 3) := dk_182 1 160 (dk_at dksX4_gantry_2 19 rfl rfl)
theorem dX4_gantry_74 : decode cX4_gantry 74 = .ok (.ireturn, 1) := dk_172 (dk_at dksX4_gantry_2 22 rfl rfl)
theorem dX4_gantry_75 : decode cX4_gantry 75 = .ok (.aload_n 0, 1) := dk_42 (dk_at dksX4_gantry_2 23 rfl rfl)
theorem dX4_gantry_76 : decode cX4_gantry 76 = .ok (.iload_n 1, 1) := dk_27 (dk_at dksX4_gantry_3 0 rfl rfl)
theorem dX4_gantry_77 : decode cX4_gantry 77 = .ok (.iconst 1, 1) := dk_4 (dk_at dksX4_gantry_3 1 rfl rfl)
theorem dX4_gantry_78 : decode cX4_gantry 78 = .ok (.invokevirtual 416, 3) := dk_182 1 160 (dk_at dksX4_gantry_3 2 rfl rfl)
theorem dX4_gantry_81 : decode cX4_gantry 81 = .ok (.ireturn, 1) := dk_172 (dk_at dksX4_gantry_3 5 rfl rfl)
theorem dX4_gantry_82 : decode cX4_gantry 82 = .ok (.aload_n 0, 1) := dk_42 (dk_at dksX4_gantry_3 6 rfl rfl)
theorem dX4_gantry_83 : decode cX4_gantry 83 = .ok (.iconst 2, 1) := dk_5 (dk_at dksX4_gantry_3 7 rfl rfl)
theorem dX4_gantry_84 : decode cX4_gantry 84 = .ok (.invokevirtual 87, 3) := dk_182 0 87 (dk_at dksX4_gantry_3 8 rfl rfl)
theorem dX4_gantry_87 : decode cX4_gantry 87 = .ok (.ireturn, 1) := dk_172 (dk_at dksX4_gantry_3 11 rfl rfl)
theorem c_399_0 : LkP (OkP 399) [(0, o_aload 0 1), (1, o_push 1 (.int 0)), (2, o_put 155 1), (5, o_aload 0 1), (6, o_iload 1 1), (7, o_cv [(30, 323)] 1 3 false none), (10, o_if (fun x => decide (¬ x = 0)) 19), (13, o_aload 0 1), (14, o_push 1 (.int 1)), (15, o_cv [(30, 291)] 1 3 false none), (18, o_ret 1), (19, o_iload 2 1), (20, o_sw (swt 0 [52, 62, 68, 75] 82)), (52, o_aload 0 1), (53, o_get 148), (56, o_push 2 (.int 15)), (58, o_iload 1 1), (59, o_iop (fun x y => x + y)), (60, o_rdI 0), (61, o_ret 1), (62, o_aload 0 1), (63, o_iload 1 1)] := lkp_c (P := OkP 399) ⟨(PuOK.ok (ok_aload_n dX4_gantry_0 rfl)), m_aload⟩ (
  lkp_c (P := OkP 399) ⟨(PuOK.ok (ok_iconst dX4_gantry_1 rfl)), m_push⟩ (
  lkp_c (P := OkP 399) ⟨ok_put ⟨"TollRoadModel", q3087, Or.inl rfl⟩ rfl fd_155 rfl dX4_gantry_2, m_put⟩ (
  lkp_c (P := OkP 399) ⟨(PuOK.ok (ok_aload_n dX4_gantry_5 rfl)), m_aload⟩ (
  lkp_c (P := OkP 399) ⟨(PuOK.ok (ok_iload_n dX4_gantry_6 rfl)), m_iload⟩ (
  lkp_c (P := OkP 399) ⟨ok_cv (List.forall_mem_cons.mpr ⟨tg_V (ci := 30) (r := CLr 30) (y := 323) rfl ⟨rfl, by decide⟩ rfl q3351 q3353 qs64 q139 q3354 ⟨cn_34.1, cn_34.2, pd_77⟩ dX4_gantry_7, (List.forall_mem_nil _)⟩) hd_no, m_cv⟩ (
  lkp_c (P := OkP 399) ⟨(PuOK.ok (ok_if_ne dX4_gantry_10 rfl)), m_if⟩ (
  lkp_c (P := OkP 399) ⟨(PuOK.ok (ok_aload_n dX4_gantry_13 rfl)), m_aload⟩ (
  lkp_c (P := OkP 399) ⟨(PuOK.ok (ok_iconst dX4_gantry_14 rfl)), m_push⟩ (
  lkp_c (P := OkP 399) ⟨ok_cv (List.forall_mem_cons.mpr ⟨tg_V (ci := 30) (r := CLr 30) (y := 291) rfl ⟨rfl, by decide⟩ rfl q3206 q3208 qs42 q139 q3209 ⟨cn_34.1, cn_34.2, pd_48⟩ dX4_gantry_15, (List.forall_mem_nil _)⟩) hd_no, m_cv⟩ (
  lkp_c (P := OkP 399) ⟨ok_iret rfl rfl (by decide) dX4_gantry_18, m_ret⟩ (
  lkp_c (P := OkP 399) ⟨(PuOK.ok (ok_iload_n dX4_gantry_19 rfl)), m_iload⟩ (
  lkp_c (P := OkP 399) ⟨(PuOK.ok (ok_tsw dX4_gantry_20 (by decide +kernel))), m_sw⟩ (
  lkp_c (P := OkP 399) ⟨(PuOK.ok (ok_aload_n dX4_gantry_52 rfl)), m_aload⟩ (
  lkp_c (P := OkP 399) ⟨ok_get ⟨"TollRoadModel", q3080, Or.inl rfl⟩ dX4_gantry_53, m_get⟩ (
  lkp_c (P := OkP 399) ⟨(PuOK.ok (ok_bipush dX4_gantry_56 rfl)), m_push⟩ (
  lkp_c (P := OkP 399) ⟨(PuOK.ok (ok_iload_n dX4_gantry_58 rfl)), m_iload⟩ (
  lkp_c (P := OkP 399) ⟨(PuOK.ok (ok_iadd dX4_gantry_59)), m_iop⟩ (
  lkp_c (P := OkP 399) ⟨ok_iald dX4_gantry_60, m_rdI⟩ (
  lkp_c (P := OkP 399) ⟨ok_iret rfl rfl (by decide) dX4_gantry_61, m_ret⟩ (
  lkp_c (P := OkP 399) ⟨(PuOK.ok (ok_aload_n dX4_gantry_62 rfl)), m_aload⟩ (
  lkp_c (P := OkP 399) ⟨(PuOK.ok (ok_iload_n dX4_gantry_63 rfl)), m_iload⟩ (
  trivial))))))))))))))))))))))
theorem c_399_1 : LkP (OkP 399) [(64, o_cv [(30, 400)] 1 3 false none), (67, o_ret 1), (68, o_aload 0 1), (69, o_iload 1 1), (70, o_push 1 (.int 0)), (71, o_cv [(30, 401)] 2 3 false none), (74, o_ret 1), (75, o_aload 0 1), (76, o_iload 1 1), (77, o_push 1 (.int 1)), (78, o_cv [(30, 401)] 2 3 false none), (81, o_ret 1), (82, o_aload 0 1), (83, o_push 1 (.int 2)), (84, o_cv [(30, 291)] 1 3 false none), (87, o_ret 1)] := lkp_c (P := OkP 399) ⟨ok_cv (List.forall_mem_cons.mpr ⟨tg_V (ci := 30) (r := CLr 30) (y := 400) rfl ⟨rfl, by decide⟩ rfl q3664 q3666 qs112 q139 q3667 ⟨cn_34.1, cn_34.2, pd_48⟩ dX4_gantry_64, (List.forall_mem_nil _)⟩) hd_no, m_cv⟩ (
  lkp_c (P := OkP 399) ⟨ok_iret rfl rfl (by decide) dX4_gantry_67, m_ret⟩ (
  lkp_c (P := OkP 399) ⟨(PuOK.ok (ok_aload_n dX4_gantry_68 rfl)), m_aload⟩ (
  lkp_c (P := OkP 399) ⟨(PuOK.ok (ok_iload_n dX4_gantry_69 rfl)), m_iload⟩ (
  lkp_c (P := OkP 399) ⟨(PuOK.ok (ok_iconst dX4_gantry_70 rfl)), m_push⟩ (
  lkp_c (P := OkP 399) ⟨ok_cv (List.forall_mem_cons.mpr ⟨tg_V (ci := 30) (r := CLr 30) (y := 401) rfl ⟨rfl, by decide⟩ rfl q3668 q3670 qs113 q139 q3671 ⟨cn_34.1, cn_34.2, pd_72⟩ dX4_gantry_71, (List.forall_mem_nil _)⟩) hd_no, m_cv⟩ (
  lkp_c (P := OkP 399) ⟨ok_iret rfl rfl (by decide) dX4_gantry_74, m_ret⟩ (
  lkp_c (P := OkP 399) ⟨(PuOK.ok (ok_aload_n dX4_gantry_75 rfl)), m_aload⟩ (
  lkp_c (P := OkP 399) ⟨(PuOK.ok (ok_iload_n dX4_gantry_76 rfl)), m_iload⟩ (
  lkp_c (P := OkP 399) ⟨(PuOK.ok (ok_iconst dX4_gantry_77 rfl)), m_push⟩ (
  lkp_c (P := OkP 399) ⟨ok_cv (List.forall_mem_cons.mpr ⟨tg_V (ci := 30) (r := CLr 30) (y := 401) rfl ⟨rfl, by decide⟩ rfl q3668 q3670 qs113 q139 q3671 ⟨cn_34.1, cn_34.2, pd_72⟩ dX4_gantry_78, (List.forall_mem_nil _)⟩) hd_no, m_cv⟩ (
  lkp_c (P := OkP 399) ⟨ok_iret rfl rfl (by decide) dX4_gantry_81, m_ret⟩ (
  lkp_c (P := OkP 399) ⟨(PuOK.ok (ok_aload_n dX4_gantry_82 rfl)), m_aload⟩ (
  lkp_c (P := OkP 399) ⟨(PuOK.ok (ok_iconst dX4_gantry_83 rfl)), m_push⟩ (
  lkp_c (P := OkP 399) ⟨ok_cv (List.forall_mem_cons.mpr ⟨tg_V (ci := 30) (r := CLr 30) (y := 291) rfl ⟨rfl, by decide⟩ rfl q3206 q3208 qs42 q139 q3209 ⟨cn_34.1, cn_34.2, pd_48⟩ dX4_gantry_84, (List.forall_mem_nil _)⟩) hd_no, m_cv⟩ (
  lkp_c (P := OkP 399) ⟨ok_iret rfl rfl (by decide) dX4_gantry_87, m_ret⟩ (
  trivial))))))))))))))))
theorem mt_399 : MtOK TB NT IT 399 := ⟨by decide +kernel, rfl, (fun h => by cases h), Or.inl ⟨rfl, rfl⟩, rfl, by decide, lk2_all (P := OkP 399) ⟨c_399_0, c_399_1, trivial⟩⟩
def dkwX4_readsAt_3 : List UInt8 := [167, 255, 192, 28, 172]
abbrev dktX4_readsAt_3 : List UInt8 := dkwX4_readsAt_3 ++ []
def dkwX4_readsAt_2 : List UInt8 := [153, 0, 17, 42, 29, 4, 182, 0, 234, 27, 160, 0, 7, 4, 167, 0, 4, 3, 96, 61, 132, 3, 1]
abbrev dktX4_readsAt_2 : List UInt8 := dkwX4_readsAt_2 ++ dktX4_readsAt_3
def dkwX4_readsAt_1 : List UInt8 := [159, 0, 13, 42, 29, 8, 182, 0, 234, 6, 160, 0, 7, 4, 167, 0, 4, 3, 54, 4, 28, 21, 4]
abbrev dktX4_readsAt_1 : List UInt8 := dkwX4_readsAt_1 ++ dktX4_readsAt_2
def dkwX4_readsAt_0 : List UInt8 := [3, 61, 3, 62, 29, 42, 180, 0, 7, 16, 12, 46, 162, 0, 59, 42, 29, 8, 182, 0, 234, 4]
abbrev dktX4_readsAt_0 : List UInt8 := dkwX4_readsAt_0 ++ dktX4_readsAt_1
theorem dksX4_readsAt_0 : cX4_readsAt.data.toList.drop 0 = dktX4_readsAt_0 := by decide +kernel
theorem dksX4_readsAt_1 : cX4_readsAt.data.toList.drop 22 = dktX4_readsAt_1 := dk_seg dksX4_readsAt_0 22 rfl rfl
theorem dksX4_readsAt_2 : cX4_readsAt.data.toList.drop 45 = dktX4_readsAt_2 := dk_seg dksX4_readsAt_1 23 rfl rfl
theorem dksX4_readsAt_3 : cX4_readsAt.data.toList.drop 68 = dktX4_readsAt_3 := dk_seg dksX4_readsAt_2 23 rfl rfl
theorem dX4_readsAt_0 : decode cX4_readsAt 0 = .ok (.iconst 0, 1) := dk_3 (dk_at dksX4_readsAt_0 0 rfl rfl)
theorem dX4_readsAt_1 : decode cX4_readsAt 1 = .ok (.istore_n 2, 1) := dk_61 (dk_at dksX4_readsAt_0 1 rfl rfl)
theorem dX4_readsAt_2 : decode cX4_readsAt 2 = .ok (.iconst 0, 1) := dk_3 (dk_at dksX4_readsAt_0 2 rfl rfl)
theorem dX4_readsAt_3 : decode cX4_readsAt 3 = .ok (.istore_n 3, 1) := dk_62 (dk_at dksX4_readsAt_0 3 rfl rfl)
theorem dX4_readsAt_4 : decode cX4_readsAt 4 = .ok (.iload_n 3, 1) := dk_29 (dk_at dksX4_readsAt_0 4 rfl rfl)
theorem dX4_readsAt_5 : decode cX4_readsAt 5 = .ok (.aload_n 0, 1) := dk_42 (dk_at dksX4_readsAt_0 5 rfl rfl)
theorem dX4_readsAt_6 : decode cX4_readsAt 6 = .ok (.getfield 7, 3) := dk_180 0 7 (dk_at dksX4_readsAt_0 6 rfl rfl)
theorem dX4_readsAt_9 : decode cX4_readsAt 9 = .ok (.bipush 12, 2) := dk_16 12 (dk_at dksX4_readsAt_0 9 rfl rfl)
theorem dX4_readsAt_11 : decode cX4_readsAt 11 = .ok (.iaload, 1) := dk_46 (dk_at dksX4_readsAt_0 11 rfl rfl)
theorem dX4_readsAt_12 : decode cX4_readsAt 12 = .ok (.if_icmp .ge 59, 3) := dk_162 0 59 (dk_at dksX4_readsAt_0 12 rfl rfl)
theorem dX4_readsAt_15 : decode cX4_readsAt 15 = .ok (.aload_n 0, 1) := dk_42 (dk_at dksX4_readsAt_0 15 rfl rfl)
theorem dX4_readsAt_16 : decode cX4_readsAt 16 = .ok (.iload_n 3, 1) := dk_29 (dk_at dksX4_readsAt_0 16 rfl rfl)
theorem dX4_readsAt_17 : decode cX4_readsAt 17 = .ok (.iconst 5, 1) := dk_8 (dk_at dksX4_readsAt_0 17 rfl rfl)
theorem dX4_readsAt_18 : decode cX4_readsAt 18 = .ok (.invokevirtual 234, 3) := dk_182 0 234 (dk_at dksX4_readsAt_0 18 rfl rfl)
theorem dX4_readsAt_21 : decode cX4_readsAt 21 = .ok (.iconst 1, 1) := dk_4 (dk_at dksX4_readsAt_0 21 rfl rfl)
theorem dX4_readsAt_22 : decode cX4_readsAt 22 = .ok (.if_icmp .eq 13, 3) := dk_159 0 13 (dk_at dksX4_readsAt_1 0 rfl rfl)
theorem dX4_readsAt_25 : decode cX4_readsAt 25 = .ok (.aload_n 0, 1) := dk_42 (dk_at dksX4_readsAt_1 3 rfl rfl)
theorem dX4_readsAt_26 : decode cX4_readsAt 26 = .ok (.iload_n 3, 1) := dk_29 (dk_at dksX4_readsAt_1 4 rfl rfl)
theorem dX4_readsAt_27 : decode cX4_readsAt 27 = .ok (.iconst 5, 1) := dk_8 (dk_at dksX4_readsAt_1 5 rfl rfl)
theorem dX4_readsAt_28 : decode cX4_readsAt 28 = .ok (.invokevirtual 234, 3) := dk_182 0 234 (dk_at dksX4_readsAt_1 6 rfl rfl)
theorem dX4_readsAt_31 : decode cX4_readsAt 31 = .ok (.iconst 3, 1) := dk_6 (dk_at dksX4_readsAt_1 9 rfl rfl)
theorem dX4_readsAt_32 : decode cX4_readsAt 32 = .ok (.if_icmp .ne 7, 3) := dk_160 0 7 (dk_at dksX4_readsAt_1 10 rfl rfl)
theorem dX4_readsAt_35 : decode cX4_readsAt 35 = .ok (.iconst 1, 1) := dk_4 (dk_at dksX4_readsAt_1 13 rfl rfl)
theorem dX4_readsAt_36 : decode cX4_readsAt 36 = .ok (.goto 4, 3) := dk_167 0 4 (dk_at dksX4_readsAt_1 14 rfl rfl)
theorem dX4_readsAt_39 : decode cX4_readsAt 39 = .ok (.iconst 0, 1) := dk_3 (dk_at dksX4_readsAt_1 17 rfl rfl)
theorem dX4_readsAt_40 : decode cX4_readsAt 40 = .ok (.istore 4, 2) := dk_54 4 (dk_at dksX4_readsAt_1 18 rfl rfl)
theorem dX4_readsAt_42 : decode cX4_readsAt 42 = .ok (.iload_n 2, 1) := dk_28 (dk_at dksX4_readsAt_1 20 rfl rfl)
theorem dX4_readsAt_43 : decode cX4_readsAt 43 = .ok (.iload 4, 2) := dk_21 4 (dk_at dksX4_readsAt_1 21 rfl rfl)
theorem dX4_readsAt_45 : decode cX4_readsAt 45 = .ok (.ifCond .eq 17, 3) := dk_153 0 17 (dk_at dksX4_readsAt_2 0 rfl rfl)
theorem dX4_readsAt_48 : decode cX4_readsAt 48 = .ok (.aload_n 0, 1) := dk_42 (dk_at dksX4_readsAt_2 3 rfl rfl)
theorem dX4_readsAt_49 : decode cX4_readsAt 49 = .ok (.iload_n 3, 1) := dk_29 (dk_at dksX4_readsAt_2 4 rfl rfl)
theorem dX4_readsAt_50 : decode cX4_readsAt 50 = .ok (.iconst 1, 1) := dk_4 (dk_at dksX4_readsAt_2 5 rfl rfl)
theorem dX4_readsAt_51 : decode cX4_readsAt 51 = .ok (.invokevirtual 234, 3) := dk_182 0 234 (dk_at dksX4_readsAt_2 6 rfl rfl)
theorem dX4_readsAt_54 : decode cX4_readsAt 54 = .ok (.iload_n 1, 1) := dk_27 (dk_at dksX4_readsAt_2 9 rfl rfl)
theorem dX4_readsAt_55 : decode cX4_readsAt 55 = .ok (.if_icmp .ne 7, 3) := dk_160 0 7 (dk_at dksX4_readsAt_2 10 rfl rfl)
theorem dX4_readsAt_58 : decode cX4_readsAt 58 = .ok (.iconst 1, 1) := dk_4 (dk_at dksX4_readsAt_2 13 rfl rfl)
theorem dX4_readsAt_59 : decode cX4_readsAt 59 = .ok (.goto 4, 3) := dk_167 0 4 (dk_at dksX4_readsAt_2 14 rfl rfl)
theorem dX4_readsAt_62 : decode cX4_readsAt 62 = .ok (.iconst 0, 1) := dk_3 (dk_at dksX4_readsAt_2 17 rfl rfl)
theorem dX4_readsAt_63 : decode cX4_readsAt 63 = .ok (.iadd, 1) := dk_96 (dk_at dksX4_readsAt_2 18 rfl rfl)
theorem dX4_readsAt_64 : decode cX4_readsAt 64 = .ok (.istore_n 2, 1) := dk_61 (dk_at dksX4_readsAt_2 19 rfl rfl)
theorem dX4_readsAt_65 : decode cX4_readsAt 65 = .ok (.iinc 3 1, 3) := dk_132 3 1 (dk_at dksX4_readsAt_2 20 rfl rfl)
theorem dX4_readsAt_68 : decode cX4_readsAt 68 = .ok (.goto (-64), 3) := dk_167 255 192 (dk_at dksX4_readsAt_3 0 rfl rfl)
theorem dX4_readsAt_71 : decode cX4_readsAt 71 = .ok (.iload_n 2, 1) := dk_28 (dk_at dksX4_readsAt_3 3 rfl rfl)
theorem dX4_readsAt_72 : decode cX4_readsAt 72 = .ok (.ireturn, 1) := dk_172 (dk_at dksX4_readsAt_3 4 rfl rfl)
theorem c_400_0 : LkP (OkP 400) [(0, o_push 1 (.int 0)), (1, o_istore 2 1), (2, o_push 1 (.int 0)), (3, o_istore 3 1), (4, o_iload 3 1), (5, o_aload 0 1), (6, o_get 148), (9, o_push 2 (.int 12)), (11, o_rdI 0), (12, o_icmp (fun x y => decide (y ≤ x)) 71), (15, o_aload 0 1), (16, o_iload 3 1), (17, o_push 1 (.int 5)), (18, o_cv [(30, 331)] 2 3 false none), (21, o_push 1 (.int 1)), (22, o_icmp (fun x y => decide (x = y)) 35), (25, o_aload 0 1), (26, o_iload 3 1), (27, o_push 1 (.int 5)), (28, o_cv [(30, 331)] 2 3 false none), (31, o_push 1 (.int 3)), (32, o_icmp (fun x y => decide (¬ x = y)) 39), (35, o_push 1 (.int 1)), (36, o_goto 40), (39, o_push 1 (.int 0)), (40, o_istore 4 2), (42, o_iload 2 1), (43, o_iload 4 2), (45, o_if (fun x => decide (x = 0)) 62), (48, o_aload 0 1), (49, o_iload 3 1), (50, o_push 1 (.int 1)), (51, o_cv [(30, 331)] 2 3 false none), (54, o_iload 1 1), (55, o_icmp (fun x y => decide (¬ x = y)) 62), (58, o_push 1 (.int 1)), (59, o_goto 63), (62, o_push 1 (.int 0)), (63, o_iop (fun x y => x + y))] := lkp_c (P := OkP 400) ⟨(PuOK.ok (ok_iconst dX4_readsAt_0 rfl)), m_push⟩ (
  lkp_c (P := OkP 400) ⟨(PuOK.ok (ok_istore_n dX4_readsAt_1 rfl)), m_istore⟩ (
  lkp_c (P := OkP 400) ⟨(PuOK.ok (ok_iconst dX4_readsAt_2 rfl)), m_push⟩ (
  lkp_c (P := OkP 400) ⟨(PuOK.ok (ok_istore_n dX4_readsAt_3 rfl)), m_istore⟩ (
  lkp_c (P := OkP 400) ⟨(PuOK.ok (ok_iload_n dX4_readsAt_4 rfl)), m_iload⟩ (
  lkp_c (P := OkP 400) ⟨(PuOK.ok (ok_aload_n dX4_readsAt_5 rfl)), m_aload⟩ (
  lkp_c (P := OkP 400) ⟨ok_get ⟨"TollRoadModel", q3080, Or.inl rfl⟩ dX4_readsAt_6, m_get⟩ (
  lkp_c (P := OkP 400) ⟨(PuOK.ok (ok_bipush dX4_readsAt_9 rfl)), m_push⟩ (
  lkp_c (P := OkP 400) ⟨ok_iald dX4_readsAt_11, m_rdI⟩ (
  lkp_c (P := OkP 400) ⟨(PuOK.ok (ok_icmp_ge dX4_readsAt_12 rfl)), m_icmp⟩ (
  lkp_c (P := OkP 400) ⟨(PuOK.ok (ok_aload_n dX4_readsAt_15 rfl)), m_aload⟩ (
  lkp_c (P := OkP 400) ⟨(PuOK.ok (ok_iload_n dX4_readsAt_16 rfl)), m_iload⟩ (
  lkp_c (P := OkP 400) ⟨(PuOK.ok (ok_iconst dX4_readsAt_17 rfl)), m_push⟩ (
  lkp_c (P := OkP 400) ⟨ok_cv (List.forall_mem_cons.mpr ⟨tg_V (ci := 30) (r := CLr 30) (y := 331) rfl ⟨rfl, by decide⟩ rfl q3383 q3385 qs68 q139 q3386 ⟨cn_34.1, cn_34.2, pd_1⟩ dX4_readsAt_18, (List.forall_mem_nil _)⟩) hd_no, m_cv⟩ (
  lkp_c (P := OkP 400) ⟨(PuOK.ok (ok_iconst dX4_readsAt_21 rfl)), m_push⟩ (
  lkp_c (P := OkP 400) ⟨(PuOK.ok (ok_icmp_eq dX4_readsAt_22 rfl)), m_icmp⟩ (
  lkp_c (P := OkP 400) ⟨(PuOK.ok (ok_aload_n dX4_readsAt_25 rfl)), m_aload⟩ (
  lkp_c (P := OkP 400) ⟨(PuOK.ok (ok_iload_n dX4_readsAt_26 rfl)), m_iload⟩ (
  lkp_c (P := OkP 400) ⟨(PuOK.ok (ok_iconst dX4_readsAt_27 rfl)), m_push⟩ (
  lkp_c (P := OkP 400) ⟨ok_cv (List.forall_mem_cons.mpr ⟨tg_V (ci := 30) (r := CLr 30) (y := 331) rfl ⟨rfl, by decide⟩ rfl q3383 q3385 qs68 q139 q3386 ⟨cn_34.1, cn_34.2, pd_1⟩ dX4_readsAt_28, (List.forall_mem_nil _)⟩) hd_no, m_cv⟩ (
  lkp_c (P := OkP 400) ⟨(PuOK.ok (ok_iconst dX4_readsAt_31 rfl)), m_push⟩ (
  lkp_c (P := OkP 400) ⟨(PuOK.ok (ok_icmp_ne dX4_readsAt_32 rfl)), m_icmp⟩ (
  lkp_c (P := OkP 400) ⟨(PuOK.ok (ok_iconst dX4_readsAt_35 rfl)), m_push⟩ (
  lkp_c (P := OkP 400) ⟨(PuOK.ok (ok_goto dX4_readsAt_36 rfl)), m_goto⟩ (
  lkp_c (P := OkP 400) ⟨(PuOK.ok (ok_iconst dX4_readsAt_39 rfl)), m_push⟩ (
  lkp_c (P := OkP 400) ⟨(PuOK.ok (ok_istore dX4_readsAt_40)), m_istore⟩ (
  lkp_c (P := OkP 400) ⟨(PuOK.ok (ok_iload_n dX4_readsAt_42 rfl)), m_iload⟩ (
  lkp_c (P := OkP 400) ⟨(PuOK.ok (ok_iload dX4_readsAt_43)), m_iload⟩ (
  lkp_c (P := OkP 400) ⟨(PuOK.ok (ok_if_eq dX4_readsAt_45 rfl)), m_if⟩ (
  lkp_c (P := OkP 400) ⟨(PuOK.ok (ok_aload_n dX4_readsAt_48 rfl)), m_aload⟩ (
  lkp_c (P := OkP 400) ⟨(PuOK.ok (ok_iload_n dX4_readsAt_49 rfl)), m_iload⟩ (
  lkp_c (P := OkP 400) ⟨(PuOK.ok (ok_iconst dX4_readsAt_50 rfl)), m_push⟩ (
  lkp_c (P := OkP 400) ⟨ok_cv (List.forall_mem_cons.mpr ⟨tg_V (ci := 30) (r := CLr 30) (y := 331) rfl ⟨rfl, by decide⟩ rfl q3383 q3385 qs68 q139 q3386 ⟨cn_34.1, cn_34.2, pd_1⟩ dX4_readsAt_51, (List.forall_mem_nil _)⟩) hd_no, m_cv⟩ (
  lkp_c (P := OkP 400) ⟨(PuOK.ok (ok_iload_n dX4_readsAt_54 rfl)), m_iload⟩ (
  lkp_c (P := OkP 400) ⟨(PuOK.ok (ok_icmp_ne dX4_readsAt_55 rfl)), m_icmp⟩ (
  lkp_c (P := OkP 400) ⟨(PuOK.ok (ok_iconst dX4_readsAt_58 rfl)), m_push⟩ (
  lkp_c (P := OkP 400) ⟨(PuOK.ok (ok_goto dX4_readsAt_59 rfl)), m_goto⟩ (
  lkp_c (P := OkP 400) ⟨(PuOK.ok (ok_iconst dX4_readsAt_62 rfl)), m_push⟩ (
  lkp_c (P := OkP 400) ⟨(PuOK.ok (ok_iadd dX4_readsAt_63)), m_iop⟩ (
  trivial)))))))))))))))))))))))))))))))))))))))
theorem c_400_1 : LkP (OkP 400) [(64, o_istore 2 1), (65, o_iinc 3 1), (68, o_goto 4), (71, o_iload 2 1), (72, o_ret 1)] := lkp_c (P := OkP 400) ⟨(PuOK.ok (ok_istore_n dX4_readsAt_64 rfl)), m_istore⟩ (
  lkp_c (P := OkP 400) ⟨(PuOK.ok (ok_iinc dX4_readsAt_65 rfl)), m_iinc⟩ (
  lkp_c (P := OkP 400) ⟨(PuOK.ok (ok_goto dX4_readsAt_68 rfl)), m_goto⟩ (
  lkp_c (P := OkP 400) ⟨(PuOK.ok (ok_iload_n dX4_readsAt_71 rfl)), m_iload⟩ (
  lkp_c (P := OkP 400) ⟨ok_iret rfl rfl (by decide) dX4_readsAt_72, m_ret⟩ (
  trivial)))))
theorem mt_400 : MtOK TB NT IT 400 := ⟨by decide +kernel, rfl, (fun h => by cases h), Or.inl ⟨rfl, rfl⟩, rfl, by decide, lk2_all (P := OkP 400) ⟨c_400_0, c_400_1, trivial⟩⟩
def dkwX4_placesAt_2 : List UInt8 := [154, 0, 7, 4, 167, 0, 4, 3, 96, 62, 132, 4, 1, 167, 255, 201, 29, 172]
abbrev dktX4_placesAt_2 : List UInt8 := dkwX4_placesAt_2 ++ []
def dkwX4_placesAt_1 : List UInt8 := [21, 4, 96, 46, 54, 5, 29, 21, 5, 27, 16, 16, 96, 159, 0, 13, 21, 5, 27, 160, 0, 11, 28]
abbrev dktX4_placesAt_1 : List UInt8 := dkwX4_placesAt_1 ++ dktX4_placesAt_2
def dkwX4_placesAt_0 : List UInt8 := [3, 62, 3, 54, 4, 21, 4, 42, 180, 0, 7, 16, 14, 46, 162, 0, 49, 42, 180, 0, 7, 17, 8, 152]
abbrev dktX4_placesAt_0 : List UInt8 := dkwX4_placesAt_0 ++ dktX4_placesAt_1
theorem dksX4_placesAt_0 : cX4_placesAt.data.toList.drop 0 = dktX4_placesAt_0 := by decide +kernel
theorem dksX4_placesAt_1 : cX4_placesAt.data.toList.drop 24 = dktX4_placesAt_1 := dk_seg dksX4_placesAt_0 24 rfl rfl
theorem dksX4_placesAt_2 : cX4_placesAt.data.toList.drop 47 = dktX4_placesAt_2 := dk_seg dksX4_placesAt_1 23 rfl rfl
theorem dX4_placesAt_0 : decode cX4_placesAt 0 = .ok (.iconst 0, 1) := dk_3 (dk_at dksX4_placesAt_0 0 rfl rfl)
theorem dX4_placesAt_1 : decode cX4_placesAt 1 = .ok (.istore_n 3, 1) := dk_62 (dk_at dksX4_placesAt_0 1 rfl rfl)
theorem dX4_placesAt_2 : decode cX4_placesAt 2 = .ok (.iconst 0, 1) := dk_3 (dk_at dksX4_placesAt_0 2 rfl rfl)
theorem dX4_placesAt_3 : decode cX4_placesAt 3 = .ok (.istore 4, 2) := dk_54 4 (dk_at dksX4_placesAt_0 3 rfl rfl)
theorem dX4_placesAt_5 : decode cX4_placesAt 5 = .ok (.iload 4, 2) := dk_21 4 (dk_at dksX4_placesAt_0 5 rfl rfl)
theorem dX4_placesAt_7 : decode cX4_placesAt 7 = .ok (.aload_n 0, 1) := dk_42 (dk_at dksX4_placesAt_0 7 rfl rfl)
theorem dX4_placesAt_8 : decode cX4_placesAt 8 = .ok (.getfield 7, 3) := dk_180 0 7 (dk_at dksX4_placesAt_0 8 rfl rfl)
theorem dX4_placesAt_11 : decode cX4_placesAt 11 = .ok (.bipush 14, 2) := dk_16 14 (dk_at dksX4_placesAt_0 11 rfl rfl)
theorem dX4_placesAt_13 : decode cX4_placesAt 13 = .ok (.iaload, 1) := dk_46 (dk_at dksX4_placesAt_0 13 rfl rfl)
theorem dX4_placesAt_14 : decode cX4_placesAt 14 = .ok (.if_icmp .ge 49, 3) := dk_162 0 49 (dk_at dksX4_placesAt_0 14 rfl rfl)
theorem dX4_placesAt_17 : decode cX4_placesAt 17 = .ok (.aload_n 0, 1) := dk_42 (dk_at dksX4_placesAt_0 17 rfl rfl)
theorem dX4_placesAt_18 : decode cX4_placesAt 18 = .ok (.getfield 7, 3) := dk_180 0 7 (dk_at dksX4_placesAt_0 18 rfl rfl)
theorem dX4_placesAt_21 : decode cX4_placesAt 21 = .ok (.sipush 2200, 3) := dk_17 8 152 (dk_at dksX4_placesAt_0 21 rfl rfl)
theorem dX4_placesAt_24 : decode cX4_placesAt 24 = .ok (.iload 4, 2) := dk_21 4 (dk_at dksX4_placesAt_1 0 rfl rfl)
theorem dX4_placesAt_26 : decode cX4_placesAt 26 = .ok (.iadd, 1) := dk_96 (dk_at dksX4_placesAt_1 2 rfl rfl)
theorem dX4_placesAt_27 : decode cX4_placesAt 27 = .ok (.iaload, 1) := dk_46 (dk_at dksX4_placesAt_1 3 rfl rfl)
theorem dX4_placesAt_28 : decode cX4_placesAt 28 = .ok (.istore 5, 2) := dk_54 5 (dk_at dksX4_placesAt_1 4 rfl rfl)
theorem dX4_placesAt_30 : decode cX4_placesAt 30 = .ok (.iload_n 3, 1) := dk_29 (dk_at dksX4_placesAt_1 6 rfl rfl)
theorem dX4_placesAt_31 : decode cX4_placesAt 31 = .ok (.iload 5, 2) := dk_21 5 (dk_at dksX4_placesAt_1 7 rfl rfl)
theorem dX4_placesAt_33 : decode cX4_placesAt 33 = .ok (.iload_n 1, 1) := dk_27 (dk_at dksX4_placesAt_1 9 rfl rfl)
theorem dX4_placesAt_34 : decode cX4_placesAt 34 = .ok (.bipush 16, 2) := dk_16 16 (dk_at dksX4_placesAt_1 10 rfl rfl)
theorem dX4_placesAt_36 : decode cX4_placesAt 36 = .ok (.iadd, 1) := dk_96 (dk_at dksX4_placesAt_1 12 rfl rfl)
theorem dX4_placesAt_37 : decode cX4_placesAt 37 = .ok (.if_icmp .eq 13, 3) := dk_159 0 13 (dk_at dksX4_placesAt_1 13 rfl rfl)
theorem dX4_placesAt_40 : decode cX4_placesAt 40 = .ok (.iload 5, 2) := dk_21 5 (dk_at dksX4_placesAt_1 16 rfl rfl)
theorem dX4_placesAt_42 : decode cX4_placesAt 42 = .ok (.iload_n 1, 1) := dk_27 (dk_at dksX4_placesAt_1 18 rfl rfl)
theorem dX4_placesAt_43 : decode cX4_placesAt 43 = .ok (.if_icmp .ne 11, 3) := dk_160 0 11 (dk_at dksX4_placesAt_1 19 rfl rfl)
theorem dX4_placesAt_46 : decode cX4_placesAt 46 = .ok (.iload_n 2, 1) := dk_28 (dk_at dksX4_placesAt_1 22 rfl rfl)
theorem dX4_placesAt_47 : decode cX4_placesAt 47 = .ok (.ifCond .ne 7, 3) := dk_154 0 7 (dk_at dksX4_placesAt_2 0 rfl rfl)
theorem dX4_placesAt_50 : decode cX4_placesAt 50 = .ok (.iconst 1, 1) := dk_4 (dk_at dksX4_placesAt_2 3 rfl rfl)
theorem dX4_placesAt_51 : decode cX4_placesAt 51 = .ok (.goto 4, 3) := dk_167 0 4 (dk_at dksX4_placesAt_2 4 rfl rfl)
theorem dX4_placesAt_54 : decode cX4_placesAt 54 = .ok (.iconst 0, 1) := dk_3 (dk_at dksX4_placesAt_2 7 rfl rfl)
theorem dX4_placesAt_55 : decode cX4_placesAt 55 = .ok (.iadd, 1) := dk_96 (dk_at dksX4_placesAt_2 8 rfl rfl)
theorem dX4_placesAt_56 : decode cX4_placesAt 56 = .ok (.istore_n 3, 1) := dk_62 (dk_at dksX4_placesAt_2 9 rfl rfl)
theorem dX4_placesAt_57 : decode cX4_placesAt 57 = .ok (.iinc 4 1, 3) := dk_132 4 1 (dk_at dksX4_placesAt_2 10 rfl rfl)
theorem dX4_placesAt_60 : decode cX4_placesAt 60 = .ok (.goto (-55), 3) := dk_167 255 201 (dk_at dksX4_placesAt_2 13 rfl rfl)
theorem dX4_placesAt_63 : decode cX4_placesAt 63 = .ok (.iload_n 3, 1) := dk_29 (dk_at dksX4_placesAt_2 16 rfl rfl)
theorem dX4_placesAt_64 : decode cX4_placesAt 64 = .ok (.ireturn, 1) := dk_172 (dk_at dksX4_placesAt_2 17 rfl rfl)
theorem c_401_0 : LkP (OkP 401) [(0, o_push 1 (.int 0)), (1, o_istore 3 1), (2, o_push 1 (.int 0)), (3, o_istore 4 2), (5, o_iload 4 2), (7, o_aload 0 1), (8, o_get 148), (11, o_push 2 (.int 14)), (13, o_rdI 0), (14, o_icmp (fun x y => decide (y ≤ x)) 63), (17, o_aload 0 1), (18, o_get 148), (21, o_push 3 (.int 2200)), (24, o_iload 4 2), (26, o_iop (fun x y => x + y)), (27, o_rdI 0), (28, o_istore 5 2), (30, o_iload 3 1), (31, o_iload 5 2), (33, o_iload 1 1), (34, o_push 2 (.int 16)), (36, o_iop (fun x y => x + y)), (37, o_icmp (fun x y => decide (x = y)) 50), (40, o_iload 5 2), (42, o_iload 1 1), (43, o_icmp (fun x y => decide (¬ x = y)) 54), (46, o_iload 2 1), (47, o_if (fun x => decide (¬ x = 0)) 54), (50, o_push 1 (.int 1)), (51, o_goto 55), (54, o_push 1 (.int 0)), (55, o_iop (fun x y => x + y)), (56, o_istore 3 1), (57, o_iinc 4 1), (60, o_goto 5), (63, o_iload 3 1)] := lkp_c (P := OkP 401) ⟨(PuOK.ok (ok_iconst dX4_placesAt_0 rfl)), m_push⟩ (
  lkp_c (P := OkP 401) ⟨(PuOK.ok (ok_istore_n dX4_placesAt_1 rfl)), m_istore⟩ (
  lkp_c (P := OkP 401) ⟨(PuOK.ok (ok_iconst dX4_placesAt_2 rfl)), m_push⟩ (
  lkp_c (P := OkP 401) ⟨(PuOK.ok (ok_istore dX4_placesAt_3)), m_istore⟩ (
  lkp_c (P := OkP 401) ⟨(PuOK.ok (ok_iload dX4_placesAt_5)), m_iload⟩ (
  lkp_c (P := OkP 401) ⟨(PuOK.ok (ok_aload_n dX4_placesAt_7 rfl)), m_aload⟩ (
  lkp_c (P := OkP 401) ⟨ok_get ⟨"TollRoadModel", q3080, Or.inl rfl⟩ dX4_placesAt_8, m_get⟩ (
  lkp_c (P := OkP 401) ⟨(PuOK.ok (ok_bipush dX4_placesAt_11 rfl)), m_push⟩ (
  lkp_c (P := OkP 401) ⟨ok_iald dX4_placesAt_13, m_rdI⟩ (
  lkp_c (P := OkP 401) ⟨(PuOK.ok (ok_icmp_ge dX4_placesAt_14 rfl)), m_icmp⟩ (
  lkp_c (P := OkP 401) ⟨(PuOK.ok (ok_aload_n dX4_placesAt_17 rfl)), m_aload⟩ (
  lkp_c (P := OkP 401) ⟨ok_get ⟨"TollRoadModel", q3080, Or.inl rfl⟩ dX4_placesAt_18, m_get⟩ (
  lkp_c (P := OkP 401) ⟨(PuOK.ok (ok_sipush dX4_placesAt_21 rfl)), m_push⟩ (
  lkp_c (P := OkP 401) ⟨(PuOK.ok (ok_iload dX4_placesAt_24)), m_iload⟩ (
  lkp_c (P := OkP 401) ⟨(PuOK.ok (ok_iadd dX4_placesAt_26)), m_iop⟩ (
  lkp_c (P := OkP 401) ⟨ok_iald dX4_placesAt_27, m_rdI⟩ (
  lkp_c (P := OkP 401) ⟨(PuOK.ok (ok_istore dX4_placesAt_28)), m_istore⟩ (
  lkp_c (P := OkP 401) ⟨(PuOK.ok (ok_iload_n dX4_placesAt_30 rfl)), m_iload⟩ (
  lkp_c (P := OkP 401) ⟨(PuOK.ok (ok_iload dX4_placesAt_31)), m_iload⟩ (
  lkp_c (P := OkP 401) ⟨(PuOK.ok (ok_iload_n dX4_placesAt_33 rfl)), m_iload⟩ (
  lkp_c (P := OkP 401) ⟨(PuOK.ok (ok_bipush dX4_placesAt_34 rfl)), m_push⟩ (
  lkp_c (P := OkP 401) ⟨(PuOK.ok (ok_iadd dX4_placesAt_36)), m_iop⟩ (
  lkp_c (P := OkP 401) ⟨(PuOK.ok (ok_icmp_eq dX4_placesAt_37 rfl)), m_icmp⟩ (
  lkp_c (P := OkP 401) ⟨(PuOK.ok (ok_iload dX4_placesAt_40)), m_iload⟩ (
  lkp_c (P := OkP 401) ⟨(PuOK.ok (ok_iload_n dX4_placesAt_42 rfl)), m_iload⟩ (
  lkp_c (P := OkP 401) ⟨(PuOK.ok (ok_icmp_ne dX4_placesAt_43 rfl)), m_icmp⟩ (
  lkp_c (P := OkP 401) ⟨(PuOK.ok (ok_iload_n dX4_placesAt_46 rfl)), m_iload⟩ (
  lkp_c (P := OkP 401) ⟨(PuOK.ok (ok_if_ne dX4_placesAt_47 rfl)), m_if⟩ (
  lkp_c (P := OkP 401) ⟨(PuOK.ok (ok_iconst dX4_placesAt_50 rfl)), m_push⟩ (
  lkp_c (P := OkP 401) ⟨(PuOK.ok (ok_goto dX4_placesAt_51 rfl)), m_goto⟩ (
  lkp_c (P := OkP 401) ⟨(PuOK.ok (ok_iconst dX4_placesAt_54 rfl)), m_push⟩ (
  lkp_c (P := OkP 401) ⟨(PuOK.ok (ok_iadd dX4_placesAt_55)), m_iop⟩ (
  lkp_c (P := OkP 401) ⟨(PuOK.ok (ok_istore_n dX4_placesAt_56 rfl)), m_istore⟩ (
  lkp_c (P := OkP 401) ⟨(PuOK.ok (ok_iinc dX4_placesAt_57 rfl)), m_iinc⟩ (
  lkp_c (P := OkP 401) ⟨(PuOK.ok (ok_goto dX4_placesAt_60 rfl)), m_goto⟩ (
  lkp_c (P := OkP 401) ⟨(PuOK.ok (ok_iload_n dX4_placesAt_63 rfl)), m_iload⟩ (
  trivial))))))))))))))))))))))))))))))))))))
theorem c_401_1 : LkP (OkP 401) [(64, o_ret 1)] := lkp_c (P := OkP 401) ⟨ok_iret rfl rfl (by decide) dX4_placesAt_64, m_ret⟩ (
  trivial)
theorem mt_401 : MtOK TB NT IT 401 := ⟨by decide +kernel, rfl, (fun h => by cases h), Or.inl ⟨rfl, rfl⟩, rfl, by decide, lk2_all (P := OkP 401) ⟨c_401_0, c_401_1, trivial⟩⟩
def dkwX4_missRate_2 : List UInt8 := [182, 1, 160, 134, 28, 134, 110, 174]
abbrev dktX4_missRate_2 : List UInt8 := dkwX4_missRate_2 ++ []
def dkwX4_missRate_1 : List UInt8 := [11, 174, 42, 27, 3, 182, 1, 160, 61, 28, 154, 0, 9, 19, 1, 163, 167, 0, 13, 42, 27, 4]
abbrev dktX4_missRate_1 : List UInt8 := dkwX4_missRate_1 ++ dktX4_missRate_2
def dkwX4_missRate_0 : List UInt8 := [42, 42, 27, 182, 0, 221, 153, 0, 7, 3, 167, 0, 4, 4, 181, 0, 81, 42, 180, 0, 81, 153, 0, 5]
abbrev dktX4_missRate_0 : List UInt8 := dkwX4_missRate_0 ++ dktX4_missRate_1
theorem dksX4_missRate_0 : cX4_missRate.data.toList.drop 0 = dktX4_missRate_0 := by decide +kernel
theorem dksX4_missRate_1 : cX4_missRate.data.toList.drop 24 = dktX4_missRate_1 := dk_seg dksX4_missRate_0 24 rfl rfl
theorem dksX4_missRate_2 : cX4_missRate.data.toList.drop 46 = dktX4_missRate_2 := dk_seg dksX4_missRate_1 22 rfl rfl
theorem dX4_missRate_0 : decode cX4_missRate 0 = .ok (.aload_n 0, 1) := dk_42 (dk_at dksX4_missRate_0 0 rfl rfl)
theorem dX4_missRate_1 : decode cX4_missRate 1 = .ok (.aload_n 0, 1) := dk_42 (dk_at dksX4_missRate_0 1 rfl rfl)
theorem dX4_missRate_2 : decode cX4_missRate 2 = .ok (.iload_n 1, 1) := dk_27 (dk_at dksX4_missRate_0 2 rfl rfl)
theorem dX4_missRate_3 : decode cX4_missRate 3 = .ok (.invokevirtual 221, 3) := dk_182 0 221 (dk_at dksX4_missRate_0 3 rfl rfl)
theorem dX4_missRate_6 : decode cX4_missRate 6 = .ok (.ifCond .eq 7, 3) := dk_153 0 7 (dk_at dksX4_missRate_0 6 rfl rfl)
theorem dX4_missRate_9 : decode cX4_missRate 9 = .ok (.iconst 0, 1) := dk_3 (dk_at dksX4_missRate_0 9 rfl rfl)
theorem dX4_missRate_10 : decode cX4_missRate 10 = .ok (.goto 4, 3) := dk_167 0 4 (dk_at dksX4_missRate_0 10 rfl rfl)
theorem dX4_missRate_13 : decode cX4_missRate 13 = .ok (.iconst 1, 1) := dk_4 (dk_at dksX4_missRate_0 13 rfl rfl)
theorem dX4_missRate_14 : decode cX4_missRate 14 = .ok (.putfield 81, 3) := dk_181 0 81 (dk_at dksX4_missRate_0 14 rfl rfl)
theorem dX4_missRate_17 : decode cX4_missRate 17 = .ok (.aload_n 0, 1) := dk_42 (dk_at dksX4_missRate_0 17 rfl rfl)
theorem dX4_missRate_18 : decode cX4_missRate 18 = .ok (.getfield 81, 3) := dk_180 0 81 (dk_at dksX4_missRate_0 18 rfl rfl)
theorem dX4_missRate_21 : decode cX4_missRate 21 = .ok (.ifCond .eq 5, 3) := dk_153 0 5 (dk_at dksX4_missRate_0 21 rfl rfl)
theorem dX4_missRate_24 : decode cX4_missRate 24 = .ok (.fconst 0, 1) := dk_11 (dk_at dksX4_missRate_1 0 rfl rfl)
theorem dX4_missRate_25 : decode cX4_missRate 25 = .ok (.freturn, 1) := dk_174 (dk_at dksX4_missRate_1 1 rfl rfl)
theorem dX4_missRate_26 : decode cX4_missRate 26 = .ok (.aload_n 0, 1) := dk_42 (dk_at dksX4_missRate_1 2 rfl rfl)
theorem dX4_missRate_27 : decode cX4_missRate 27 = .ok (.iload_n 1, 1) := dk_27 (dk_at dksX4_missRate_1 3 rfl rfl)
theorem dX4_missRate_28 : decode cX4_missRate 28 = .ok (.iconst 0, 1) := dk_3 (dk_at dksX4_missRate_1 4 rfl rfl)
theorem dX4_missRate_29 : decode cX4_missRate 29 = .ok (.invokevirtual 416, 3) := dk_182 1 160 (dk_at dksX4_missRate_1 5 rfl rfl)
theorem dX4_missRate_32 : decode cX4_missRate 32 = .ok (.istore_n 2, 1) := dk_61 (dk_at dksX4_missRate_1 8 rfl rfl)
theorem dX4_missRate_33 : decode cX4_missRate 33 = .ok (.iload_n 2, 1) := dk_28 (dk_at dksX4_missRate_1 9 rfl rfl)
theorem dX4_missRate_34 : decode cX4_missRate 34 = .ok (.ifCond .ne 9, 3) := dk_154 0 9 (dk_at dksX4_missRate_1 10 rfl rfl)
theorem dX4_missRate_37 : decode cX4_missRate 37 = .ok (.ldc_w 419, 3) := dk_19 1 163 (dk_at dksX4_missRate_1 13 rfl rfl)
theorem dX4_missRate_40 : decode cX4_missRate 40 = .ok (.goto 13, 3) := dk_167 0 13 (dk_at dksX4_missRate_1 16 rfl rfl)
theorem dX4_missRate_43 : decode cX4_missRate 43 = .ok (.aload_n 0, 1) := dk_42 (dk_at dksX4_missRate_1 19 rfl rfl)
theorem dX4_missRate_44 : decode cX4_missRate 44 = .ok (.iload_n 1, 1) := dk_27 (dk_at dksX4_missRate_1 20 rfl rfl)
theorem dX4_missRate_45 : decode cX4_missRate 45 = .ok (.iconst 1, 1) := dk_4 (dk_at dksX4_missRate_1 21 rfl rfl)
theorem dX4_missRate_46 : decode cX4_missRate 46 = .ok (.invokevirtual 416, 3) := dk_182 1 160 (dk_at dksX4_missRate_2 0 rfl rfl)
theorem dX4_missRate_49 : decode cX4_missRate 49 = .ok (.i2f, 1) := dk_134 (dk_at dksX4_missRate_2 3 rfl rfl)
theorem dX4_missRate_50 : decode cX4_missRate 50 = .ok (.iload_n 2, 1) := dk_28 (dk_at dksX4_missRate_2 4 rfl rfl)
theorem dX4_missRate_51 : decode cX4_missRate 51 = .ok (.i2f, 1) := dk_134 (dk_at dksX4_missRate_2 5 rfl rfl)
theorem dX4_missRate_52 : decode cX4_missRate 52 = .ok (.fdiv, 1) := dk_110 (dk_at dksX4_missRate_2 6 rfl rfl)
theorem dX4_missRate_53 : decode cX4_missRate 53 = .ok (.freturn, 1) := dk_174 (dk_at dksX4_missRate_2 7 rfl rfl)
theorem c_402_0 : LkP (OkP 402) [(0, o_aload 0 1), (1, o_aload 0 1), (2, o_iload 1 1), (3, o_cv [(30, 323)] 1 3 false none), (6, o_if (fun x => decide (x = 0)) 13), (9, o_push 1 (.int 0)), (10, o_goto 14), (13, o_push 1 (.int 1)), (14, o_put 155 1), (17, o_aload 0 1), (18, o_get 155), (21, o_if (fun x => decide (x = 0)) 26), (24, o_push 1 (.float FP.fconst0)), (25, o_ret 3), (26, o_aload 0 1), (27, o_iload 1 1), (28, o_push 1 (.int 0)), (29, o_cv [(30, 401)] 2 3 false none), (32, o_istore 2 1), (33, o_iload 2 1), (34, o_if (fun x => decide (¬ x = 0)) 43), (37, o_push 3 (.float 3212836864)), (40, o_goto 53), (43, o_aload 0 1), (44, o_iload 1 1), (45, o_push 1 (.int 1)), (46, o_cv [(30, 401)] 2 3 false none), (49, o_i2f), (50, o_iload 2 1), (51, o_i2f), (52, o_fdiv), (53, o_ret 3)] := lkp_c (P := OkP 402) ⟨(PuOK.ok (ok_aload_n dX4_missRate_0 rfl)), m_aload⟩ (
  lkp_c (P := OkP 402) ⟨(PuOK.ok (ok_aload_n dX4_missRate_1 rfl)), m_aload⟩ (
  lkp_c (P := OkP 402) ⟨(PuOK.ok (ok_iload_n dX4_missRate_2 rfl)), m_iload⟩ (
  lkp_c (P := OkP 402) ⟨ok_cv (List.forall_mem_cons.mpr ⟨tg_V (ci := 30) (r := CLr 30) (y := 323) rfl ⟨rfl, by decide⟩ rfl q3351 q3353 qs64 q139 q3354 ⟨cn_34.1, cn_34.2, pd_77⟩ dX4_missRate_3, (List.forall_mem_nil _)⟩) hd_no, m_cv⟩ (
  lkp_c (P := OkP 402) ⟨(PuOK.ok (ok_if_eq dX4_missRate_6 rfl)), m_if⟩ (
  lkp_c (P := OkP 402) ⟨(PuOK.ok (ok_iconst dX4_missRate_9 rfl)), m_push⟩ (
  lkp_c (P := OkP 402) ⟨(PuOK.ok (ok_goto dX4_missRate_10 rfl)), m_goto⟩ (
  lkp_c (P := OkP 402) ⟨(PuOK.ok (ok_iconst dX4_missRate_13 rfl)), m_push⟩ (
  lkp_c (P := OkP 402) ⟨ok_put ⟨"TollRoadModel", q3087, Or.inl rfl⟩ rfl fd_155 rfl dX4_missRate_14, m_put⟩ (
  lkp_c (P := OkP 402) ⟨(PuOK.ok (ok_aload_n dX4_missRate_17 rfl)), m_aload⟩ (
  lkp_c (P := OkP 402) ⟨ok_get ⟨"TollRoadModel", q3087, Or.inl rfl⟩ dX4_missRate_18, m_get⟩ (
  lkp_c (P := OkP 402) ⟨(PuOK.ok (ok_if_eq dX4_missRate_21 rfl)), m_if⟩ (
  lkp_c (P := OkP 402) ⟨(PuOK.ok (ok_fconst0 dX4_missRate_24)), m_push⟩ (
  lkp_c (P := OkP 402) ⟨ok_fret rfl dX4_missRate_25, m_ret⟩ (
  lkp_c (P := OkP 402) ⟨(PuOK.ok (ok_aload_n dX4_missRate_26 rfl)), m_aload⟩ (
  lkp_c (P := OkP 402) ⟨(PuOK.ok (ok_iload_n dX4_missRate_27 rfl)), m_iload⟩ (
  lkp_c (P := OkP 402) ⟨(PuOK.ok (ok_iconst dX4_missRate_28 rfl)), m_push⟩ (
  lkp_c (P := OkP 402) ⟨ok_cv (List.forall_mem_cons.mpr ⟨tg_V (ci := 30) (r := CLr 30) (y := 401) rfl ⟨rfl, by decide⟩ rfl q3668 q3670 qs113 q139 q3671 ⟨cn_34.1, cn_34.2, pd_72⟩ dX4_missRate_29, (List.forall_mem_nil _)⟩) hd_no, m_cv⟩ (
  lkp_c (P := OkP 402) ⟨(PuOK.ok (ok_istore_n dX4_missRate_32 rfl)), m_istore⟩ (
  lkp_c (P := OkP 402) ⟨(PuOK.ok (ok_iload_n dX4_missRate_33 rfl)), m_iload⟩ (
  lkp_c (P := OkP 402) ⟨(PuOK.ok (ok_if_ne dX4_missRate_34 rfl)), m_if⟩ (
  lkp_c (P := OkP 402) ⟨ok_ldcfw q3676 dX4_missRate_37, m_push⟩ (
  lkp_c (P := OkP 402) ⟨(PuOK.ok (ok_goto dX4_missRate_40 rfl)), m_goto⟩ (
  lkp_c (P := OkP 402) ⟨(PuOK.ok (ok_aload_n dX4_missRate_43 rfl)), m_aload⟩ (
  lkp_c (P := OkP 402) ⟨(PuOK.ok (ok_iload_n dX4_missRate_44 rfl)), m_iload⟩ (
  lkp_c (P := OkP 402) ⟨(PuOK.ok (ok_iconst dX4_missRate_45 rfl)), m_push⟩ (
  lkp_c (P := OkP 402) ⟨ok_cv (List.forall_mem_cons.mpr ⟨tg_V (ci := 30) (r := CLr 30) (y := 401) rfl ⟨rfl, by decide⟩ rfl q3668 q3670 qs113 q139 q3671 ⟨cn_34.1, cn_34.2, pd_72⟩ dX4_missRate_46, (List.forall_mem_nil _)⟩) hd_no, m_cv⟩ (
  lkp_c (P := OkP 402) ⟨(PuOK.ok (ok_i2f dX4_missRate_49)), m_i2f⟩ (
  lkp_c (P := OkP 402) ⟨(PuOK.ok (ok_iload_n dX4_missRate_50 rfl)), m_iload⟩ (
  lkp_c (P := OkP 402) ⟨(PuOK.ok (ok_i2f dX4_missRate_51)), m_i2f⟩ (
  lkp_c (P := OkP 402) ⟨(PuOK.ok (ok_fdiv dX4_missRate_52)), m_fdiv⟩ (
  lkp_c (P := OkP 402) ⟨ok_fret rfl dX4_missRate_53, m_ret⟩ (
  trivial))))))))))))))))))))))))))))))))
theorem mt_402 : MtOK TB NT IT 402 := ⟨by decide +kernel, rfl, (fun h => by cases h), Or.inl ⟨rfl, rfl⟩, rfl, by decide, lk2_all (P := OkP 402) ⟨c_402_0, trivial⟩⟩
def dkwX4_worstGantry_2 : List UInt8 := [172]
abbrev dktX4_worstGantry_2 : List UInt8 := dkwX4_worstGantry_2 ++ []
def dkwX4_worstGantry_1 : List UInt8 := [4, 182, 1, 160, 54, 4, 21, 4, 28, 164, 0, 8, 29, 60, 21, 4, 61, 132, 3, 1, 167, 255, 223, 27]
abbrev dktX4_worstGantry_1 : List UInt8 := dkwX4_worstGantry_1 ++ dktX4_worstGantry_2
def dkwX4_worstGantry_0 : List UInt8 := [42, 3, 181, 0, 81, 2, 60, 3, 61, 3, 62, 29, 42, 180, 0, 7, 16, 8, 46, 162, 0, 28, 42, 29]
abbrev dktX4_worstGantry_0 : List UInt8 := dkwX4_worstGantry_0 ++ dktX4_worstGantry_1
theorem dksX4_worstGantry_0 : cX4_worstGantry.data.toList.drop 0 = dktX4_worstGantry_0 := by decide +kernel
theorem dksX4_worstGantry_1 : cX4_worstGantry.data.toList.drop 24 = dktX4_worstGantry_1 := dk_seg dksX4_worstGantry_0 24 rfl rfl
theorem dksX4_worstGantry_2 : cX4_worstGantry.data.toList.drop 48 = dktX4_worstGantry_2 := dk_seg dksX4_worstGantry_1 24 rfl rfl
theorem dX4_worstGantry_0 : decode cX4_worstGantry 0 = .ok (.aload_n 0, 1) := dk_42 (dk_at dksX4_worstGantry_0 0 rfl rfl)
theorem dX4_worstGantry_1 : decode cX4_worstGantry 1 = .ok (.iconst 0, 1) := dk_3 (dk_at dksX4_worstGantry_0 1 rfl rfl)
theorem dX4_worstGantry_2 : decode cX4_worstGantry 2 = .ok (.putfield 81, 3) := dk_181 0 81 (dk_at dksX4_worstGantry_0 2 rfl rfl)
theorem dX4_worstGantry_5 : decode cX4_worstGantry 5 = .ok (.iconst (-1), 1) := dk_2 (dk_at dksX4_worstGantry_0 5 rfl rfl)
theorem dX4_worstGantry_6 : decode cX4_worstGantry 6 = .ok (.istore_n 1, 1) := dk_60 (dk_at dksX4_worstGantry_0 6 rfl rfl)
theorem dX4_worstGantry_7 : decode cX4_worstGantry 7 = .ok (.iconst 0, 1) := dk_3 (dk_at dksX4_worstGantry_0 7 rfl rfl)
theorem dX4_worstGantry_8 : decode cX4_worstGantry 8 = .ok (.istore_n 2, 1) := dk_61 (dk_at dksX4_worstGantry_0 8 rfl rfl)
theorem dX4_worstGantry_9 : decode cX4_worstGantry 9 = .ok (.iconst 0, 1) := dk_3 (dk_at dksX4_worstGantry_0 9 rfl rfl)
theorem dX4_worstGantry_10 : decode cX4_worstGantry 10 = .ok (.istore_n 3, 1) := dk_62 (dk_at dksX4_worstGantry_0 10 rfl rfl)
theorem dX4_worstGantry_11 : decode cX4_worstGantry 11 = .ok (.iload_n 3, 1) := dk_29 (dk_at dksX4_worstGantry_0 11 rfl rfl)
theorem dX4_worstGantry_12 : decode cX4_worstGantry 12 = .ok (.aload_n 0, 1) := dk_42 (dk_at dksX4_worstGantry_0 12 rfl rfl)
theorem dX4_worstGantry_13 : decode cX4_worstGantry 13 = .ok (.getfield 7, 3) := dk_180 0 7 (dk_at dksX4_worstGantry_0 13 rfl rfl)
theorem dX4_worstGantry_16 : decode cX4_worstGantry 16 = .ok (.bipush 8, 2) := dk_16 8 (dk_at dksX4_worstGantry_0 16 rfl rfl)
theorem dX4_worstGantry_18 : decode cX4_worstGantry 18 = .ok (.iaload, 1) := dk_46 (dk_at dksX4_worstGantry_0 18 rfl rfl)
theorem dX4_worstGantry_19 : decode cX4_worstGantry 19 = .ok (.if_icmp .ge 28, 3) := dk_162 0 28 (dk_at dksX4_worstGantry_0 19 rfl rfl)
theorem dX4_worstGantry_22 : decode cX4_worstGantry 22 = .ok (.aload_n 0, 1) := dk_42 (dk_at dksX4_worstGantry_0 22 rfl rfl)
theorem dX4_worstGantry_23 : decode cX4_worstGantry 23 = .ok (.iload_n 3, 1) := dk_29 (dk_at dksX4_worstGantry_0 23 rfl rfl)
theorem dX4_worstGantry_24 : decode cX4_worstGantry 24 = .ok (.iconst 1, 1) := dk_4 (dk_at dksX4_worstGantry_1 0 rfl rfl)
theorem dX4_worstGantry_25 : decode cX4_worstGantry 25 = .ok (.invokevirtual 416, 3) := dk_182 1 160 (dk_at dksX4_worstGantry_1 1 rfl rfl)
theorem dX4_worstGantry_28 : decode cX4_worstGantry 28 = .ok (.istore 4, 2) := dk_54 4 (dk_at dksX4_worstGantry_1 4 rfl rfl)
theorem dX4_worstGantry_30 : decode cX4_worstGantry 30 = .ok (.iload 4, 2) := dk_21 4 (dk_at dksX4_worstGantry_1 6 rfl rfl)
theorem dX4_worstGantry_32 : decode cX4_worstGantry 32 = .ok (.iload_n 2, 1) := dk_28 (dk_at dksX4_worstGantry_1 8 rfl rfl)
theorem dX4_worstGantry_33 : decode cX4_worstGantry 33 = .ok (.if_icmp .le 8, 3) := dk_164 0 8 (dk_at dksX4_worstGantry_1 9 rfl rfl)
theorem dX4_worstGantry_36 : decode cX4_worstGantry 36 = .ok (.iload_n 3, 1) := dk_29 (dk_at dksX4_worstGantry_1 12 rfl rfl)
theorem dX4_worstGantry_37 : decode cX4_worstGantry 37 = .ok (.istore_n 1, 1) := dk_60 (dk_at dksX4_worstGantry_1 13 rfl rfl)
theorem dX4_worstGantry_38 : decode cX4_worstGantry 38 = .ok (.iload 4, 2) := dk_21 4 (dk_at dksX4_worstGantry_1 14 rfl rfl)
theorem dX4_worstGantry_40 : decode cX4_worstGantry 40 = .ok (.istore_n 2, 1) := dk_61 (dk_at dksX4_worstGantry_1 16 rfl rfl)
theorem dX4_worstGantry_41 : decode cX4_worstGantry 41 = .ok (.iinc 3 1, 3) := dk_132 3 1 (dk_at dksX4_worstGantry_1 17 rfl rfl)
theorem dX4_worstGantry_44 : decode cX4_worstGantry 44 = .ok (.goto (-33), 3) := dk_167 255 223 (dk_at dksX4_worstGantry_1 20 rfl rfl)
theorem dX4_worstGantry_47 : decode cX4_worstGantry 47 = .ok (.iload_n 1, 1) := dk_27 (dk_at dksX4_worstGantry_1 23 rfl rfl)
theorem dX4_worstGantry_48 : decode cX4_worstGantry 48 = .ok (.ireturn, 1) := dk_172 (dk_at dksX4_worstGantry_2 0 rfl rfl)
theorem c_403_0 : LkP (OkP 403) [(0, o_aload 0 1), (1, o_push 1 (.int 0)), (2, o_put 155 1), (5, o_push 1 (.int (-1))), (6, o_istore 1 1), (7, o_push 1 (.int 0)), (8, o_istore 2 1), (9, o_push 1 (.int 0)), (10, o_istore 3 1), (11, o_iload 3 1), (12, o_aload 0 1), (13, o_get 148), (16, o_push 2 (.int 8)), (18, o_rdI 0), (19, o_icmp (fun x y => decide (y ≤ x)) 47), (22, o_aload 0 1), (23, o_iload 3 1), (24, o_push 1 (.int 1)), (25, o_cv [(30, 401)] 2 3 false none), (28, o_istore 4 2), (30, o_iload 4 2), (32, o_iload 2 1), (33, o_icmp (fun x y => decide (x ≤ y)) 41), (36, o_iload 3 1), (37, o_istore 1 1), (38, o_iload 4 2), (40, o_istore 2 1), (41, o_iinc 3 1), (44, o_goto 11), (47, o_iload 1 1), (48, o_ret 1)] := lkp_c (P := OkP 403) ⟨(PuOK.ok (ok_aload_n dX4_worstGantry_0 rfl)), m_aload⟩ (
  lkp_c (P := OkP 403) ⟨(PuOK.ok (ok_iconst dX4_worstGantry_1 rfl)), m_push⟩ (
  lkp_c (P := OkP 403) ⟨ok_put ⟨"TollRoadModel", q3087, Or.inl rfl⟩ rfl fd_155 rfl dX4_worstGantry_2, m_put⟩ (
  lkp_c (P := OkP 403) ⟨(PuOK.ok (ok_iconst dX4_worstGantry_5 rfl)), m_push⟩ (
  lkp_c (P := OkP 403) ⟨(PuOK.ok (ok_istore_n dX4_worstGantry_6 rfl)), m_istore⟩ (
  lkp_c (P := OkP 403) ⟨(PuOK.ok (ok_iconst dX4_worstGantry_7 rfl)), m_push⟩ (
  lkp_c (P := OkP 403) ⟨(PuOK.ok (ok_istore_n dX4_worstGantry_8 rfl)), m_istore⟩ (
  lkp_c (P := OkP 403) ⟨(PuOK.ok (ok_iconst dX4_worstGantry_9 rfl)), m_push⟩ (
  lkp_c (P := OkP 403) ⟨(PuOK.ok (ok_istore_n dX4_worstGantry_10 rfl)), m_istore⟩ (
  lkp_c (P := OkP 403) ⟨(PuOK.ok (ok_iload_n dX4_worstGantry_11 rfl)), m_iload⟩ (
  lkp_c (P := OkP 403) ⟨(PuOK.ok (ok_aload_n dX4_worstGantry_12 rfl)), m_aload⟩ (
  lkp_c (P := OkP 403) ⟨ok_get ⟨"TollRoadModel", q3080, Or.inl rfl⟩ dX4_worstGantry_13, m_get⟩ (
  lkp_c (P := OkP 403) ⟨(PuOK.ok (ok_bipush dX4_worstGantry_16 rfl)), m_push⟩ (
  lkp_c (P := OkP 403) ⟨ok_iald dX4_worstGantry_18, m_rdI⟩ (
  lkp_c (P := OkP 403) ⟨(PuOK.ok (ok_icmp_ge dX4_worstGantry_19 rfl)), m_icmp⟩ (
  lkp_c (P := OkP 403) ⟨(PuOK.ok (ok_aload_n dX4_worstGantry_22 rfl)), m_aload⟩ (
  lkp_c (P := OkP 403) ⟨(PuOK.ok (ok_iload_n dX4_worstGantry_23 rfl)), m_iload⟩ (
  lkp_c (P := OkP 403) ⟨(PuOK.ok (ok_iconst dX4_worstGantry_24 rfl)), m_push⟩ (
  lkp_c (P := OkP 403) ⟨ok_cv (List.forall_mem_cons.mpr ⟨tg_V (ci := 30) (r := CLr 30) (y := 401) rfl ⟨rfl, by decide⟩ rfl q3668 q3670 qs113 q139 q3671 ⟨cn_34.1, cn_34.2, pd_72⟩ dX4_worstGantry_25, (List.forall_mem_nil _)⟩) hd_no, m_cv⟩ (
  lkp_c (P := OkP 403) ⟨(PuOK.ok (ok_istore dX4_worstGantry_28)), m_istore⟩ (
  lkp_c (P := OkP 403) ⟨(PuOK.ok (ok_iload dX4_worstGantry_30)), m_iload⟩ (
  lkp_c (P := OkP 403) ⟨(PuOK.ok (ok_iload_n dX4_worstGantry_32 rfl)), m_iload⟩ (
  lkp_c (P := OkP 403) ⟨(PuOK.ok (ok_icmp_le dX4_worstGantry_33 rfl)), m_icmp⟩ (
  lkp_c (P := OkP 403) ⟨(PuOK.ok (ok_iload_n dX4_worstGantry_36 rfl)), m_iload⟩ (
  lkp_c (P := OkP 403) ⟨(PuOK.ok (ok_istore_n dX4_worstGantry_37 rfl)), m_istore⟩ (
  lkp_c (P := OkP 403) ⟨(PuOK.ok (ok_iload dX4_worstGantry_38)), m_iload⟩ (
  lkp_c (P := OkP 403) ⟨(PuOK.ok (ok_istore_n dX4_worstGantry_40 rfl)), m_istore⟩ (
  lkp_c (P := OkP 403) ⟨(PuOK.ok (ok_iinc dX4_worstGantry_41 rfl)), m_iinc⟩ (
  lkp_c (P := OkP 403) ⟨(PuOK.ok (ok_goto dX4_worstGantry_44 rfl)), m_goto⟩ (
  lkp_c (P := OkP 403) ⟨(PuOK.ok (ok_iload_n dX4_worstGantry_47 rfl)), m_iload⟩ (
  lkp_c (P := OkP 403) ⟨ok_iret rfl rfl (by decide) dX4_worstGantry_48, m_ret⟩ (
  trivial)))))))))))))))))))))))))))))))
theorem mt_403 : MtOK TB NT IT 403 := ⟨by decide +kernel, rfl, (fun h => by cases h), Or.inl ⟨rfl, rfl⟩, rfl, by decide, lk2_all (P := OkP 403) ⟨c_403_0, trivial⟩⟩
def dkwX4_meanAmount_1 : List UInt8 := [182, 1, 153, 138, 42, 180, 0, 7, 16, 13, 46, 135, 111, 175]
abbrev dktX4_meanAmount_1 : List UInt8 := dkwX4_meanAmount_1 ++ []
def dkwX4_meanAmount_0 : List UInt8 := [42, 3, 181, 0, 81, 42, 180, 0, 7, 16, 13, 46, 154, 0, 9, 20, 1, 164, 167, 0, 18, 42, 3]
abbrev dktX4_meanAmount_0 : List UInt8 := dkwX4_meanAmount_0 ++ dktX4_meanAmount_1
theorem dksX4_meanAmount_0 : cX4_meanAmount.data.toList.drop 0 = dktX4_meanAmount_0 := by decide +kernel
theorem dksX4_meanAmount_1 : cX4_meanAmount.data.toList.drop 23 = dktX4_meanAmount_1 := dk_seg dksX4_meanAmount_0 23 rfl rfl
theorem dX4_meanAmount_0 : decode cX4_meanAmount 0 = .ok (.aload_n 0, 1) := dk_42 (dk_at dksX4_meanAmount_0 0 rfl rfl)
theorem dX4_meanAmount_1 : decode cX4_meanAmount 1 = .ok (.iconst 0, 1) := dk_3 (dk_at dksX4_meanAmount_0 1 rfl rfl)
theorem dX4_meanAmount_2 : decode cX4_meanAmount 2 = .ok (.putfield 81, 3) := dk_181 0 81 (dk_at dksX4_meanAmount_0 2 rfl rfl)
theorem dX4_meanAmount_5 : decode cX4_meanAmount 5 = .ok (.aload_n 0, 1) := dk_42 (dk_at dksX4_meanAmount_0 5 rfl rfl)
theorem dX4_meanAmount_6 : decode cX4_meanAmount 6 = .ok (.getfield 7, 3) := dk_180 0 7 (dk_at dksX4_meanAmount_0 6 rfl rfl)
theorem dX4_meanAmount_9 : decode cX4_meanAmount 9 = .ok (.bipush 13, 2) := dk_16 13 (dk_at dksX4_meanAmount_0 9 rfl rfl)
theorem dX4_meanAmount_11 : decode cX4_meanAmount 11 = .ok (.iaload, 1) := dk_46 (dk_at dksX4_meanAmount_0 11 rfl rfl)
theorem dX4_meanAmount_12 : decode cX4_meanAmount 12 = .ok (.ifCond .ne 9, 3) := dk_154 0 9 (dk_at dksX4_meanAmount_0 12 rfl rfl)
theorem dX4_meanAmount_15 : decode cX4_meanAmount 15 = .ok (.ldc2_w 420, 3) := dk_20 1 164 (dk_at dksX4_meanAmount_0 15 rfl rfl)
theorem dX4_meanAmount_18 : decode cX4_meanAmount 18 = .ok (.goto 18, 3) := dk_167 0 18 (dk_at dksX4_meanAmount_0 18 rfl rfl)
theorem dX4_meanAmount_21 : decode cX4_meanAmount 21 = .ok (.aload_n 0, 1) := dk_42 (dk_at dksX4_meanAmount_0 21 rfl rfl)
theorem dX4_meanAmount_22 : decode cX4_meanAmount 22 = .ok (.iconst 0, 1) := dk_3 (dk_at dksX4_meanAmount_0 22 rfl rfl)
theorem dX4_meanAmount_23 : decode cX4_meanAmount 23 = .ok (.invokevirtual 409, 3) := dk_182 1 153 (dk_at dksX4_meanAmount_1 0 rfl rfl)
theorem dX4_meanAmount_26 : decode cX4_meanAmount 26 = .ok (.l2d, 1) := dk_138 (dk_at dksX4_meanAmount_1 3 rfl rfl)
theorem dX4_meanAmount_27 : decode cX4_meanAmount 27 = .ok (.aload_n 0, 1) := dk_42 (dk_at dksX4_meanAmount_1 4 rfl rfl)
theorem dX4_meanAmount_28 : decode cX4_meanAmount 28 = .ok (.getfield 7, 3) := dk_180 0 7 (dk_at dksX4_meanAmount_1 5 rfl rfl)
theorem dX4_meanAmount_31 : decode cX4_meanAmount 31 = .ok (.bipush 13, 2) := dk_16 13 (dk_at dksX4_meanAmount_1 8 rfl rfl)
theorem dX4_meanAmount_33 : decode cX4_meanAmount 33 = .ok (.iaload, 1) := dk_46 (dk_at dksX4_meanAmount_1 10 rfl rfl)
theorem dX4_meanAmount_34 : decode cX4_meanAmount 34 = .ok (.i2d, 1) := dk_135 (dk_at dksX4_meanAmount_1 11 rfl rfl)
theorem dX4_meanAmount_35 : decode cX4_meanAmount 35 = .ok (.ddiv, 1) := dk_111 (dk_at dksX4_meanAmount_1 12 rfl rfl)
theorem dX4_meanAmount_36 : decode cX4_meanAmount 36 = .ok (.dreturn, 1) := dk_175 (dk_at dksX4_meanAmount_1 13 rfl rfl)
theorem c_404_0 : LkP (OkP 404) [(0, o_aload 0 1), (1, o_push 1 (.int 0)), (2, o_put 155 1), (5, o_aload 0 1), (6, o_get 148), (9, o_push 2 (.int 13)), (11, o_rdI 0), (12, o_if (fun x => decide (¬ x = 0)) 21), (15, o_push 3 (.double 13830554455654793216)), (18, o_goto 36), (21, o_aload 0 1), (22, o_push 1 (.int 0)), (23, o_cv [(30, 398)] 1 3 false none), (26, o_l2d), (27, o_aload 0 1), (28, o_get 148), (31, o_push 2 (.int 13)), (33, o_rdI 0), (34, o_i2d), (35, o_ddiv), (36, o_ret 4)] := lkp_c (P := OkP 404) ⟨(PuOK.ok (ok_aload_n dX4_meanAmount_0 rfl)), m_aload⟩ (
  lkp_c (P := OkP 404) ⟨(PuOK.ok (ok_iconst dX4_meanAmount_1 rfl)), m_push⟩ (
  lkp_c (P := OkP 404) ⟨ok_put ⟨"TollRoadModel", q3087, Or.inl rfl⟩ rfl fd_155 rfl dX4_meanAmount_2, m_put⟩ (
  lkp_c (P := OkP 404) ⟨(PuOK.ok (ok_aload_n dX4_meanAmount_5 rfl)), m_aload⟩ (
  lkp_c (P := OkP 404) ⟨ok_get ⟨"TollRoadModel", q3080, Or.inl rfl⟩ dX4_meanAmount_6, m_get⟩ (
  lkp_c (P := OkP 404) ⟨(PuOK.ok (ok_bipush dX4_meanAmount_9 rfl)), m_push⟩ (
  lkp_c (P := OkP 404) ⟨ok_iald dX4_meanAmount_11, m_rdI⟩ (
  lkp_c (P := OkP 404) ⟨(PuOK.ok (ok_if_ne dX4_meanAmount_12 rfl)), m_if⟩ (
  lkp_c (P := OkP 404) ⟨(PuOK.ok (ok_ldc2d q3685 dX4_meanAmount_15)), m_push⟩ (
  lkp_c (P := OkP 404) ⟨(PuOK.ok (ok_goto dX4_meanAmount_18 rfl)), m_goto⟩ (
  lkp_c (P := OkP 404) ⟨(PuOK.ok (ok_aload_n dX4_meanAmount_21 rfl)), m_aload⟩ (
  lkp_c (P := OkP 404) ⟨(PuOK.ok (ok_iconst dX4_meanAmount_22 rfl)), m_push⟩ (
  lkp_c (P := OkP 404) ⟨ok_cv (List.forall_mem_cons.mpr ⟨tg_V (ci := 30) (r := CLr 30) (y := 398) rfl ⟨rfl, by decide⟩ rfl q3656 q3658 qs111 q139 q3659 ⟨cn_34.1, cn_34.2, pd_128⟩ dX4_meanAmount_23, (List.forall_mem_nil _)⟩) hd_no, m_cv⟩ (
  lkp_c (P := OkP 404) ⟨(PuOK.ok (ok_l2d dX4_meanAmount_26)), m_l2d⟩ (
  lkp_c (P := OkP 404) ⟨(PuOK.ok (ok_aload_n dX4_meanAmount_27 rfl)), m_aload⟩ (
  lkp_c (P := OkP 404) ⟨ok_get ⟨"TollRoadModel", q3080, Or.inl rfl⟩ dX4_meanAmount_28, m_get⟩ (
  lkp_c (P := OkP 404) ⟨(PuOK.ok (ok_bipush dX4_meanAmount_31 rfl)), m_push⟩ (
  lkp_c (P := OkP 404) ⟨ok_iald dX4_meanAmount_33, m_rdI⟩ (
  lkp_c (P := OkP 404) ⟨(PuOK.ok (ok_i2d dX4_meanAmount_34)), m_i2d⟩ (
  lkp_c (P := OkP 404) ⟨(PuOK.ok (ok_ddiv dX4_meanAmount_35)), m_ddiv⟩ (
  lkp_c (P := OkP 404) ⟨ok_dret rfl dX4_meanAmount_36, m_ret⟩ (
  trivial)))))))))))))))))))))
theorem mt_404 : MtOK TB NT IT 404 := ⟨by decide +kernel, rfl, (fun h => by cases h), Or.inl ⟨rfl, rfl⟩, rfl, by decide, lk2_all (P := OkP 404) ⟨c_404_0, trivial⟩⟩
def dkwX4_save_2 : List UInt8 := [27, 4, 84, 177]
abbrev dktX4_save_2 : List UInt8 := dkwX4_save_2 ++ []
def dkwX4_save_1 : List UInt8 := [154, 0, 27, 42, 180, 0, 7, 3, 42, 180, 0, 16, 17, 12, 28, 27, 104, 184, 0, 214, 42, 180, 0, 19]
abbrev dktX4_save_1 : List UInt8 := dkwX4_save_1 ++ dktX4_save_2
def dkwX4_save_0 : List UInt8 := [42, 27, 3, 4, 184, 0, 91, 153, 0, 7, 3, 167, 0, 4, 4, 181, 0, 81, 42, 180, 0, 81]
abbrev dktX4_save_0 : List UInt8 := dkwX4_save_0 ++ dktX4_save_1
theorem dksX4_save_0 : cX4_save.data.toList.drop 0 = dktX4_save_0 := by decide +kernel
theorem dksX4_save_1 : cX4_save.data.toList.drop 22 = dktX4_save_1 := dk_seg dksX4_save_0 22 rfl rfl
theorem dksX4_save_2 : cX4_save.data.toList.drop 46 = dktX4_save_2 := dk_seg dksX4_save_1 24 rfl rfl
theorem dX4_save_0 : decode cX4_save 0 = .ok (.aload_n 0, 1) := dk_42 (dk_at dksX4_save_0 0 rfl rfl)
theorem dX4_save_1 : decode cX4_save 1 = .ok (.iload_n 1, 1) := dk_27 (dk_at dksX4_save_0 1 rfl rfl)
theorem dX4_save_2 : decode cX4_save 2 = .ok (.iconst 0, 1) := dk_3 (dk_at dksX4_save_0 2 rfl rfl)
theorem dX4_save_3 : decode cX4_save 3 = .ok (.iconst 1, 1) := dk_4 (dk_at dksX4_save_0 3 rfl rfl)
theorem dX4_save_4 : decode cX4_save 4 = .ok (.invokestatic 91, 3) := dk_184 0 91 (dk_at dksX4_save_0 4 rfl rfl)
theorem dX4_save_7 : decode cX4_save 7 = .ok (.ifCond .eq 7, 3) := dk_153 0 7 (dk_at dksX4_save_0 7 rfl rfl)
theorem dX4_save_10 : decode cX4_save 10 = .ok (.iconst 0, 1) := dk_3 (dk_at dksX4_save_0 10 rfl rfl)
theorem dX4_save_11 : decode cX4_save 11 = .ok (.goto 4, 3) := dk_167 0 4 (dk_at dksX4_save_0 11 rfl rfl)
theorem dX4_save_14 : decode cX4_save 14 = .ok (.iconst 1, 1) := dk_4 (dk_at dksX4_save_0 14 rfl rfl)
theorem dX4_save_15 : decode cX4_save 15 = .ok (.putfield 81, 3) := dk_181 0 81 (dk_at dksX4_save_0 15 rfl rfl)
theorem dX4_save_18 : decode cX4_save 18 = .ok (.aload_n 0, 1) := dk_42 (dk_at dksX4_save_0 18 rfl rfl)
theorem dX4_save_19 : decode cX4_save 19 = .ok (.getfield 81, 3) := dk_180 0 81 (dk_at dksX4_save_0 19 rfl rfl)
theorem dX4_save_22 : decode cX4_save 22 = .ok (.ifCond .ne 27, 3) := dk_154 0 27 (dk_at dksX4_save_1 0 rfl rfl)
theorem dX4_save_25 : decode cX4_save 25 = .ok (.aload_n 0, 1) := dk_42 (dk_at dksX4_save_1 3 rfl rfl)
theorem dX4_save_26 : decode cX4_save 26 = .ok (.getfield 7, 3) := dk_180 0 7 (dk_at dksX4_save_1 4 rfl rfl)
theorem dX4_save_29 : decode cX4_save 29 = .ok (.iconst 0, 1) := dk_3 (dk_at dksX4_save_1 7 rfl rfl)
theorem dX4_save_30 : decode cX4_save 30 = .ok (.aload_n 0, 1) := dk_42 (dk_at dksX4_save_1 8 rfl rfl)
theorem dX4_save_31 : decode cX4_save 31 = .ok (.getfield 16, 3) := dk_180 0 16 (dk_at dksX4_save_1 9 rfl rfl)
theorem dX4_save_34 : decode cX4_save 34 = .ok (.sipush 3100, 3) := dk_17 12 28 (dk_at dksX4_save_1 12 rfl rfl)
theorem dX4_save_37 : decode cX4_save 37 = .ok (.iload_n 1, 1) := dk_27 (dk_at dksX4_save_1 15 rfl rfl)
theorem dX4_save_38 : decode cX4_save 38 = .ok (.imul, 1) := dk_104 (dk_at dksX4_save_1 16 rfl rfl)
theorem dX4_save_39 : decode cX4_save 39 = .ok (.invokestatic 214, 3) := dk_184 0 214 (dk_at dksX4_save_1 17 rfl rfl)
theorem dX4_save_42 : decode cX4_save 42 = .ok (.aload_n 0, 1) := dk_42 (dk_at dksX4_save_1 20 rfl rfl)
theorem dX4_save_43 : decode cX4_save 43 = .ok (.getfield 19, 3) := dk_180 0 19 (dk_at dksX4_save_1 21 rfl rfl)
theorem dX4_save_46 : decode cX4_save 46 = .ok (.iload_n 1, 1) := dk_27 (dk_at dksX4_save_2 0 rfl rfl)
theorem dX4_save_47 : decode cX4_save 47 = .ok (.iconst 1, 1) := dk_4 (dk_at dksX4_save_2 1 rfl rfl)
theorem dX4_save_48 : decode cX4_save 48 = .ok (.bastore, 1) := dk_84 (dk_at dksX4_save_2 2 rfl rfl)
theorem dX4_save_49 : decode cX4_save 49 = .ok (.return_, 1) := dk_177 (dk_at dksX4_save_2 3 rfl rfl)
theorem c_405_0 : LkP (OkP 405) [(0, o_aload 0 1), (1, o_iload 1 1), (2, o_push 1 (.int 0)), (3, o_push 1 (.int 1)), (4, o_cs 293 3 false none), (7, o_if (fun x => decide (x = 0)) 14), (10, o_push 1 (.int 0)), (11, o_goto 15), (14, o_push 1 (.int 1)), (15, o_put 155 1), (18, o_aload 0 1), (19, o_get 155), (22, o_if (fun x => decide (¬ x = 0)) 49), (25, o_aload 0 1), (26, o_get 148), (29, o_push 1 (.int 0)), (30, o_aload 0 1), (31, o_get 150), (34, o_push 3 (.int 3100)), (37, o_iload 1 1), (38, o_iop (fun x y => x * y)), (39, o_cs 295 4 true none), (42, o_aload 0 1), (43, o_get 151), (46, o_iload 1 1), (47, o_push 1 (.int 1)), (48, o_wrI 2), (49, o_vret)] := lkp_c (P := OkP 405) ⟨(PuOK.ok (ok_aload_n dX4_save_0 rfl)), m_aload⟩ (
  lkp_c (P := OkP 405) ⟨(PuOK.ok (ok_iload_n dX4_save_1 rfl)), m_iload⟩ (
  lkp_c (P := OkP 405) ⟨(PuOK.ok (ok_iconst dX4_save_2 rfl)), m_push⟩ (
  lkp_c (P := OkP 405) ⟨(PuOK.ok (ok_iconst dX4_save_3 rfl)), m_push⟩ (
  lkp_c (P := OkP 405) ⟨ok_cs (tg_S ⟨rfl, by decide⟩ q3214 q3215 q139 q3216 ⟨cn_34.1, cn_34.2, pd_121⟩ dX4_save_4) hd_no, m_cs⟩ (
  lkp_c (P := OkP 405) ⟨(PuOK.ok (ok_if_eq dX4_save_7 rfl)), m_if⟩ (
  lkp_c (P := OkP 405) ⟨(PuOK.ok (ok_iconst dX4_save_10 rfl)), m_push⟩ (
  lkp_c (P := OkP 405) ⟨(PuOK.ok (ok_goto dX4_save_11 rfl)), m_goto⟩ (
  lkp_c (P := OkP 405) ⟨(PuOK.ok (ok_iconst dX4_save_14 rfl)), m_push⟩ (
  lkp_c (P := OkP 405) ⟨ok_put ⟨"TollRoadModel", q3087, Or.inl rfl⟩ rfl fd_155 rfl dX4_save_15, m_put⟩ (
  lkp_c (P := OkP 405) ⟨(PuOK.ok (ok_aload_n dX4_save_18 rfl)), m_aload⟩ (
  lkp_c (P := OkP 405) ⟨ok_get ⟨"TollRoadModel", q3087, Or.inl rfl⟩ dX4_save_19, m_get⟩ (
  lkp_c (P := OkP 405) ⟨(PuOK.ok (ok_if_ne dX4_save_22 rfl)), m_if⟩ (
  lkp_c (P := OkP 405) ⟨(PuOK.ok (ok_aload_n dX4_save_25 rfl)), m_aload⟩ (
  lkp_c (P := OkP 405) ⟨ok_get ⟨"TollRoadModel", q3080, Or.inl rfl⟩ dX4_save_26, m_get⟩ (
  lkp_c (P := OkP 405) ⟨(PuOK.ok (ok_iconst dX4_save_29 rfl)), m_push⟩ (
  lkp_c (P := OkP 405) ⟨(PuOK.ok (ok_aload_n dX4_save_30 rfl)), m_aload⟩ (
  lkp_c (P := OkP 405) ⟨ok_get ⟨"TollRoadModel", q3082, Or.inl rfl⟩ dX4_save_31, m_get⟩ (
  lkp_c (P := OkP 405) ⟨(PuOK.ok (ok_sipush dX4_save_34 rfl)), m_push⟩ (
  lkp_c (P := OkP 405) ⟨(PuOK.ok (ok_iload_n dX4_save_37 rfl)), m_iload⟩ (
  lkp_c (P := OkP 405) ⟨(PuOK.ok (ok_imul dX4_save_38)), m_iop⟩ (
  lkp_c (P := OkP 405) ⟨ok_cs (tg_S ⟨rfl, by decide⟩ q3221 q3222 q139 q3223 ⟨cn_34.1, cn_34.2, pd_122⟩ dX4_save_39) hd_no, m_cs⟩ (
  lkp_c (P := OkP 405) ⟨(PuOK.ok (ok_aload_n dX4_save_42 rfl)), m_aload⟩ (
  lkp_c (P := OkP 405) ⟨ok_get ⟨"TollRoadModel", q3083, Or.inl rfl⟩ dX4_save_43, m_get⟩ (
  lkp_c (P := OkP 405) ⟨(PuOK.ok (ok_iload_n dX4_save_46 rfl)), m_iload⟩ (
  lkp_c (P := OkP 405) ⟨(PuOK.ok (ok_iconst dX4_save_47 rfl)), m_push⟩ (
  lkp_c (P := OkP 405) ⟨ok_zast dX4_save_48, m_wrI⟩ (
  lkp_c (P := OkP 405) ⟨ok_vret rfl dX4_save_49, m_vret⟩ (
  trivial))))))))))))))))))))))))))))
theorem mt_405 : MtOK TB NT IT 405 := ⟨by decide +kernel, rfl, (fun h => by cases h), Or.inl ⟨rfl, rfl⟩, rfl, by decide, lk2_all (P := OkP 405) ⟨c_405_0, trivial⟩⟩
def dkwX4_restore_2 : List UInt8 := [180, 0, 7, 3, 184, 0, 214, 177]
abbrev dktX4_restore_2 : List UInt8 := dkwX4_restore_2 ++ []
def dkwX4_restore_1 : List UInt8 := [167, 0, 4, 3, 181, 0, 81, 42, 180, 0, 81, 154, 0, 20, 42, 180, 0, 16, 17, 12, 28, 27, 104, 42]
abbrev dktX4_restore_1 : List UInt8 := dkwX4_restore_1 ++ dktX4_restore_2
def dkwX4_restore_0 : List UInt8 := [42, 27, 3, 4, 184, 0, 91, 154, 0, 7, 4, 167, 0, 17, 42, 180, 0, 19, 27, 51, 154, 0, 7, 5]
abbrev dktX4_restore_0 : List UInt8 := dkwX4_restore_0 ++ dktX4_restore_1
theorem dksX4_restore_0 : cX4_restore.data.toList.drop 0 = dktX4_restore_0 := by decide +kernel
theorem dksX4_restore_1 : cX4_restore.data.toList.drop 24 = dktX4_restore_1 := dk_seg dksX4_restore_0 24 rfl rfl
theorem dksX4_restore_2 : cX4_restore.data.toList.drop 48 = dktX4_restore_2 := dk_seg dksX4_restore_1 24 rfl rfl
theorem dX4_restore_0 : decode cX4_restore 0 = .ok (.aload_n 0, 1) := dk_42 (dk_at dksX4_restore_0 0 rfl rfl)
theorem dX4_restore_1 : decode cX4_restore 1 = .ok (.iload_n 1, 1) := dk_27 (dk_at dksX4_restore_0 1 rfl rfl)
theorem dX4_restore_2 : decode cX4_restore 2 = .ok (.iconst 0, 1) := dk_3 (dk_at dksX4_restore_0 2 rfl rfl)
theorem dX4_restore_3 : decode cX4_restore 3 = .ok (.iconst 1, 1) := dk_4 (dk_at dksX4_restore_0 3 rfl rfl)
theorem dX4_restore_4 : decode cX4_restore 4 = .ok (.invokestatic 91, 3) := dk_184 0 91 (dk_at dksX4_restore_0 4 rfl rfl)
theorem dX4_restore_7 : decode cX4_restore 7 = .ok (.ifCond .ne 7, 3) := dk_154 0 7 (dk_at dksX4_restore_0 7 rfl rfl)
theorem dX4_restore_10 : decode cX4_restore 10 = .ok (.iconst 1, 1) := dk_4 (dk_at dksX4_restore_0 10 rfl rfl)
theorem dX4_restore_11 : decode cX4_restore 11 = .ok (.goto 17, 3) := dk_167 0 17 (dk_at dksX4_restore_0 11 rfl rfl)
theorem dX4_restore_14 : decode cX4_restore 14 = .ok (.aload_n 0, 1) := dk_42 (dk_at dksX4_restore_0 14 rfl rfl)
theorem dX4_restore_15 : decode cX4_restore 15 = .ok (.getfield 19, 3) := dk_180 0 19 (dk_at dksX4_restore_0 15 rfl rfl)
theorem dX4_restore_18 : decode cX4_restore 18 = .ok (.iload_n 1, 1) := dk_27 (dk_at dksX4_restore_0 18 rfl rfl)
theorem dX4_restore_19 : decode cX4_restore 19 = .ok (.baload, 1) := dk_51 (dk_at dksX4_restore_0 19 rfl rfl)
theorem dX4_restore_20 : decode cX4_restore 20 = .ok (.ifCond .ne 7, 3) := dk_154 0 7 (dk_at dksX4_restore_0 20 rfl rfl)
theorem dX4_restore_23 : decode cX4_restore 23 = .ok (.iconst 2, 1) := dk_5 (dk_at dksX4_restore_0 23 rfl rfl)
theorem dX4_restore_24 : decode cX4_restore 24 = .ok (.goto 4, 3) := dk_167 0 4 (dk_at dksX4_restore_1 0 rfl rfl)
theorem dX4_restore_27 : decode cX4_restore 27 = .ok (.iconst 0, 1) := dk_3 (dk_at dksX4_restore_1 3 rfl rfl)
theorem dX4_restore_28 : decode cX4_restore 28 = .ok (.putfield 81, 3) := dk_181 0 81 (dk_at dksX4_restore_1 4 rfl rfl)
theorem dX4_restore_31 : decode cX4_restore 31 = .ok (.aload_n 0, 1) := dk_42 (dk_at dksX4_restore_1 7 rfl rfl)
theorem dX4_restore_32 : decode cX4_restore 32 = .ok (.getfield 81, 3) := dk_180 0 81 (dk_at dksX4_restore_1 8 rfl rfl)
theorem dX4_restore_35 : decode cX4_restore 35 = .ok (.ifCond .ne 20, 3) := dk_154 0 20 (dk_at dksX4_restore_1 11 rfl rfl)
theorem dX4_restore_38 : decode cX4_restore 38 = .ok (.aload_n 0, 1) := dk_42 (dk_at dksX4_restore_1 14 rfl rfl)
theorem dX4_restore_39 : decode cX4_restore 39 = .ok (.getfield 16, 3) := dk_180 0 16 (dk_at dksX4_restore_1 15 rfl rfl)
theorem dX4_restore_42 : decode cX4_restore 42 = .ok (.sipush 3100, 3) := dk_17 12 28 (dk_at dksX4_restore_1 18 rfl rfl)
theorem dX4_restore_45 : decode cX4_restore 45 = .ok (.iload_n 1, 1) := dk_27 (dk_at dksX4_restore_1 21 rfl rfl)
theorem dX4_restore_46 : decode cX4_restore 46 = .ok (.imul, 1) := dk_104 (dk_at dksX4_restore_1 22 rfl rfl)
theorem dX4_restore_47 : decode cX4_restore 47 = .ok (.aload_n 0, 1) := dk_42 (dk_at dksX4_restore_1 23 rfl rfl)
theorem dX4_restore_48 : decode cX4_restore 48 = .ok (.getfield 7, 3) := dk_180 0 7 (dk_at dksX4_restore_2 0 rfl rfl)
theorem dX4_restore_51 : decode cX4_restore 51 = .ok (.iconst 0, 1) := dk_3 (dk_at dksX4_restore_2 3 rfl rfl)
theorem dX4_restore_52 : decode cX4_restore 52 = .ok (.invokestatic 214, 3) := dk_184 0 214 (dk_at dksX4_restore_2 4 rfl rfl)
theorem dX4_restore_55 : decode cX4_restore 55 = .ok (.return_, 1) := dk_177 (dk_at dksX4_restore_2 7 rfl rfl)
theorem c_406_0 : LkP (OkP 406) [(0, o_aload 0 1), (1, o_iload 1 1), (2, o_push 1 (.int 0)), (3, o_push 1 (.int 1)), (4, o_cs 293 3 false none), (7, o_if (fun x => decide (¬ x = 0)) 14), (10, o_push 1 (.int 1)), (11, o_goto 28), (14, o_aload 0 1), (15, o_get 151), (18, o_iload 1 1), (19, o_rdI 2), (20, o_if (fun x => decide (¬ x = 0)) 27), (23, o_push 1 (.int 2)), (24, o_goto 28), (27, o_push 1 (.int 0)), (28, o_put 155 1), (31, o_aload 0 1), (32, o_get 155), (35, o_if (fun x => decide (¬ x = 0)) 55), (38, o_aload 0 1), (39, o_get 150), (42, o_push 3 (.int 3100)), (45, o_iload 1 1), (46, o_iop (fun x y => x * y)), (47, o_aload 0 1), (48, o_get 148), (51, o_push 1 (.int 0)), (52, o_cs 295 4 true none), (55, o_vret)] := lkp_c (P := OkP 406) ⟨(PuOK.ok (ok_aload_n dX4_restore_0 rfl)), m_aload⟩ (
  lkp_c (P := OkP 406) ⟨(PuOK.ok (ok_iload_n dX4_restore_1 rfl)), m_iload⟩ (
  lkp_c (P := OkP 406) ⟨(PuOK.ok (ok_iconst dX4_restore_2 rfl)), m_push⟩ (
  lkp_c (P := OkP 406) ⟨(PuOK.ok (ok_iconst dX4_restore_3 rfl)), m_push⟩ (
  lkp_c (P := OkP 406) ⟨ok_cs (tg_S ⟨rfl, by decide⟩ q3214 q3215 q139 q3216 ⟨cn_34.1, cn_34.2, pd_121⟩ dX4_restore_4) hd_no, m_cs⟩ (
  lkp_c (P := OkP 406) ⟨(PuOK.ok (ok_if_ne dX4_restore_7 rfl)), m_if⟩ (
  lkp_c (P := OkP 406) ⟨(PuOK.ok (ok_iconst dX4_restore_10 rfl)), m_push⟩ (
  lkp_c (P := OkP 406) ⟨(PuOK.ok (ok_goto dX4_restore_11 rfl)), m_goto⟩ (
  lkp_c (P := OkP 406) ⟨(PuOK.ok (ok_aload_n dX4_restore_14 rfl)), m_aload⟩ (
  lkp_c (P := OkP 406) ⟨ok_get ⟨"TollRoadModel", q3083, Or.inl rfl⟩ dX4_restore_15, m_get⟩ (
  lkp_c (P := OkP 406) ⟨(PuOK.ok (ok_iload_n dX4_restore_18 rfl)), m_iload⟩ (
  lkp_c (P := OkP 406) ⟨ok_zald dX4_restore_19, m_rdI⟩ (
  lkp_c (P := OkP 406) ⟨(PuOK.ok (ok_if_ne dX4_restore_20 rfl)), m_if⟩ (
  lkp_c (P := OkP 406) ⟨(PuOK.ok (ok_iconst dX4_restore_23 rfl)), m_push⟩ (
  lkp_c (P := OkP 406) ⟨(PuOK.ok (ok_goto dX4_restore_24 rfl)), m_goto⟩ (
  lkp_c (P := OkP 406) ⟨(PuOK.ok (ok_iconst dX4_restore_27 rfl)), m_push⟩ (
  lkp_c (P := OkP 406) ⟨ok_put ⟨"TollRoadModel", q3087, Or.inl rfl⟩ rfl fd_155 rfl dX4_restore_28, m_put⟩ (
  lkp_c (P := OkP 406) ⟨(PuOK.ok (ok_aload_n dX4_restore_31 rfl)), m_aload⟩ (
  lkp_c (P := OkP 406) ⟨ok_get ⟨"TollRoadModel", q3087, Or.inl rfl⟩ dX4_restore_32, m_get⟩ (
  lkp_c (P := OkP 406) ⟨(PuOK.ok (ok_if_ne dX4_restore_35 rfl)), m_if⟩ (
  lkp_c (P := OkP 406) ⟨(PuOK.ok (ok_aload_n dX4_restore_38 rfl)), m_aload⟩ (
  lkp_c (P := OkP 406) ⟨ok_get ⟨"TollRoadModel", q3082, Or.inl rfl⟩ dX4_restore_39, m_get⟩ (
  lkp_c (P := OkP 406) ⟨(PuOK.ok (ok_sipush dX4_restore_42 rfl)), m_push⟩ (
  lkp_c (P := OkP 406) ⟨(PuOK.ok (ok_iload_n dX4_restore_45 rfl)), m_iload⟩ (
  lkp_c (P := OkP 406) ⟨(PuOK.ok (ok_imul dX4_restore_46)), m_iop⟩ (
  lkp_c (P := OkP 406) ⟨(PuOK.ok (ok_aload_n dX4_restore_47 rfl)), m_aload⟩ (
  lkp_c (P := OkP 406) ⟨ok_get ⟨"TollRoadModel", q3080, Or.inl rfl⟩ dX4_restore_48, m_get⟩ (
  lkp_c (P := OkP 406) ⟨(PuOK.ok (ok_iconst dX4_restore_51 rfl)), m_push⟩ (
  lkp_c (P := OkP 406) ⟨ok_cs (tg_S ⟨rfl, by decide⟩ q3221 q3222 q139 q3223 ⟨cn_34.1, cn_34.2, pd_122⟩ dX4_restore_52) hd_no, m_cs⟩ (
  lkp_c (P := OkP 406) ⟨ok_vret rfl dX4_restore_55, m_vret⟩ (
  trivial))))))))))))))))))))))))))))))
theorem mt_406 : MtOK TB NT IT 406 := ⟨by decide +kernel, rfl, (fun h => by cases h), Or.inl ⟨rfl, rfl⟩, rfl, by decide, lk2_all (P := OkP 406) ⟨c_406_0, trivial⟩⟩
def dkwX5_init_1 : List UInt8 := [181, 0, 22, 42, 182, 0, 26, 177]
abbrev dktX5_init_1 : List UInt8 := dkwX5_init_1 ++ []
def dkwX5_init_0 : List UInt8 := [42, 43, 181, 0, 3, 42, 183, 0, 9, 42, 187, 0, 15, 89, 183, 0, 17, 181, 0, 18, 42, 28]
abbrev dktX5_init_0 : List UInt8 := dkwX5_init_0 ++ dktX5_init_1
theorem dksX5_init_0 : cX5_init.data.toList.drop 0 = dktX5_init_0 := by decide +kernel
theorem dksX5_init_1 : cX5_init.data.toList.drop 22 = dktX5_init_1 := dk_seg dksX5_init_0 22 rfl rfl
theorem dX5_init_0 : decode cX5_init 0 = .ok (.aload_n 0, 1) := dk_42 (dk_at dksX5_init_0 0 rfl rfl)
theorem dX5_init_1 : decode cX5_init 1 = .ok (.aload_n 1, 1) := dk_43 (dk_at dksX5_init_0 1 rfl rfl)
theorem dX5_init_2 : decode cX5_init 2 = .ok (.putfield 3, 3) := dk_181 0 3 (dk_at dksX5_init_0 2 rfl rfl)
theorem dX5_init_5 : decode cX5_init 5 = .ok (.aload_n 0, 1) := dk_42 (dk_at dksX5_init_0 5 rfl rfl)
theorem dX5_init_6 : decode cX5_init 6 = .ok (.invokespecial 9, 3) := dk_183 0 9 (dk_at dksX5_init_0 6 rfl rfl)
theorem dX5_init_9 : decode cX5_init 9 = .ok (.aload_n 0, 1) := dk_42 (dk_at dksX5_init_0 9 rfl rfl)
theorem dX5_init_10 : decode cX5_init 10 = .ok (.new 15, 3) := dk_187 0 15 (dk_at dksX5_init_0 10 rfl rfl)
theorem dX5_init_13 : decode cX5_init 13 = .ok (.dup, 1) := dk_89 (dk_at dksX5_init_0 13 rfl rfl)
theorem dX5_init_14 : decode cX5_init 14 = .ok (.invokespecial 17, 3) := dk_183 0 17 (dk_at dksX5_init_0 14 rfl rfl)
theorem dX5_init_17 : decode cX5_init 17 = .ok (.putfield 18, 3) := dk_181 0 18 (dk_at dksX5_init_0 17 rfl rfl)
theorem dX5_init_20 : decode cX5_init 20 = .ok (.aload_n 0, 1) := dk_42 (dk_at dksX5_init_0 20 rfl rfl)
theorem dX5_init_21 : decode cX5_init 21 = .ok (.iload_n 2, 1) := dk_28 (dk_at dksX5_init_0 21 rfl rfl)
theorem dX5_init_22 : decode cX5_init 22 = .ok (.putfield 22, 3) := dk_181 0 22 (dk_at dksX5_init_1 0 rfl rfl)
theorem dX5_init_25 : decode cX5_init 25 = .ok (.aload_n 0, 1) := dk_42 (dk_at dksX5_init_1 3 rfl rfl)
theorem dX5_init_26 : decode cX5_init 26 = .ok (.invokevirtual 26, 3) := dk_182 0 26 (dk_at dksX5_init_1 4 rfl rfl)
theorem dX5_init_29 : decode cX5_init 29 = .ok (.return_, 1) := dk_177 (dk_at dksX5_init_1 7 rfl rfl)
theorem c_407_0 : LkP (OkP 407) [(0, o_aload 0 1), (1, o_aload 1 1), (2, o_put 51 0), (5, o_aload 0 1), (6, o_oi), (9, o_aload 0 1), (10, o_new 1 8 dv1), (13, o_dup), (14, o_ci 256 0), (17, o_put 44 0), (20, o_aload 0 1), (21, o_iload 2 1), (22, o_put 43 1), (25, o_aload 0 1), (26, o_cv [(9, 408)] 0 3 true none), (29, o_vret)] := lkp_c (P := OkP 407) ⟨(PuOK.ok (ok_aload_n dX5_init_0 rfl)), m_aload⟩ (
  lkp_c (P := OkP 407) ⟨(PuOK.ok (ok_aload_n dX5_init_1 rfl)), m_aload⟩ (
  lkp_c (P := OkP 407) ⟨ok_putF q1347 rfl rfl rfl fd_51 rfl dX5_init_2, m_put⟩ (
  lkp_c (P := OkP 407) ⟨(PuOK.ok (ok_aload_n dX5_init_5 rfl)), m_aload⟩ (
  lkp_c (P := OkP 407) ⟨ok_oi q1270 q188 q_oi dX5_init_6, m_oi⟩ (
  lkp_c (P := OkP 407) ⟨(PuOK.ok (ok_aload_n dX5_init_9 rfl)), m_aload⟩ (
  lkp_c (P := OkP 407) ⟨ok_new (ci := 1) (r := CLr 1) rfl dvok_1 q1271 q191 q116 dX5_init_10, m_new⟩ (
  lkp_c (P := OkP 407) ⟨(PuOK.ok (ok_dup dX5_init_13)), m_dup⟩ (
  lkp_c (P := OkP 407) ⟨ok_ci (tg_IN (rt := none) ⟨rfl, by decide⟩ rfl q1272 q193 q116 q194 ⟨cn_36.1, cn_36.2, pd_0⟩ dX5_init_14) hd_no, m_ci⟩ (
  lkp_c (P := OkP 407) ⟨ok_putF q1339 rfl rfl rfl fd_44 rfl dX5_init_17, m_put⟩ (
  lkp_c (P := OkP 407) ⟨(PuOK.ok (ok_aload_n dX5_init_20 rfl)), m_aload⟩ (
  lkp_c (P := OkP 407) ⟨(PuOK.ok (ok_iload_n dX5_init_21 rfl)), m_iload⟩ (
  lkp_c (P := OkP 407) ⟨ok_putF q1338 rfl rfl rfl fd_43 rfl dX5_init_22, m_put⟩ (
  lkp_c (P := OkP 407) ⟨(PuOK.ok (ok_aload_n dX5_init_25 rfl)), m_aload⟩ (
  lkp_c (P := OkP 407) ⟨ok_cv (List.forall_mem_cons.mpr ⟨tg_V (ci := 9) (r := CLr 9) (y := 408) rfl ⟨rfl, by decide⟩ rfl q1273 q1275 qs2 q141 q1276 ⟨cn_38.1, cn_38.2, pd_0⟩ dX5_init_26, (List.forall_mem_nil _)⟩) hd_no, m_cv⟩ (
  lkp_c (P := OkP 407) ⟨ok_vret rfl dX5_init_29, m_vret⟩ (
  trivial))))))))))))))))
theorem mt_407 : MtOK TB NT IT 407 := ⟨by decide +kernel, rfl, fun _ => rfl, Or.inl ⟨rfl, rfl⟩, rfl, by decide, lk2_all (P := OkP 407) ⟨c_407_0, trivial⟩⟩
def dkwX5_advance_11 : List UInt8 := [162, 0, 7, 4, 167, 0, 4, 3, 96, 181, 0, 33, 42, 43, 184, 0, 79, 181, 0, 83, 177]
abbrev dktX5_advance_11 : List UInt8 := dkwX5_advance_11 ++ []
def dkwX5_advance_10 : List UInt8 := [180, 0, 33, 42, 180, 0, 33, 42, 180, 0, 40, 160, 0, 18, 42, 180, 0, 33, 42, 180, 0, 22]
abbrev dktX5_advance_10 : List UInt8 := dkwX5_advance_10 ++ dktX5_advance_11
def dkwX5_advance_9 : List UInt8 := [182, 0, 36, 146, 182, 0, 75, 87, 42, 89, 180, 0, 33, 4, 96, 181, 0, 33, 167, 255, 204, 42, 89]
abbrev dktX5_advance_9 : List UInt8 := dkwX5_advance_9 ++ dktX5_advance_10
def dkwX5_advance_8 : List UInt8 := [20, 0, 73, 184, 0, 50, 153, 0, 37, 42, 180, 0, 54, 154, 0, 30, 43, 42, 42, 180, 0, 33]
abbrev dktX5_advance_8 : List UInt8 := dkwX5_advance_8 ++ dktX5_advance_9
def dkwX5_advance_7 : List UInt8 := [180, 0, 33, 4, 96, 181, 0, 33, 167, 255, 190, 42, 42, 180, 0, 33, 182, 0, 36, 133, 20, 0, 71]
abbrev dktX5_advance_7 : List UInt8 := dkwX5_advance_7 ++ dktX5_advance_8
def dkwX5_advance_6 : List UInt8 := [180, 0, 43, 104, 42, 42, 180, 0, 33, 182, 0, 36, 96, 16, 48, 100, 184, 0, 65, 181, 0, 43, 42, 89]
abbrev dktX5_advance_6 : List UInt8 := dkwX5_advance_6 ++ dktX5_advance_7
def dkwX5_advance_5 : List UInt8 := [182, 0, 36, 133, 20, 0, 46, 20, 0, 48, 184, 0, 50, 153, 0, 44, 42, 18, 64, 16, 10, 42]
abbrev dktX5_advance_5 : List UInt8 := dkwX5_advance_5 ++ dktX5_advance_6
def dkwX5_advance_4 : List UInt8 := [181, 0, 58, 187, 0, 61, 89, 183, 0, 63, 76, 42, 180, 0, 54, 153, 0, 65, 42, 42, 180, 0, 33]
abbrev dktX5_advance_4 : List UInt8 := dkwX5_advance_4 ++ dktX5_advance_5
def dkwX5_advance_3 : List UInt8 := [181, 0, 54, 42, 42, 42, 180, 0, 33, 182, 0, 36, 16, 59, 160, 0, 7, 4, 167, 0, 4, 3]
abbrev dktX5_advance_3 : List UInt8 := dkwX5_advance_3 ++ dktX5_advance_4
def dkwX5_advance_2 : List UInt8 := [42, 3, 181, 0, 43, 42, 42, 42, 180, 0, 33, 182, 0, 36, 133, 20, 0, 46, 20, 0, 48, 184, 0, 50]
abbrev dktX5_advance_2 : List UInt8 := dkwX5_advance_2 ++ dktX5_advance_3
def dkwX5_advance_1 : List UInt8 := [160, 0, 16, 42, 89, 180, 0, 33, 4, 96, 181, 0, 33, 167, 255, 220, 42, 42, 180, 0, 33, 181, 0, 40]
abbrev dktX5_advance_1 : List UInt8 := dkwX5_advance_1 ++ dktX5_advance_2
def dkwX5_advance_0 : List UInt8 := [42, 42, 180, 0, 33, 182, 0, 36, 16, 32, 159, 0, 16, 42, 42, 180, 0, 33, 182, 0, 36, 16, 10]
abbrev dktX5_advance_0 : List UInt8 := dkwX5_advance_0 ++ dktX5_advance_1
theorem dksX5_advance_0 : cX5_advance.data.toList.drop 0 = dktX5_advance_0 := by decide +kernel
theorem dksX5_advance_1 : cX5_advance.data.toList.drop 23 = dktX5_advance_1 := dk_seg dksX5_advance_0 23 rfl rfl
theorem dksX5_advance_2 : cX5_advance.data.toList.drop 47 = dktX5_advance_2 := dk_seg dksX5_advance_1 24 rfl rfl
theorem dksX5_advance_3 : cX5_advance.data.toList.drop 71 = dktX5_advance_3 := dk_seg dksX5_advance_2 24 rfl rfl
theorem dksX5_advance_4 : cX5_advance.data.toList.drop 93 = dktX5_advance_4 := dk_seg dksX5_advance_3 22 rfl rfl
theorem dksX5_advance_5 : cX5_advance.data.toList.drop 116 = dktX5_advance_5 := dk_seg dksX5_advance_4 23 rfl rfl
theorem dksX5_advance_6 : cX5_advance.data.toList.drop 138 = dktX5_advance_6 := dk_seg dksX5_advance_5 22 rfl rfl
theorem dksX5_advance_7 : cX5_advance.data.toList.drop 162 = dktX5_advance_7 := dk_seg dksX5_advance_6 24 rfl rfl
theorem dksX5_advance_8 : cX5_advance.data.toList.drop 185 = dktX5_advance_8 := dk_seg dksX5_advance_7 23 rfl rfl
theorem dksX5_advance_9 : cX5_advance.data.toList.drop 207 = dktX5_advance_9 := dk_seg dksX5_advance_8 22 rfl rfl
theorem dksX5_advance_10 : cX5_advance.data.toList.drop 230 = dktX5_advance_10 := dk_seg dksX5_advance_9 23 rfl rfl
theorem dksX5_advance_11 : cX5_advance.data.toList.drop 252 = dktX5_advance_11 := dk_seg dksX5_advance_10 22 rfl rfl
theorem dX5_advance_0 : decode cX5_advance 0 = .ok (.aload_n 0, 1) := dk_42 (dk_at dksX5_advance_0 0 rfl rfl)
theorem dX5_advance_1 : decode cX5_advance 1 = .ok (.aload_n 0, 1) := dk_42 (dk_at dksX5_advance_0 1 rfl rfl)
theorem dX5_advance_2 : decode cX5_advance 2 = .ok (.getfield 33, 3) := dk_180 0 33 (dk_at dksX5_advance_0 2 rfl rfl)
theorem dX5_advance_5 : decode cX5_advance 5 = .ok (.invokevirtual 36, 3) := dk_182 0 36 (dk_at dksX5_advance_0 5 rfl rfl)
theorem dX5_advance_8 : decode cX5_advance 8 = .ok (.bipush 32, 2) := dk_16 32 (dk_at dksX5_advance_0 8 rfl rfl)
theorem dX5_advance_10 : decode cX5_advance 10 = .ok (.if_icmp .eq 16, 3) := dk_159 0 16 (dk_at dksX5_advance_0 10 rfl rfl)
theorem dX5_advance_13 : decode cX5_advance 13 = .ok (.aload_n 0, 1) := dk_42 (dk_at dksX5_advance_0 13 rfl rfl)
theorem dX5_advance_14 : decode cX5_advance 14 = .ok (.aload_n 0, 1) := dk_42 (dk_at dksX5_advance_0 14 rfl rfl)
theorem dX5_advance_15 : decode cX5_advance 15 = .ok (.getfield 33, 3) := dk_180 0 33 (dk_at dksX5_advance_0 15 rfl rfl)
theorem dX5_advance_18 : decode cX5_advance 18 = .ok (.invokevirtual 36, 3) := dk_182 0 36 (dk_at dksX5_advance_0 18 rfl rfl)
theorem dX5_advance_21 : decode cX5_advance 21 = .ok (.bipush 10, 2) := dk_16 10 (dk_at dksX5_advance_0 21 rfl rfl)
theorem dX5_advance_23 : decode cX5_advance 23 = .ok (.if_icmp .ne 16, 3) := dk_160 0 16 (dk_at dksX5_advance_1 0 rfl rfl)
theorem dX5_advance_26 : decode cX5_advance 26 = .ok (.aload_n 0, 1) := dk_42 (dk_at dksX5_advance_1 3 rfl rfl)
theorem dX5_advance_27 : decode cX5_advance 27 = .ok (.dup, 1) := dk_89 (dk_at dksX5_advance_1 4 rfl rfl)
theorem dX5_advance_28 : decode cX5_advance 28 = .ok (.getfield 33, 3) := dk_180 0 33 (dk_at dksX5_advance_1 5 rfl rfl)
theorem dX5_advance_31 : decode cX5_advance 31 = .ok (.iconst 1, 1) := dk_4 (dk_at dksX5_advance_1 8 rfl rfl)
theorem dX5_advance_32 : decode cX5_advance 32 = .ok (.iadd, 1) := dk_96 (dk_at dksX5_advance_1 9 rfl rfl)
theorem dX5_advance_33 : decode cX5_advance 33 = .ok (.putfield 33, 3) := dk_181 0 33 (dk_at dksX5_advance_1 10 rfl rfl)
theorem dX5_advance_36 : decode cX5_advance 36 = .ok (.goto (-36), 3) := dk_167 255 220 (dk_at dksX5_advance_1 13 rfl rfl)
theorem dX5_advance_39 : decode cX5_advance 39 = .ok (.aload_n 0, 1) := dk_42 (dk_at dksX5_advance_1 16 rfl rfl)
theorem dX5_advance_40 : decode cX5_advance 40 = .ok (.aload_n 0, 1) := dk_42 (dk_at dksX5_advance_1 17 rfl rfl)
theorem dX5_advance_41 : decode cX5_advance 41 = .ok (.getfield 33, 3) := dk_180 0 33 (dk_at dksX5_advance_1 18 rfl rfl)
theorem dX5_advance_44 : decode cX5_advance 44 = .ok (.putfield 40, 3) := dk_181 0 40 (dk_at dksX5_advance_1 21 rfl rfl)
theorem dX5_advance_47 : decode cX5_advance 47 = .ok (.aload_n 0, 1) := dk_42 (dk_at dksX5_advance_2 0 rfl rfl)
theorem dX5_advance_48 : decode cX5_advance 48 = .ok (.iconst 0, 1) := dk_3 (dk_at dksX5_advance_2 1 rfl rfl)
theorem dX5_advance_49 : decode cX5_advance 49 = .ok (.putfield 43, 3) := dk_181 0 43 (dk_at dksX5_advance_2 2 rfl rfl)
theorem dX5_advance_52 : decode cX5_advance 52 = .ok (.aload_n 0, 1) := dk_42 (dk_at dksX5_advance_2 5 rfl rfl)
theorem dX5_advance_53 : decode cX5_advance 53 = .ok (.aload_n 0, 1) := dk_42 (dk_at dksX5_advance_2 6 rfl rfl)
theorem dX5_advance_54 : decode cX5_advance 54 = .ok (.aload_n 0, 1) := dk_42 (dk_at dksX5_advance_2 7 rfl rfl)
theorem dX5_advance_55 : decode cX5_advance 55 = .ok (.getfield 33, 3) := dk_180 0 33 (dk_at dksX5_advance_2 8 rfl rfl)
theorem dX5_advance_58 : decode cX5_advance 58 = .ok (.invokevirtual 36, 3) := dk_182 0 36 (dk_at dksX5_advance_2 11 rfl rfl)
theorem dX5_advance_61 : decode cX5_advance 61 = .ok (.i2l, 1) := dk_133 (dk_at dksX5_advance_2 14 rfl rfl)
theorem dX5_advance_62 : decode cX5_advance 62 = .ok (.ldc2_w 46, 3) := dk_20 0 46 (dk_at dksX5_advance_2 15 rfl rfl)
theorem dX5_advance_65 : decode cX5_advance 65 = .ok (.ldc2_w 48, 3) := dk_20 0 48 (dk_at dksX5_advance_2 18 rfl rfl)
theorem dX5_advance_68 : decode cX5_advance 68 = .ok (.invokestatic 50, 3) := dk_184 0 50 (dk_at dksX5_advance_2 21 rfl rfl)
theorem dX5_advance_71 : decode cX5_advance 71 = .ok (.putfield 54, 3) := dk_181 0 54 (dk_at dksX5_advance_3 0 rfl rfl)
theorem dX5_advance_74 : decode cX5_advance 74 = .ok (.aload_n 0, 1) := dk_42 (dk_at dksX5_advance_3 3 rfl rfl)
theorem dX5_advance_75 : decode cX5_advance 75 = .ok (.aload_n 0, 1) := dk_42 (dk_at dksX5_advance_3 4 rfl rfl)
theorem dX5_advance_76 : decode cX5_advance 76 = .ok (.aload_n 0, 1) := dk_42 (dk_at dksX5_advance_3 5 rfl rfl)
theorem dX5_advance_77 : decode cX5_advance 77 = .ok (.getfield 33, 3) := dk_180 0 33 (dk_at dksX5_advance_3 6 rfl rfl)
theorem dX5_advance_80 : decode cX5_advance 80 = .ok (.invokevirtual 36, 3) := dk_182 0 36 (dk_at dksX5_advance_3 9 rfl rfl)
theorem dX5_advance_83 : decode cX5_advance 83 = .ok (.bipush 59, 2) := dk_16 59 (dk_at dksX5_advance_3 12 rfl rfl)
theorem dX5_advance_85 : decode cX5_advance 85 = .ok (.if_icmp .ne 7, 3) := dk_160 0 7 (dk_at dksX5_advance_3 14 rfl rfl)
theorem dX5_advance_88 : decode cX5_advance 88 = .ok (.iconst 1, 1) := dk_4 (dk_at dksX5_advance_3 17 rfl rfl)
theorem dX5_advance_89 : decode cX5_advance 89 = .ok (.goto 4, 3) := dk_167 0 4 (dk_at dksX5_advance_3 18 rfl rfl)
theorem dX5_advance_92 : decode cX5_advance 92 = .ok (.iconst 0, 1) := dk_3 (dk_at dksX5_advance_3 21 rfl rfl)
theorem dX5_advance_93 : decode cX5_advance 93 = .ok (.putfield 58, 3) := dk_181 0 58 (dk_at dksX5_advance_4 0 rfl rfl)
theorem dX5_advance_96 : decode cX5_advance 96 = .ok (.new 61, 3) := dk_187 0 61 (dk_at dksX5_advance_4 3 rfl rfl)
theorem dX5_advance_99 : decode cX5_advance 99 = .ok (.dup, 1) := dk_89 (dk_at dksX5_advance_4 6 rfl rfl)
theorem dX5_advance_100 : decode cX5_advance 100 = .ok (.invokespecial 63, 3) := dk_183 0 63 (dk_at dksX5_advance_4 7 rfl rfl)
theorem dX5_advance_103 : decode cX5_advance 103 = .ok (.astore_n 1, 1) := dk_76 (dk_at dksX5_advance_4 10 rfl rfl)
theorem dX5_advance_104 : decode cX5_advance 104 = .ok (.aload_n 0, 1) := dk_42 (dk_at dksX5_advance_4 11 rfl rfl)
theorem dX5_advance_105 : decode cX5_advance 105 = .ok (.getfield 54, 3) := dk_180 0 54 (dk_at dksX5_advance_4 12 rfl rfl)
theorem dX5_advance_108 : decode cX5_advance 108 = .ok (.ifCond .eq 65, 3) := dk_153 0 65 (dk_at dksX5_advance_4 15 rfl rfl)
theorem dX5_advance_111 : decode cX5_advance 111 = .ok (.aload_n 0, 1) := dk_42 (dk_at dksX5_advance_4 18 rfl rfl)
theorem dX5_advance_112 : decode cX5_advance 112 = .ok (.aload_n 0, 1) := dk_42 (dk_at dksX5_advance_4 19 rfl rfl)
theorem dX5_advance_113 : decode cX5_advance 113 = .ok (.getfield 33, 3) := dk_180 0 33 (dk_at dksX5_advance_4 20 rfl rfl)
theorem dX5_advance_116 : decode cX5_advance 116 = .ok (.invokevirtual 36, 3) := dk_182 0 36 (dk_at dksX5_advance_5 0 rfl rfl)
theorem dX5_advance_119 : decode cX5_advance 119 = .ok (.i2l, 1) := dk_133 (dk_at dksX5_advance_5 3 rfl rfl)
theorem dX5_advance_120 : decode cX5_advance 120 = .ok (.ldc2_w 46, 3) := dk_20 0 46 (dk_at dksX5_advance_5 4 rfl rfl)
theorem dX5_advance_123 : decode cX5_advance 123 = .ok (.ldc2_w 48, 3) := dk_20 0 48 (dk_at dksX5_advance_5 7 rfl rfl)
theorem dX5_advance_126 : decode cX5_advance 126 = .ok (.invokestatic 50, 3) := dk_184 0 50 (dk_at dksX5_advance_5 10 rfl rfl)
theorem dX5_advance_129 : decode cX5_advance 129 = .ok (.ifCond .eq 44, 3) := dk_153 0 44 (dk_at dksX5_advance_5 13 rfl rfl)
theorem dX5_advance_132 : decode cX5_advance 132 = .ok (.aload_n 0, 1) := dk_42 (dk_at dksX5_advance_5 16 rfl rfl)
theorem dX5_advance_133 : decode cX5_advance 133 = .ok (.ldc 64, 2) := dk_18 64 (dk_at dksX5_advance_5 17 rfl rfl)
theorem dX5_advance_135 : decode cX5_advance 135 = .ok (.bipush 10, 2) := dk_16 10 (dk_at dksX5_advance_5 19 rfl rfl)
theorem dX5_advance_137 : decode cX5_advance 137 = .ok (.aload_n 0, 1) := dk_42 (dk_at dksX5_advance_5 21 rfl rfl)
theorem dX5_advance_138 : decode cX5_advance 138 = .ok (.getfield 43, 3) := dk_180 0 43 (dk_at dksX5_advance_6 0 rfl rfl)
theorem dX5_advance_141 : decode cX5_advance 141 = .ok (.imul, 1) := dk_104 (dk_at dksX5_advance_6 3 rfl rfl)
theorem dX5_advance_142 : decode cX5_advance 142 = .ok (.aload_n 0, 1) := dk_42 (dk_at dksX5_advance_6 4 rfl rfl)
theorem dX5_advance_143 : decode cX5_advance 143 = .ok (.aload_n 0, 1) := dk_42 (dk_at dksX5_advance_6 5 rfl rfl)
theorem dX5_advance_144 : decode cX5_advance 144 = .ok (.getfield 33, 3) := dk_180 0 33 (dk_at dksX5_advance_6 6 rfl rfl)
theorem dX5_advance_147 : decode cX5_advance 147 = .ok (.invokevirtual 36, 3) := dk_182 0 36 (dk_at dksX5_advance_6 9 rfl rfl)
theorem dX5_advance_150 : decode cX5_advance 150 = .ok (.iadd, 1) := dk_96 (dk_at dksX5_advance_6 12 rfl rfl)
theorem dX5_advance_151 : decode cX5_advance 151 = .ok (.bipush 48, 2) := dk_16 48 (dk_at dksX5_advance_6 13 rfl rfl)
theorem dX5_advance_153 : decode cX5_advance 153 = .ok (.isub, 1) := dk_100 (dk_at dksX5_advance_6 15 rfl rfl)
theorem dX5_advance_154 : decode cX5_advance 154 = .ok (.invokestatic 65, 3) := dk_184 0 65 (dk_at dksX5_advance_6 16 rfl rfl)
theorem dX5_advance_157 : decode cX5_advance 157 = .ok (.putfield 43, 3) := dk_181 0 43 (dk_at dksX5_advance_6 19 rfl rfl)
theorem dX5_advance_160 : decode cX5_advance 160 = .ok (.aload_n 0, 1) := dk_42 (dk_at dksX5_advance_6 22 rfl rfl)
theorem dX5_advance_161 : decode cX5_advance 161 = .ok (.dup, 1) := dk_89 (dk_at dksX5_advance_6 23 rfl rfl)
theorem dX5_advance_162 : decode cX5_advance 162 = .ok (.getfield 33, 3) := dk_180 0 33 (dk_at dksX5_advance_7 0 rfl rfl)
theorem dX5_advance_165 : decode cX5_advance 165 = .ok (.iconst 1, 1) := dk_4 (dk_at dksX5_advance_7 3 rfl rfl)
theorem dX5_advance_166 : decode cX5_advance 166 = .ok (.iadd, 1) := dk_96 (dk_at dksX5_advance_7 4 rfl rfl)
theorem dX5_advance_167 : decode cX5_advance 167 = .ok (.putfield 33, 3) := dk_181 0 33 (dk_at dksX5_advance_7 5 rfl rfl)
theorem dX5_advance_170 : decode cX5_advance 170 = .ok (.goto (-66), 3) := dk_167 255 190 (dk_at dksX5_advance_7 8 rfl rfl)
theorem dX5_advance_173 : decode cX5_advance 173 = .ok (.aload_n 0, 1) := dk_42 (dk_at dksX5_advance_7 11 rfl rfl)
theorem dX5_advance_174 : decode cX5_advance 174 = .ok (.aload_n 0, 1) := dk_42 (dk_at dksX5_advance_7 12 rfl rfl)
theorem dX5_advance_175 : decode cX5_advance 175 = .ok (.getfield 33, 3) := dk_180 0 33 (dk_at dksX5_advance_7 13 rfl rfl)
theorem dX5_advance_178 : decode cX5_advance 178 = .ok (.invokevirtual 36, 3) := dk_182 0 36 (dk_at dksX5_advance_7 16 rfl rfl)
theorem dX5_advance_181 : decode cX5_advance 181 = .ok (.i2l, 1) := dk_133 (dk_at dksX5_advance_7 19 rfl rfl)
theorem dX5_advance_182 : decode cX5_advance 182 = .ok (.ldc2_w 71, 3) := dk_20 0 71 (dk_at dksX5_advance_7 20 rfl rfl)
theorem dX5_advance_185 : decode cX5_advance 185 = .ok (.ldc2_w 73, 3) := dk_20 0 73 (dk_at dksX5_advance_8 0 rfl rfl)
theorem dX5_advance_188 : decode cX5_advance 188 = .ok (.invokestatic 50, 3) := dk_184 0 50 (dk_at dksX5_advance_8 3 rfl rfl)
theorem dX5_advance_191 : decode cX5_advance 191 = .ok (.ifCond .eq 37, 3) := dk_153 0 37 (dk_at dksX5_advance_8 6 rfl rfl)
theorem dX5_advance_194 : decode cX5_advance 194 = .ok (.aload_n 0, 1) := dk_42 (dk_at dksX5_advance_8 9 rfl rfl)
theorem dX5_advance_195 : decode cX5_advance 195 = .ok (.getfield 54, 3) := dk_180 0 54 (dk_at dksX5_advance_8 10 rfl rfl)
theorem dX5_advance_198 : decode cX5_advance 198 = .ok (.ifCond .ne 30, 3) := dk_154 0 30 (dk_at dksX5_advance_8 13 rfl rfl)
theorem dX5_advance_201 : decode cX5_advance 201 = .ok (.aload_n 1, 1) := dk_43 (dk_at dksX5_advance_8 16 rfl rfl)
theorem dX5_advance_202 : decode cX5_advance 202 = .ok (.aload_n 0, 1) := dk_42 (dk_at dksX5_advance_8 17 rfl rfl)
theorem dX5_advance_203 : decode cX5_advance 203 = .ok (.aload_n 0, 1) := dk_42 (dk_at dksX5_advance_8 18 rfl rfl)
theorem dX5_advance_204 : decode cX5_advance 204 = .ok (.getfield 33, 3) := dk_180 0 33 (dk_at dksX5_advance_8 19 rfl rfl)
theorem dX5_advance_207 : decode cX5_advance 207 = .ok (.invokevirtual 36, 3) := dk_182 0 36 (dk_at dksX5_advance_9 0 rfl rfl)
theorem dX5_advance_210 : decode cX5_advance 210 = .ok (.i2c, 1) := dk_146 (dk_at dksX5_advance_9 3 rfl rfl)
theorem dX5_advance_211 : decode cX5_advance 211 = .ok (.invokevirtual 75, 3) := dk_182 0 75 (dk_at dksX5_advance_9 4 rfl rfl)
theorem dX5_advance_214 : decode cX5_advance 214 = .ok (.pop, 1) := dk_87 (dk_at dksX5_advance_9 7 rfl rfl)
theorem dX5_advance_215 : decode cX5_advance 215 = .ok (.aload_n 0, 1) := dk_42 (dk_at dksX5_advance_9 8 rfl rfl)
theorem dX5_advance_216 : decode cX5_advance 216 = .ok (.dup, 1) := dk_89 (dk_at dksX5_advance_9 9 rfl rfl)
theorem dX5_advance_217 : decode cX5_advance 217 = .ok (.getfield 33, 3) := dk_180 0 33 (dk_at dksX5_advance_9 10 rfl rfl)
theorem dX5_advance_220 : decode cX5_advance 220 = .ok (.iconst 1, 1) := dk_4 (dk_at dksX5_advance_9 13 rfl rfl)
theorem dX5_advance_221 : decode cX5_advance 221 = .ok (.iadd, 1) := dk_96 (dk_at dksX5_advance_9 14 rfl rfl)
theorem dX5_advance_222 : decode cX5_advance 222 = .ok (.putfield 33, 3) := dk_181 0 33 (dk_at dksX5_advance_9 15 rfl rfl)
theorem dX5_advance_225 : decode cX5_advance 225 = .ok (.goto (-52), 3) := dk_167 255 204 (dk_at dksX5_advance_9 18 rfl rfl)
theorem dX5_advance_228 : decode cX5_advance 228 = .ok (.aload_n 0, 1) := dk_42 (dk_at dksX5_advance_9 21 rfl rfl)
theorem dX5_advance_229 : decode cX5_advance 229 = .ok (.dup, 1) := dk_89 (dk_at dksX5_advance_9 22 rfl rfl)
theorem dX5_advance_230 : decode cX5_advance 230 = .ok (.getfield 33, 3) := dk_180 0 33 (dk_at dksX5_advance_10 0 rfl rfl)
theorem dX5_advance_233 : decode cX5_advance 233 = .ok (.aload_n 0, 1) := dk_42 (dk_at dksX5_advance_10 3 rfl rfl)
theorem dX5_advance_234 : decode cX5_advance 234 = .ok (.getfield 33, 3) := dk_180 0 33 (dk_at dksX5_advance_10 4 rfl rfl)
theorem dX5_advance_237 : decode cX5_advance 237 = .ok (.aload_n 0, 1) := dk_42 (dk_at dksX5_advance_10 7 rfl rfl)
theorem dX5_advance_238 : decode cX5_advance 238 = .ok (.getfield 40, 3) := dk_180 0 40 (dk_at dksX5_advance_10 8 rfl rfl)
theorem dX5_advance_241 : decode cX5_advance 241 = .ok (.if_icmp .ne 18, 3) := dk_160 0 18 (dk_at dksX5_advance_10 11 rfl rfl)
theorem dX5_advance_244 : decode cX5_advance 244 = .ok (.aload_n 0, 1) := dk_42 (dk_at dksX5_advance_10 14 rfl rfl)
theorem dX5_advance_245 : decode cX5_advance 245 = .ok (.getfield 33, 3) := dk_180 0 33 (dk_at dksX5_advance_10 15 rfl rfl)
theorem dX5_advance_248 : decode cX5_advance 248 = .ok (.aload_n 0, 1) := dk_42 (dk_at dksX5_advance_10 18 rfl rfl)
theorem dX5_advance_249 : decode cX5_advance 249 = .ok (.getfield 22, 3) := dk_180 0 22 (dk_at dksX5_advance_10 19 rfl rfl)
theorem dX5_advance_252 : decode cX5_advance 252 = .ok (.if_icmp .ge 7, 3) := dk_162 0 7 (dk_at dksX5_advance_11 0 rfl rfl)
theorem dX5_advance_255 : decode cX5_advance 255 = .ok (.iconst 1, 1) := dk_4 (dk_at dksX5_advance_11 3 rfl rfl)
theorem dX5_advance_256 : decode cX5_advance 256 = .ok (.goto 4, 3) := dk_167 0 4 (dk_at dksX5_advance_11 4 rfl rfl)
theorem dX5_advance_259 : decode cX5_advance 259 = .ok (.iconst 0, 1) := dk_3 (dk_at dksX5_advance_11 7 rfl rfl)
theorem dX5_advance_260 : decode cX5_advance 260 = .ok (.iadd, 1) := dk_96 (dk_at dksX5_advance_11 8 rfl rfl)
theorem dX5_advance_261 : decode cX5_advance 261 = .ok (.putfield 33, 3) := dk_181 0 33 (dk_at dksX5_advance_11 9 rfl rfl)
theorem dX5_advance_264 : decode cX5_advance 264 = .ok (.aload_n 0, 1) := dk_42 (dk_at dksX5_advance_11 12 rfl rfl)
theorem dX5_advance_265 : decode cX5_advance 265 = .ok (.aload_n 1, 1) := dk_43 (dk_at dksX5_advance_11 13 rfl rfl)
theorem dX5_advance_266 : decode cX5_advance 266 = .ok (.invokestatic 79, 3) := dk_184 0 79 (dk_at dksX5_advance_11 14 rfl rfl)
theorem dX5_advance_269 : decode cX5_advance 269 = .ok (.putfield 83, 3) := dk_181 0 83 (dk_at dksX5_advance_11 17 rfl rfl)
theorem dX5_advance_272 : decode cX5_advance 272 = .ok (.return_, 1) := dk_177 (dk_at dksX5_advance_11 20 rfl rfl)
theorem c_408_0 : LkP (OkP 408) [(0, o_aload 0 1), (1, o_aload 0 1), (2, o_get 45), (5, o_cv [(9, 409)] 1 3 false none), (8, o_push 2 (.int 32)), (10, o_icmp (fun x y => decide (x = y)) 26), (13, o_aload 0 1), (14, o_aload 0 1), (15, o_get 45), (18, o_cv [(9, 409)] 1 3 false none), (21, o_push 2 (.int 10)), (23, o_icmp (fun x y => decide (¬ x = y)) 39), (26, o_aload 0 1), (27, o_dup), (28, o_get 45), (31, o_push 1 (.int 1)), (32, o_iop (fun x y => x + y)), (33, o_put 45 1), (36, o_goto 0), (39, o_aload 0 1), (40, o_aload 0 1), (41, o_get 45), (44, o_put 46 1), (47, o_aload 0 1), (48, o_push 1 (.int 0)), (49, o_put 49 1), (52, o_aload 0 1), (53, o_aload 0 1), (54, o_aload 0 1), (55, o_get 45), (58, o_cv [(9, 409)] 1 3 false none), (61, o_i2l), (62, o_push 3 (.long 48))] := lkp_c (P := OkP 408) ⟨(PuOK.ok (ok_aload_n dX5_advance_0 rfl)), m_aload⟩ (
  lkp_c (P := OkP 408) ⟨(PuOK.ok (ok_aload_n dX5_advance_1 rfl)), m_aload⟩ (
  lkp_c (P := OkP 408) ⟨ok_get ⟨"TollRoad$Parser", q1341, Or.inl rfl⟩ dX5_advance_2, m_get⟩ (
  lkp_c (P := OkP 408) ⟨ok_cv (List.forall_mem_cons.mpr ⟨tg_V (ci := 9) (r := CLr 9) (y := 409) rfl ⟨rfl, by decide⟩ rfl q1277 q1279 qs3 q141 q1280 ⟨cn_38.1, cn_38.2, pd_48⟩ dX5_advance_5, (List.forall_mem_nil _)⟩) hd_no, m_cv⟩ (
  lkp_c (P := OkP 408) ⟨(PuOK.ok (ok_bipush dX5_advance_8 rfl)), m_push⟩ (
  lkp_c (P := OkP 408) ⟨(PuOK.ok (ok_icmp_eq dX5_advance_10 rfl)), m_icmp⟩ (
  lkp_c (P := OkP 408) ⟨(PuOK.ok (ok_aload_n dX5_advance_13 rfl)), m_aload⟩ (
  lkp_c (P := OkP 408) ⟨(PuOK.ok (ok_aload_n dX5_advance_14 rfl)), m_aload⟩ (
  lkp_c (P := OkP 408) ⟨ok_get ⟨"TollRoad$Parser", q1341, Or.inl rfl⟩ dX5_advance_15, m_get⟩ (
  lkp_c (P := OkP 408) ⟨ok_cv (List.forall_mem_cons.mpr ⟨tg_V (ci := 9) (r := CLr 9) (y := 409) rfl ⟨rfl, by decide⟩ rfl q1277 q1279 qs3 q141 q1280 ⟨cn_38.1, cn_38.2, pd_48⟩ dX5_advance_18, (List.forall_mem_nil _)⟩) hd_no, m_cv⟩ (
  lkp_c (P := OkP 408) ⟨(PuOK.ok (ok_bipush dX5_advance_21 rfl)), m_push⟩ (
  lkp_c (P := OkP 408) ⟨(PuOK.ok (ok_icmp_ne dX5_advance_23 rfl)), m_icmp⟩ (
  lkp_c (P := OkP 408) ⟨(PuOK.ok (ok_aload_n dX5_advance_26 rfl)), m_aload⟩ (
  lkp_c (P := OkP 408) ⟨(PuOK.ok (ok_dup dX5_advance_27)), m_dup⟩ (
  lkp_c (P := OkP 408) ⟨ok_get ⟨"TollRoad$Parser", q1341, Or.inl rfl⟩ dX5_advance_28, m_get⟩ (
  lkp_c (P := OkP 408) ⟨(PuOK.ok (ok_iconst dX5_advance_31 rfl)), m_push⟩ (
  lkp_c (P := OkP 408) ⟨(PuOK.ok (ok_iadd dX5_advance_32)), m_iop⟩ (
  lkp_c (P := OkP 408) ⟨ok_put ⟨"TollRoad$Parser", q1341, Or.inl rfl⟩ rfl fd_45 rfl dX5_advance_33, m_put⟩ (
  lkp_c (P := OkP 408) ⟨(PuOK.ok (ok_goto dX5_advance_36 rfl)), m_goto⟩ (
  lkp_c (P := OkP 408) ⟨(PuOK.ok (ok_aload_n dX5_advance_39 rfl)), m_aload⟩ (
  lkp_c (P := OkP 408) ⟨(PuOK.ok (ok_aload_n dX5_advance_40 rfl)), m_aload⟩ (
  lkp_c (P := OkP 408) ⟨ok_get ⟨"TollRoad$Parser", q1341, Or.inl rfl⟩ dX5_advance_41, m_get⟩ (
  lkp_c (P := OkP 408) ⟨ok_put ⟨"TollRoad$Parser", q1342, Or.inl rfl⟩ rfl fd_46 rfl dX5_advance_44, m_put⟩ (
  lkp_c (P := OkP 408) ⟨(PuOK.ok (ok_aload_n dX5_advance_47 rfl)), m_aload⟩ (
  lkp_c (P := OkP 408) ⟨(PuOK.ok (ok_iconst dX5_advance_48 rfl)), m_push⟩ (
  lkp_c (P := OkP 408) ⟨ok_put ⟨"TollRoad$Parser", q1345, Or.inl rfl⟩ rfl fd_49 rfl dX5_advance_49, m_put⟩ (
  lkp_c (P := OkP 408) ⟨(PuOK.ok (ok_aload_n dX5_advance_52 rfl)), m_aload⟩ (
  lkp_c (P := OkP 408) ⟨(PuOK.ok (ok_aload_n dX5_advance_53 rfl)), m_aload⟩ (
  lkp_c (P := OkP 408) ⟨(PuOK.ok (ok_aload_n dX5_advance_54 rfl)), m_aload⟩ (
  lkp_c (P := OkP 408) ⟨ok_get ⟨"TollRoad$Parser", q1341, Or.inl rfl⟩ dX5_advance_55, m_get⟩ (
  lkp_c (P := OkP 408) ⟨ok_cv (List.forall_mem_cons.mpr ⟨tg_V (ci := 9) (r := CLr 9) (y := 409) rfl ⟨rfl, by decide⟩ rfl q1277 q1279 qs3 q141 q1280 ⟨cn_38.1, cn_38.2, pd_48⟩ dX5_advance_58, (List.forall_mem_nil _)⟩) hd_no, m_cv⟩ (
  lkp_c (P := OkP 408) ⟨(PuOK.ok (ok_i2l dX5_advance_61)), m_i2l⟩ (
  lkp_c (P := OkP 408) ⟨(PuOK.ok (ok_ldc2 q1281 dX5_advance_62)), m_push⟩ (
  trivial)))))))))))))))))))))))))))))))))
theorem c_408_1 : LkP (OkP 408) [(65, o_push 3 (.long 57)), (68, o_cs 165 3 false none), (71, o_put 47 5), (74, o_aload 0 1), (75, o_aload 0 1), (76, o_aload 0 1), (77, o_get 45), (80, o_cv [(9, 409)] 1 3 false none), (83, o_push 2 (.int 59)), (85, o_icmp (fun x y => decide (¬ x = y)) 92), (88, o_push 1 (.int 1)), (89, o_goto 93), (92, o_push 1 (.int 0)), (93, o_put 48 5), (96, o_new 4 4 dv4), (99, o_dup), (100, o_ci 111 0), (103, o_astore 1 1), (104, o_aload 0 1), (105, o_get 47), (108, o_if (fun x => decide (x = 0)) 173), (111, o_aload 0 1), (112, o_aload 0 1), (113, o_get 45), (116, o_cv [(9, 409)] 1 3 false none), (119, o_i2l), (120, o_push 3 (.long 48)), (123, o_push 3 (.long 57)), (126, o_cs 165 3 false none)] := lkp_c (P := OkP 408) ⟨(PuOK.ok (ok_ldc2 q1282 dX5_advance_65)), m_push⟩ (
  lkp_c (P := OkP 408) ⟨ok_cs (tg_SN ⟨rfl, by decide⟩ q1283 q1284 q115 q1285 ⟨cn_33.1, cn_33.2, pd_74⟩ dX5_advance_68) hd_no, m_cs⟩ (
  lkp_c (P := OkP 408) ⟨ok_put ⟨"TollRoad$Parser", q1343, Or.inl rfl⟩ rfl fd_47 rfl dX5_advance_71, m_put⟩ (
  lkp_c (P := OkP 408) ⟨(PuOK.ok (ok_aload_n dX5_advance_74 rfl)), m_aload⟩ (
  lkp_c (P := OkP 408) ⟨(PuOK.ok (ok_aload_n dX5_advance_75 rfl)), m_aload⟩ (
  lkp_c (P := OkP 408) ⟨(PuOK.ok (ok_aload_n dX5_advance_76 rfl)), m_aload⟩ (
  lkp_c (P := OkP 408) ⟨ok_get ⟨"TollRoad$Parser", q1341, Or.inl rfl⟩ dX5_advance_77, m_get⟩ (
  lkp_c (P := OkP 408) ⟨ok_cv (List.forall_mem_cons.mpr ⟨tg_V (ci := 9) (r := CLr 9) (y := 409) rfl ⟨rfl, by decide⟩ rfl q1277 q1279 qs3 q141 q1280 ⟨cn_38.1, cn_38.2, pd_48⟩ dX5_advance_80, (List.forall_mem_nil _)⟩) hd_no, m_cv⟩ (
  lkp_c (P := OkP 408) ⟨(PuOK.ok (ok_bipush dX5_advance_83 rfl)), m_push⟩ (
  lkp_c (P := OkP 408) ⟨(PuOK.ok (ok_icmp_ne dX5_advance_85 rfl)), m_icmp⟩ (
  lkp_c (P := OkP 408) ⟨(PuOK.ok (ok_iconst dX5_advance_88 rfl)), m_push⟩ (
  lkp_c (P := OkP 408) ⟨(PuOK.ok (ok_goto dX5_advance_89 rfl)), m_goto⟩ (
  lkp_c (P := OkP 408) ⟨(PuOK.ok (ok_iconst dX5_advance_92 rfl)), m_push⟩ (
  lkp_c (P := OkP 408) ⟨ok_put ⟨"TollRoad$Parser", q1344, Or.inl rfl⟩ rfl fd_48 rfl dX5_advance_93, m_put⟩ (
  lkp_c (P := OkP 408) ⟨ok_new (ci := 4) (r := CLr 4) rfl dvok_4 q1286 q301 q126 dX5_advance_96, m_new⟩ (
  lkp_c (P := OkP 408) ⟨(PuOK.ok (ok_dup dX5_advance_99)), m_dup⟩ (
  lkp_c (P := OkP 408) ⟨ok_ci (tg_I (rt := none) ⟨rfl, by decide⟩ rfl q1287 q303 q126 q304 ⟨cn_3.1, cn_3.2, pd_0⟩ dX5_advance_100) hd_no, m_ci⟩ (
  lkp_c (P := OkP 408) ⟨(PuOK.ok (ok_astore_n dX5_advance_103 rfl)), m_astore⟩ (
  lkp_c (P := OkP 408) ⟨(PuOK.ok (ok_aload_n dX5_advance_104 rfl)), m_aload⟩ (
  lkp_c (P := OkP 408) ⟨ok_get ⟨"TollRoad$Parser", q1343, Or.inl rfl⟩ dX5_advance_105, m_get⟩ (
  lkp_c (P := OkP 408) ⟨(PuOK.ok (ok_if_eq dX5_advance_108 rfl)), m_if⟩ (
  lkp_c (P := OkP 408) ⟨(PuOK.ok (ok_aload_n dX5_advance_111 rfl)), m_aload⟩ (
  lkp_c (P := OkP 408) ⟨(PuOK.ok (ok_aload_n dX5_advance_112 rfl)), m_aload⟩ (
  lkp_c (P := OkP 408) ⟨ok_get ⟨"TollRoad$Parser", q1341, Or.inl rfl⟩ dX5_advance_113, m_get⟩ (
  lkp_c (P := OkP 408) ⟨ok_cv (List.forall_mem_cons.mpr ⟨tg_V (ci := 9) (r := CLr 9) (y := 409) rfl ⟨rfl, by decide⟩ rfl q1277 q1279 qs3 q141 q1280 ⟨cn_38.1, cn_38.2, pd_48⟩ dX5_advance_116, (List.forall_mem_nil _)⟩) hd_no, m_cv⟩ (
  lkp_c (P := OkP 408) ⟨(PuOK.ok (ok_i2l dX5_advance_119)), m_i2l⟩ (
  lkp_c (P := OkP 408) ⟨(PuOK.ok (ok_ldc2 q1281 dX5_advance_120)), m_push⟩ (
  lkp_c (P := OkP 408) ⟨(PuOK.ok (ok_ldc2 q1282 dX5_advance_123)), m_push⟩ (
  lkp_c (P := OkP 408) ⟨ok_cs (tg_SN ⟨rfl, by decide⟩ q1283 q1284 q115 q1285 ⟨cn_33.1, cn_33.2, pd_74⟩ dX5_advance_126) hd_no, m_cs⟩ (
  trivial)))))))))))))))))))))))))))))
theorem c_408_2 : LkP (OkP 408) [(129, o_if (fun x => decide (x = 0)) 173), (132, o_aload 0 1), (133, o_push 2 (.int 1000000)), (135, o_push 2 (.int 10)), (137, o_aload 0 1), (138, o_get 49), (141, o_iop (fun x y => x * y)), (142, o_aload 0 1), (143, o_aload 0 1), (144, o_get 45), (147, o_cv [(9, 409)] 1 3 false none), (150, o_iop (fun x y => x + y)), (151, o_push 2 (.int 48)), (153, o_iop (fun x y => x - y)), (154, o_cs 7 2 false none), (157, o_put 49 1), (160, o_aload 0 1), (161, o_dup), (162, o_get 45), (165, o_push 1 (.int 1)), (166, o_iop (fun x y => x + y)), (167, o_put 45 1), (170, o_goto 104), (173, o_aload 0 1), (174, o_aload 0 1), (175, o_get 45), (178, o_cv [(9, 409)] 1 3 false none), (181, o_i2l), (182, o_push 3 (.long 97)), (185, o_push 3 (.long 122)), (188, o_cs 165 3 false none), (191, o_if (fun x => decide (x = 0)) 228)] := lkp_c (P := OkP 408) ⟨(PuOK.ok (ok_if_eq dX5_advance_129 rfl)), m_if⟩ (
  lkp_c (P := OkP 408) ⟨(PuOK.ok (ok_aload_n dX5_advance_132 rfl)), m_aload⟩ (
  lkp_c (P := OkP 408) ⟨(PuOK.ok (ok_ldc q1288 dX5_advance_133)), m_push⟩ (
  lkp_c (P := OkP 408) ⟨(PuOK.ok (ok_bipush dX5_advance_135 rfl)), m_push⟩ (
  lkp_c (P := OkP 408) ⟨(PuOK.ok (ok_aload_n dX5_advance_137 rfl)), m_aload⟩ (
  lkp_c (P := OkP 408) ⟨ok_get ⟨"TollRoad$Parser", q1345, Or.inl rfl⟩ dX5_advance_138, m_get⟩ (
  lkp_c (P := OkP 408) ⟨(PuOK.ok (ok_imul dX5_advance_141)), m_iop⟩ (
  lkp_c (P := OkP 408) ⟨(PuOK.ok (ok_aload_n dX5_advance_142 rfl)), m_aload⟩ (
  lkp_c (P := OkP 408) ⟨(PuOK.ok (ok_aload_n dX5_advance_143 rfl)), m_aload⟩ (
  lkp_c (P := OkP 408) ⟨ok_get ⟨"TollRoad$Parser", q1341, Or.inl rfl⟩ dX5_advance_144, m_get⟩ (
  lkp_c (P := OkP 408) ⟨ok_cv (List.forall_mem_cons.mpr ⟨tg_V (ci := 9) (r := CLr 9) (y := 409) rfl ⟨rfl, by decide⟩ rfl q1277 q1279 qs3 q141 q1280 ⟨cn_38.1, cn_38.2, pd_48⟩ dX5_advance_147, (List.forall_mem_nil _)⟩) hd_no, m_cv⟩ (
  lkp_c (P := OkP 408) ⟨(PuOK.ok (ok_iadd dX5_advance_150)), m_iop⟩ (
  lkp_c (P := OkP 408) ⟨(PuOK.ok (ok_bipush dX5_advance_151 rfl)), m_push⟩ (
  lkp_c (P := OkP 408) ⟨(PuOK.ok (ok_isub dX5_advance_153)), m_iop⟩ (
  lkp_c (P := OkP 408) ⟨ok_cs (tg_S ⟨rfl, by decide⟩ q1289 q374 q130 q375 ⟨cn_1.1, cn_1.2, pd_1⟩ dX5_advance_154) hd_no, m_cs⟩ (
  lkp_c (P := OkP 408) ⟨ok_put ⟨"TollRoad$Parser", q1345, Or.inl rfl⟩ rfl fd_49 rfl dX5_advance_157, m_put⟩ (
  lkp_c (P := OkP 408) ⟨(PuOK.ok (ok_aload_n dX5_advance_160 rfl)), m_aload⟩ (
  lkp_c (P := OkP 408) ⟨(PuOK.ok (ok_dup dX5_advance_161)), m_dup⟩ (
  lkp_c (P := OkP 408) ⟨ok_get ⟨"TollRoad$Parser", q1341, Or.inl rfl⟩ dX5_advance_162, m_get⟩ (
  lkp_c (P := OkP 408) ⟨(PuOK.ok (ok_iconst dX5_advance_165 rfl)), m_push⟩ (
  lkp_c (P := OkP 408) ⟨(PuOK.ok (ok_iadd dX5_advance_166)), m_iop⟩ (
  lkp_c (P := OkP 408) ⟨ok_put ⟨"TollRoad$Parser", q1341, Or.inl rfl⟩ rfl fd_45 rfl dX5_advance_167, m_put⟩ (
  lkp_c (P := OkP 408) ⟨(PuOK.ok (ok_goto dX5_advance_170 rfl)), m_goto⟩ (
  lkp_c (P := OkP 408) ⟨(PuOK.ok (ok_aload_n dX5_advance_173 rfl)), m_aload⟩ (
  lkp_c (P := OkP 408) ⟨(PuOK.ok (ok_aload_n dX5_advance_174 rfl)), m_aload⟩ (
  lkp_c (P := OkP 408) ⟨ok_get ⟨"TollRoad$Parser", q1341, Or.inl rfl⟩ dX5_advance_175, m_get⟩ (
  lkp_c (P := OkP 408) ⟨ok_cv (List.forall_mem_cons.mpr ⟨tg_V (ci := 9) (r := CLr 9) (y := 409) rfl ⟨rfl, by decide⟩ rfl q1277 q1279 qs3 q141 q1280 ⟨cn_38.1, cn_38.2, pd_48⟩ dX5_advance_178, (List.forall_mem_nil _)⟩) hd_no, m_cv⟩ (
  lkp_c (P := OkP 408) ⟨(PuOK.ok (ok_i2l dX5_advance_181)), m_i2l⟩ (
  lkp_c (P := OkP 408) ⟨(PuOK.ok (ok_ldc2 q1290 dX5_advance_182)), m_push⟩ (
  lkp_c (P := OkP 408) ⟨(PuOK.ok (ok_ldc2 q1291 dX5_advance_185)), m_push⟩ (
  lkp_c (P := OkP 408) ⟨ok_cs (tg_SN ⟨rfl, by decide⟩ q1283 q1284 q115 q1285 ⟨cn_33.1, cn_33.2, pd_74⟩ dX5_advance_188) hd_no, m_cs⟩ (
  lkp_c (P := OkP 408) ⟨(PuOK.ok (ok_if_eq dX5_advance_191 rfl)), m_if⟩ (
  trivial))))))))))))))))))))))))))))))))
theorem c_408_3 : LkP (OkP 408) [(194, o_aload 0 1), (195, o_get 47), (198, o_if (fun x => decide (¬ x = 0)) 228), (201, o_aload 1 1), (202, o_aload 0 1), (203, o_aload 0 1), (204, o_get 45), (207, o_cv [(9, 409)] 1 3 false none), (210, o_ii (fun x => (x.toUInt32 % 65536).toInt32)), (211, o_cv [(4, 114)] 1 3 false none), (214, o_pop), (215, o_aload 0 1), (216, o_dup), (217, o_get 45), (220, o_push 1 (.int 1)), (221, o_iop (fun x y => x + y)), (222, o_put 45 1), (225, o_goto 173), (228, o_aload 0 1), (229, o_dup), (230, o_get 45), (233, o_aload 0 1), (234, o_get 45), (237, o_aload 0 1), (238, o_get 46), (241, o_icmp (fun x y => decide (¬ x = y)) 259), (244, o_aload 0 1), (245, o_get 45), (248, o_aload 0 1), (249, o_get 43), (252, o_icmp (fun x y => decide (y ≤ x)) 259), (255, o_push 1 (.int 1))] := lkp_c (P := OkP 408) ⟨(PuOK.ok (ok_aload_n dX5_advance_194 rfl)), m_aload⟩ (
  lkp_c (P := OkP 408) ⟨ok_get ⟨"TollRoad$Parser", q1343, Or.inl rfl⟩ dX5_advance_195, m_get⟩ (
  lkp_c (P := OkP 408) ⟨(PuOK.ok (ok_if_ne dX5_advance_198 rfl)), m_if⟩ (
  lkp_c (P := OkP 408) ⟨(PuOK.ok (ok_aload_n dX5_advance_201 rfl)), m_aload⟩ (
  lkp_c (P := OkP 408) ⟨(PuOK.ok (ok_aload_n dX5_advance_202 rfl)), m_aload⟩ (
  lkp_c (P := OkP 408) ⟨(PuOK.ok (ok_aload_n dX5_advance_203 rfl)), m_aload⟩ (
  lkp_c (P := OkP 408) ⟨ok_get ⟨"TollRoad$Parser", q1341, Or.inl rfl⟩ dX5_advance_204, m_get⟩ (
  lkp_c (P := OkP 408) ⟨ok_cv (List.forall_mem_cons.mpr ⟨tg_V (ci := 9) (r := CLr 9) (y := 409) rfl ⟨rfl, by decide⟩ rfl q1277 q1279 qs3 q141 q1280 ⟨cn_38.1, cn_38.2, pd_48⟩ dX5_advance_207, (List.forall_mem_nil _)⟩) hd_no, m_cv⟩ (
  lkp_c (P := OkP 408) ⟨(PuOK.ok (ok_i2c dX5_advance_210)), m_ii⟩ (
  lkp_c (P := OkP 408) ⟨ok_cv (List.forall_mem_cons.mpr ⟨tg_V (ci := 4) (r := CLr 4) (y := 114) rfl ⟨rfl, by decide⟩ rfl q1292 q1293 q1294 q126 q1295 ⟨cn_3.1, cn_3.2, pd_129⟩ dX5_advance_211, (List.forall_mem_nil _)⟩) hd_no, m_cv⟩ (
  lkp_c (P := OkP 408) ⟨(PuOK.ok (ok_pop dX5_advance_214)), m_pop⟩ (
  lkp_c (P := OkP 408) ⟨(PuOK.ok (ok_aload_n dX5_advance_215 rfl)), m_aload⟩ (
  lkp_c (P := OkP 408) ⟨(PuOK.ok (ok_dup dX5_advance_216)), m_dup⟩ (
  lkp_c (P := OkP 408) ⟨ok_get ⟨"TollRoad$Parser", q1341, Or.inl rfl⟩ dX5_advance_217, m_get⟩ (
  lkp_c (P := OkP 408) ⟨(PuOK.ok (ok_iconst dX5_advance_220 rfl)), m_push⟩ (
  lkp_c (P := OkP 408) ⟨(PuOK.ok (ok_iadd dX5_advance_221)), m_iop⟩ (
  lkp_c (P := OkP 408) ⟨ok_put ⟨"TollRoad$Parser", q1341, Or.inl rfl⟩ rfl fd_45 rfl dX5_advance_222, m_put⟩ (
  lkp_c (P := OkP 408) ⟨(PuOK.ok (ok_goto dX5_advance_225 rfl)), m_goto⟩ (
  lkp_c (P := OkP 408) ⟨(PuOK.ok (ok_aload_n dX5_advance_228 rfl)), m_aload⟩ (
  lkp_c (P := OkP 408) ⟨(PuOK.ok (ok_dup dX5_advance_229)), m_dup⟩ (
  lkp_c (P := OkP 408) ⟨ok_get ⟨"TollRoad$Parser", q1341, Or.inl rfl⟩ dX5_advance_230, m_get⟩ (
  lkp_c (P := OkP 408) ⟨(PuOK.ok (ok_aload_n dX5_advance_233 rfl)), m_aload⟩ (
  lkp_c (P := OkP 408) ⟨ok_get ⟨"TollRoad$Parser", q1341, Or.inl rfl⟩ dX5_advance_234, m_get⟩ (
  lkp_c (P := OkP 408) ⟨(PuOK.ok (ok_aload_n dX5_advance_237 rfl)), m_aload⟩ (
  lkp_c (P := OkP 408) ⟨ok_get ⟨"TollRoad$Parser", q1342, Or.inl rfl⟩ dX5_advance_238, m_get⟩ (
  lkp_c (P := OkP 408) ⟨(PuOK.ok (ok_icmp_ne dX5_advance_241 rfl)), m_icmp⟩ (
  lkp_c (P := OkP 408) ⟨(PuOK.ok (ok_aload_n dX5_advance_244 rfl)), m_aload⟩ (
  lkp_c (P := OkP 408) ⟨ok_get ⟨"TollRoad$Parser", q1341, Or.inl rfl⟩ dX5_advance_245, m_get⟩ (
  lkp_c (P := OkP 408) ⟨(PuOK.ok (ok_aload_n dX5_advance_248 rfl)), m_aload⟩ (
  lkp_c (P := OkP 408) ⟨ok_get ⟨"TollRoad$Parser", q1338, Or.inl rfl⟩ dX5_advance_249, m_get⟩ (
  lkp_c (P := OkP 408) ⟨(PuOK.ok (ok_icmp_ge dX5_advance_252 rfl)), m_icmp⟩ (
  lkp_c (P := OkP 408) ⟨(PuOK.ok (ok_iconst dX5_advance_255 rfl)), m_push⟩ (
  trivial))))))))))))))))))))))))))))))))
theorem c_408_4 : LkP (OkP 408) [(256, o_goto 260), (259, o_push 1 (.int 0)), (260, o_iop (fun x y => x + y)), (261, o_put 45 1), (264, o_aload 0 1), (265, o_aload 1 1), (266, o_cs 166 1 false none), (269, o_put 50 1), (272, o_vret)] := lkp_c (P := OkP 408) ⟨(PuOK.ok (ok_goto dX5_advance_256 rfl)), m_goto⟩ (
  lkp_c (P := OkP 408) ⟨(PuOK.ok (ok_iconst dX5_advance_259 rfl)), m_push⟩ (
  lkp_c (P := OkP 408) ⟨(PuOK.ok (ok_iadd dX5_advance_260)), m_iop⟩ (
  lkp_c (P := OkP 408) ⟨ok_put ⟨"TollRoad$Parser", q1341, Or.inl rfl⟩ rfl fd_45 rfl dX5_advance_261, m_put⟩ (
  lkp_c (P := OkP 408) ⟨(PuOK.ok (ok_aload_n dX5_advance_264 rfl)), m_aload⟩ (
  lkp_c (P := OkP 408) ⟨(PuOK.ok (ok_aload_n dX5_advance_265 rfl)), m_aload⟩ (
  lkp_c (P := OkP 408) ⟨ok_cs (tg_SN ⟨rfl, by decide⟩ q1314 q1315 q115 q1316 ⟨cn_33.1, cn_33.2, pd_130⟩ dX5_advance_266) hd_no, m_cs⟩ (
  lkp_c (P := OkP 408) ⟨ok_put ⟨"TollRoad$Parser", q1346, Or.inl rfl⟩ rfl fd_50 rfl dX5_advance_269, m_put⟩ (
  lkp_c (P := OkP 408) ⟨ok_vret rfl dX5_advance_272, m_vret⟩ (
  trivial)))))))))
theorem mt_408 : MtOK TB NT IT 408 := ⟨by decide +kernel, rfl, (fun h => by cases h), Or.inl ⟨rfl, rfl⟩, rfl, by decide, lk2_all (P := OkP 408) ⟨c_408_0, c_408_1, c_408_2, c_408_3, c_408_4, trivial⟩⟩
def dkwX5_byteAt_1 : List UInt8 := [2, 172]
abbrev dktX5_byteAt_1 : List UInt8 := dkwX5_byteAt_1 ++ []
def dkwX5_byteAt_0 : List UInt8 := [27, 42, 180, 0, 22, 162, 0, 19, 42, 180, 0, 3, 180, 0, 29, 27, 51, 17, 0, 255, 126, 167, 0, 4]
abbrev dktX5_byteAt_0 : List UInt8 := dkwX5_byteAt_0 ++ dktX5_byteAt_1
theorem dksX5_byteAt_0 : cX5_byteAt.data.toList.drop 0 = dktX5_byteAt_0 := by decide +kernel
theorem dksX5_byteAt_1 : cX5_byteAt.data.toList.drop 24 = dktX5_byteAt_1 := dk_seg dksX5_byteAt_0 24 rfl rfl
theorem dX5_byteAt_0 : decode cX5_byteAt 0 = .ok (.iload_n 1, 1) := dk_27 (dk_at dksX5_byteAt_0 0 rfl rfl)
theorem dX5_byteAt_1 : decode cX5_byteAt 1 = .ok (.aload_n 0, 1) := dk_42 (dk_at dksX5_byteAt_0 1 rfl rfl)
theorem dX5_byteAt_2 : decode cX5_byteAt 2 = .ok (.getfield 22, 3) := dk_180 0 22 (dk_at dksX5_byteAt_0 2 rfl rfl)
theorem dX5_byteAt_5 : decode cX5_byteAt 5 = .ok (.if_icmp .ge 19, 3) := dk_162 0 19 (dk_at dksX5_byteAt_0 5 rfl rfl)
theorem dX5_byteAt_8 : decode cX5_byteAt 8 = .ok (.aload_n 0, 1) := dk_42 (dk_at dksX5_byteAt_0 8 rfl rfl)
theorem dX5_byteAt_9 : decode cX5_byteAt 9 = .ok (.getfield 3, 3) := dk_180 0 3 (dk_at dksX5_byteAt_0 9 rfl rfl)
theorem dX5_byteAt_12 : decode cX5_byteAt 12 = .ok (.getfield 29, 3) := dk_180 0 29 (dk_at dksX5_byteAt_0 12 rfl rfl)
theorem dX5_byteAt_15 : decode cX5_byteAt 15 = .ok (.iload_n 1, 1) := dk_27 (dk_at dksX5_byteAt_0 15 rfl rfl)
theorem dX5_byteAt_16 : decode cX5_byteAt 16 = .ok (.baload, 1) := dk_51 (dk_at dksX5_byteAt_0 16 rfl rfl)
theorem dX5_byteAt_17 : decode cX5_byteAt 17 = .ok (.sipush 255, 3) := dk_17 0 255 (dk_at dksX5_byteAt_0 17 rfl rfl)
theorem dX5_byteAt_20 : decode cX5_byteAt 20 = .ok (.iand, 1) := dk_126 (dk_at dksX5_byteAt_0 20 rfl rfl)
theorem dX5_byteAt_21 : decode cX5_byteAt 21 = .ok (.goto 4, 3) := dk_167 0 4 (dk_at dksX5_byteAt_0 21 rfl rfl)
theorem dX5_byteAt_24 : decode cX5_byteAt 24 = .ok (.iconst (-1), 1) := dk_2 (dk_at dksX5_byteAt_1 0 rfl rfl)
theorem dX5_byteAt_25 : decode cX5_byteAt 25 = .ok (.ireturn, 1) := dk_172 (dk_at dksX5_byteAt_1 1 rfl rfl)
theorem c_409_0 : LkP (OkP 409) [(0, o_iload 1 1), (1, o_aload 0 1), (2, o_get 43), (5, o_icmp (fun x y => decide (y ≤ x)) 24), (8, o_aload 0 1), (9, o_get 51), (12, o_get 2), (15, o_iload 1 1), (16, o_rdI 1), (17, o_push 3 (.int 255)), (20, o_iop (fun x y => x &&& y)), (21, o_goto 25), (24, o_push 1 (.int (-1))), (25, o_ret 1)] := lkp_c (P := OkP 409) ⟨(PuOK.ok (ok_iload_n dX5_byteAt_0 rfl)), m_iload⟩ (
  lkp_c (P := OkP 409) ⟨(PuOK.ok (ok_aload_n dX5_byteAt_1 rfl)), m_aload⟩ (
  lkp_c (P := OkP 409) ⟨ok_get ⟨"TollRoad$Parser", q1338, Or.inl rfl⟩ dX5_byteAt_2, m_get⟩ (
  lkp_c (P := OkP 409) ⟨(PuOK.ok (ok_icmp_ge dX5_byteAt_5 rfl)), m_icmp⟩ (
  lkp_c (P := OkP 409) ⟨(PuOK.ok (ok_aload_n dX5_byteAt_8 rfl)), m_aload⟩ (
  lkp_c (P := OkP 409) ⟨ok_get ⟨"TollRoad$Parser", q1347, Or.inl rfl⟩ dX5_byteAt_9, m_get⟩ (
  lkp_c (P := OkP 409) ⟨ok_getN ⟨"TollRoad", "TollRoad", q666, Or.inl rfl⟩ dX5_byteAt_12, m_get⟩ (
  lkp_c (P := OkP 409) ⟨(PuOK.ok (ok_iload_n dX5_byteAt_15 rfl)), m_iload⟩ (
  lkp_c (P := OkP 409) ⟨ok_bald dX5_byteAt_16, m_rdI⟩ (
  lkp_c (P := OkP 409) ⟨(PuOK.ok (ok_sipush dX5_byteAt_17 rfl)), m_push⟩ (
  lkp_c (P := OkP 409) ⟨(PuOK.ok (ok_iand dX5_byteAt_20)), m_iop⟩ (
  lkp_c (P := OkP 409) ⟨(PuOK.ok (ok_goto dX5_byteAt_21 rfl)), m_goto⟩ (
  lkp_c (P := OkP 409) ⟨(PuOK.ok (ok_iconst dX5_byteAt_24 rfl)), m_push⟩ (
  lkp_c (P := OkP 409) ⟨ok_iret rfl rfl (by decide) dX5_byteAt_25, m_ret⟩ (
  trivial))))))))))))))
theorem mt_409 : MtOK TB NT IT 409 := ⟨by decide +kernel, rfl, (fun h => by cases h), Or.inl ⟨rfl, rfl⟩, rfl, by decide, lk2_all (P := OkP 409) ⟨c_409_0, trivial⟩⟩
def dkwX5_statements_1 : List UInt8 := [182, 0, 91, 42, 182, 0, 26, 132, 1, 1, 167, 255, 225, 27, 172]
abbrev dktX5_statements_1 : List UInt8 := dkwX5_statements_1 ++ []
def dkwX5_statements_0 : List UInt8 := [3, 60, 42, 180, 0, 40, 42, 180, 0, 22, 162, 0, 26, 42, 182, 0, 98, 42, 42, 180, 0, 58, 4]
abbrev dktX5_statements_0 : List UInt8 := dkwX5_statements_0 ++ dktX5_statements_1
theorem dksX5_statements_0 : cX5_statements.data.toList.drop 0 = dktX5_statements_0 := by decide +kernel
theorem dksX5_statements_1 : cX5_statements.data.toList.drop 23 = dktX5_statements_1 := dk_seg dksX5_statements_0 23 rfl rfl
theorem dX5_statements_0 : decode cX5_statements 0 = .ok (.iconst 0, 1) := dk_3 (dk_at dksX5_statements_0 0 rfl rfl)
theorem dX5_statements_1 : decode cX5_statements 1 = .ok (.istore_n 1, 1) := dk_60 (dk_at dksX5_statements_0 1 rfl rfl)
theorem dX5_statements_2 : decode cX5_statements 2 = .ok (.aload_n 0, 1) := dk_42 (dk_at dksX5_statements_0 2 rfl rfl)
theorem dX5_statements_3 : decode cX5_statements 3 = .ok (.getfield 40, 3) := dk_180 0 40 (dk_at dksX5_statements_0 3 rfl rfl)
theorem dX5_statements_6 : decode cX5_statements 6 = .ok (.aload_n 0, 1) := dk_42 (dk_at dksX5_statements_0 6 rfl rfl)
theorem dX5_statements_7 : decode cX5_statements 7 = .ok (.getfield 22, 3) := dk_180 0 22 (dk_at dksX5_statements_0 7 rfl rfl)
theorem dX5_statements_10 : decode cX5_statements 10 = .ok (.if_icmp .ge 26, 3) := dk_162 0 26 (dk_at dksX5_statements_0 10 rfl rfl)
theorem dX5_statements_13 : decode cX5_statements 13 = .ok (.aload_n 0, 1) := dk_42 (dk_at dksX5_statements_0 13 rfl rfl)
theorem dX5_statements_14 : decode cX5_statements 14 = .ok (.invokevirtual 98, 3) := dk_182 0 98 (dk_at dksX5_statements_0 14 rfl rfl)
theorem dX5_statements_17 : decode cX5_statements 17 = .ok (.aload_n 0, 1) := dk_42 (dk_at dksX5_statements_0 17 rfl rfl)
theorem dX5_statements_18 : decode cX5_statements 18 = .ok (.aload_n 0, 1) := dk_42 (dk_at dksX5_statements_0 18 rfl rfl)
theorem dX5_statements_19 : decode cX5_statements 19 = .ok (.getfield 58, 3) := dk_180 0 58 (dk_at dksX5_statements_0 19 rfl rfl)
theorem dX5_statements_22 : decode cX5_statements 22 = .ok (.iconst 1, 1) := dk_4 (dk_at dksX5_statements_0 22 rfl rfl)
theorem dX5_statements_23 : decode cX5_statements 23 = .ok (.invokevirtual 91, 3) := dk_182 0 91 (dk_at dksX5_statements_1 0 rfl rfl)
theorem dX5_statements_26 : decode cX5_statements 26 = .ok (.aload_n 0, 1) := dk_42 (dk_at dksX5_statements_1 3 rfl rfl)
theorem dX5_statements_27 : decode cX5_statements 27 = .ok (.invokevirtual 26, 3) := dk_182 0 26 (dk_at dksX5_statements_1 4 rfl rfl)
theorem dX5_statements_30 : decode cX5_statements 30 = .ok (.iinc 1 1, 3) := dk_132 1 1 (dk_at dksX5_statements_1 7 rfl rfl)
theorem dX5_statements_33 : decode cX5_statements 33 = .ok (.goto (-31), 3) := dk_167 255 225 (dk_at dksX5_statements_1 10 rfl rfl)
theorem dX5_statements_36 : decode cX5_statements 36 = .ok (.iload_n 1, 1) := dk_27 (dk_at dksX5_statements_1 13 rfl rfl)
theorem dX5_statements_37 : decode cX5_statements 37 = .ok (.ireturn, 1) := dk_172 (dk_at dksX5_statements_1 14 rfl rfl)
theorem c_410_0 : LkP (OkP 410) [(0, o_push 1 (.int 0)), (1, o_istore 1 1), (2, o_aload 0 1), (3, o_get 46), (6, o_aload 0 1), (7, o_get 43), (10, o_icmp (fun x y => decide (y ≤ x)) 36), (13, o_aload 0 1), (14, o_cv [(9, 411)] 0 3 true none), (17, o_aload 0 1), (18, o_aload 0 1), (19, o_get 48), (22, o_push 1 (.int 1)), (23, o_cv [(9, 412)] 2 3 true none), (26, o_aload 0 1), (27, o_cv [(9, 408)] 0 3 true none), (30, o_iinc 1 1), (33, o_goto 2), (36, o_iload 1 1), (37, o_ret 1)] := lkp_c (P := OkP 410) ⟨(PuOK.ok (ok_iconst dX5_statements_0 rfl)), m_push⟩ (
  lkp_c (P := OkP 410) ⟨(PuOK.ok (ok_istore_n dX5_statements_1 rfl)), m_istore⟩ (
  lkp_c (P := OkP 410) ⟨(PuOK.ok (ok_aload_n dX5_statements_2 rfl)), m_aload⟩ (
  lkp_c (P := OkP 410) ⟨ok_get ⟨"TollRoad$Parser", q1342, Or.inl rfl⟩ dX5_statements_3, m_get⟩ (
  lkp_c (P := OkP 410) ⟨(PuOK.ok (ok_aload_n dX5_statements_6 rfl)), m_aload⟩ (
  lkp_c (P := OkP 410) ⟨ok_get ⟨"TollRoad$Parser", q1338, Or.inl rfl⟩ dX5_statements_7, m_get⟩ (
  lkp_c (P := OkP 410) ⟨(PuOK.ok (ok_icmp_ge dX5_statements_10 rfl)), m_icmp⟩ (
  lkp_c (P := OkP 410) ⟨(PuOK.ok (ok_aload_n dX5_statements_13 rfl)), m_aload⟩ (
  lkp_c (P := OkP 410) ⟨ok_cv (List.forall_mem_cons.mpr ⟨tg_V (ci := 9) (r := CLr 9) (y := 411) rfl ⟨rfl, by decide⟩ rfl q1371 q1373 qs4 q141 q1374 ⟨cn_38.1, cn_38.2, pd_0⟩ dX5_statements_14, (List.forall_mem_nil _)⟩) hd_no, m_cv⟩ (
  lkp_c (P := OkP 410) ⟨(PuOK.ok (ok_aload_n dX5_statements_17 rfl)), m_aload⟩ (
  lkp_c (P := OkP 410) ⟨(PuOK.ok (ok_aload_n dX5_statements_18 rfl)), m_aload⟩ (
  lkp_c (P := OkP 410) ⟨ok_get ⟨"TollRoad$Parser", q1344, Or.inl rfl⟩ dX5_statements_19, m_get⟩ (
  lkp_c (P := OkP 410) ⟨(PuOK.ok (ok_iconst dX5_statements_22 rfl)), m_push⟩ (
  lkp_c (P := OkP 410) ⟨ok_cv (List.forall_mem_cons.mpr ⟨tg_V (ci := 9) (r := CLr 9) (y := 412) rfl ⟨rfl, by decide⟩ rfl q1375 q1377 qs5 q141 q1378 ⟨cn_38.1, cn_38.2, pd_124⟩ dX5_statements_23, (List.forall_mem_nil _)⟩) hd_no, m_cv⟩ (
  lkp_c (P := OkP 410) ⟨(PuOK.ok (ok_aload_n dX5_statements_26 rfl)), m_aload⟩ (
  lkp_c (P := OkP 410) ⟨ok_cv (List.forall_mem_cons.mpr ⟨tg_V (ci := 9) (r := CLr 9) (y := 408) rfl ⟨rfl, by decide⟩ rfl q1273 q1275 qs2 q141 q1276 ⟨cn_38.1, cn_38.2, pd_0⟩ dX5_statements_27, (List.forall_mem_nil _)⟩) hd_no, m_cv⟩ (
  lkp_c (P := OkP 410) ⟨(PuOK.ok (ok_iinc dX5_statements_30 rfl)), m_iinc⟩ (
  lkp_c (P := OkP 410) ⟨(PuOK.ok (ok_goto dX5_statements_33 rfl)), m_goto⟩ (
  lkp_c (P := OkP 410) ⟨(PuOK.ok (ok_iload_n dX5_statements_36 rfl)), m_iload⟩ (
  lkp_c (P := OkP 410) ⟨ok_iret rfl rfl (by decide) dX5_statements_37, m_ret⟩ (
  trivial))))))))))))))))))))
theorem mt_410 : MtOK TB NT IT 410 := ⟨by decide +kernel, rfl, (fun h => by cases h), Or.inl ⟨rfl, rfl⟩, rfl, by decide, lk2_all (P := OkP 410) ⟨c_410_0, trivial⟩⟩
def dkwX5_statement_12 : List UInt8 := [167, 0, 16, 187, 0, 86, 89, 4, 42, 180, 0, 40, 183, 0, 88, 191, 177]
abbrev dktX5_statement_12 : List UInt8 := dkwX5_statement_12 ++ []
def dkwX5_statement_11 : List UInt8 := [180, 0, 148, 21, 5, 42, 25, 6, 185, 0, 152, 1, 0, 25, 6, 185, 0, 155, 1, 0, 182, 0, 110, 79]
abbrev dktX5_statement_11 : List UInt8 := dkwX5_statement_11 ++ dktX5_statement_12
def dkwX5_statement_10 : List UInt8 := [182, 0, 26, 42, 3, 16, 7, 182, 0, 110, 54, 5, 21, 5, 184, 0, 142, 58, 6, 42, 180, 0, 18]
abbrev dktX5_statement_10 : List UInt8 := dkwX5_statement_10 ++ dktX5_statement_11
def dkwX5_statement_9 : List UInt8 := [162, 0, 7, 4, 167, 0, 4, 3, 6, 182, 0, 91, 42, 182, 0, 26, 42, 182, 0, 139, 167, 0, 67, 42]
abbrev dktX5_statement_9 : List UInt8 := dkwX5_statement_9 ++ dktX5_statement_10
def dkwX5_statement_8 : List UInt8 := [182, 0, 110, 182, 0, 125, 54, 4, 167, 0, 103, 42, 42, 180, 0, 18, 180, 0, 129, 182, 0, 133, 16, 15]
abbrev dktX5_statement_8 : List UInt8 := dkwX5_statement_8 ++ dktX5_statement_9
def dkwX5_statement_7 : List UInt8 := [182, 0, 110, 61, 42, 3, 16, 50, 182, 0, 110, 62, 42, 180, 0, 18, 28, 29, 42, 3, 16, 50]
abbrev dktX5_statement_7 : List UInt8 := dkwX5_statement_7 ++ dktX5_statement_8
def dkwX5_statement_6 : List UInt8 := [16, 8, 162, 0, 7, 4, 167, 0, 4, 3, 6, 182, 0, 91, 42, 182, 0, 26, 42, 3, 18, 124]
abbrev dktX5_statement_6 : List UInt8 := dkwX5_statement_6 ++ dktX5_statement_7
def dkwX5_statement_5 : List UInt8 := [3, 6, 182, 0, 91, 42, 182, 0, 26, 42, 182, 0, 118, 167, 0, 166, 42, 42, 180, 0, 18, 180, 0, 121]
abbrev dktX5_statement_5 : List UInt8 := dkwX5_statement_5 ++ dktX5_statement_6
def dkwX5_statement_4 : List UInt8 := [60, 167, 0, 202, 42, 42, 180, 0, 18, 180, 0, 101, 180, 0, 115, 16, 40, 162, 0, 7, 4, 167, 0, 4]
abbrev dktX5_statement_4 : List UInt8 := dkwX5_statement_4 ++ dktX5_statement_5
def dkwX5_statement_3 : List UInt8 := [182, 0, 91, 42, 182, 0, 26, 42, 180, 0, 18, 180, 0, 101, 42, 3, 16, 99, 182, 0, 110, 182, 0, 112]
abbrev dktX5_statement_3 : List UInt8 := dkwX5_statement_3 ++ dktX5_statement_4
def dkwX5_statement_2 : List UInt8 := [42, 42, 180, 0, 18, 180, 0, 101, 180, 0, 105, 16, 12, 162, 0, 7, 4, 167, 0, 4, 3, 6]
abbrev dktX5_statement_2 : List UInt8 := dkwX5_statement_2 ++ dktX5_statement_3
def dkwX5_statement_1 : List UInt8 := [170, 0, 0, 0, 0, 0, 1, 16, 0, 0, 0, 0, 0, 0, 0, 4, 0, 0, 0, 36, 0, 0, 0, 86, 0, 0, 0, 122, 0, 0, 0, 185, 0, 0, 0, 221]
abbrev dktX5_statement_1 : List UInt8 := dkwX5_statement_1 ++ dktX5_statement_2
def dkwX5_statement_0 : List UInt8 := [42, 180, 0, 83]
abbrev dktX5_statement_0 : List UInt8 := dkwX5_statement_0 ++ dktX5_statement_1
theorem dksX5_statement_0 : cX5_statement.data.toList.drop 0 = dktX5_statement_0 := by decide +kernel
theorem dksX5_statement_1 : cX5_statement.data.toList.drop 4 = dktX5_statement_1 := dk_seg dksX5_statement_0 4 rfl rfl
theorem dksX5_statement_2 : cX5_statement.data.toList.drop 40 = dktX5_statement_2 := dk_seg dksX5_statement_1 36 rfl rfl
theorem dksX5_statement_3 : cX5_statement.data.toList.drop 62 = dktX5_statement_3 := dk_seg dksX5_statement_2 22 rfl rfl
theorem dksX5_statement_4 : cX5_statement.data.toList.drop 86 = dktX5_statement_4 := dk_seg dksX5_statement_3 24 rfl rfl
theorem dksX5_statement_5 : cX5_statement.data.toList.drop 110 = dktX5_statement_5 := dk_seg dksX5_statement_4 24 rfl rfl
theorem dksX5_statement_6 : cX5_statement.data.toList.drop 134 = dktX5_statement_6 := dk_seg dksX5_statement_5 24 rfl rfl
theorem dksX5_statement_7 : cX5_statement.data.toList.drop 156 = dktX5_statement_7 := dk_seg dksX5_statement_6 22 rfl rfl
theorem dksX5_statement_8 : cX5_statement.data.toList.drop 178 = dktX5_statement_8 := dk_seg dksX5_statement_7 22 rfl rfl
theorem dksX5_statement_9 : cX5_statement.data.toList.drop 202 = dktX5_statement_9 := dk_seg dksX5_statement_8 24 rfl rfl
theorem dksX5_statement_10 : cX5_statement.data.toList.drop 226 = dktX5_statement_10 := dk_seg dksX5_statement_9 24 rfl rfl
theorem dksX5_statement_11 : cX5_statement.data.toList.drop 249 = dktX5_statement_11 := dk_seg dksX5_statement_10 23 rfl rfl
theorem dksX5_statement_12 : cX5_statement.data.toList.drop 273 = dktX5_statement_12 := dk_seg dksX5_statement_11 24 rfl rfl
theorem dX5_statement_0 : decode cX5_statement 0 = .ok (.aload_n 0, 1) := dk_42 (dk_at dksX5_statement_0 0 rfl rfl)
theorem dX5_statement_1 : decode cX5_statement 1 = .ok (.getfield 83, 3) := dk_180 0 83 (dk_at dksX5_statement_0 1 rfl rfl)
theorem dX5_statement_4 : decode cX5_statement 4 = .ok (.tableswitch 272 0 4 #[36, 86, 122, 185, 221], 36) := by decide +kernel
theorem dX5_statement_40 : decode cX5_statement 40 = .ok (.aload_n 0, 1) := dk_42 (dk_at dksX5_statement_2 0 rfl rfl)
theorem dX5_statement_41 : decode cX5_statement 41 = .ok (.aload_n 0, 1) := dk_42 (dk_at dksX5_statement_2 1 rfl rfl)
theorem dX5_statement_42 : decode cX5_statement 42 = .ok (.getfield 18, 3) := dk_180 0 18 (dk_at dksX5_statement_2 2 rfl rfl)
theorem dX5_statement_45 : decode cX5_statement 45 = .ok (.getfield 101, 3) := dk_180 0 101 (dk_at dksX5_statement_2 5 rfl rfl)
theorem dX5_statement_48 : decode cX5_statement 48 = .ok (.getfield 105, 3) := dk_180 0 105 (dk_at dksX5_statement_2 8 rfl rfl)
theorem dX5_statement_51 : decode cX5_statement 51 = .ok (.bipush 12, 2) := dk_16 12 (dk_at dksX5_statement_2 11 rfl rfl)
theorem dX5_statement_53 : decode cX5_statement 53 = .ok (.if_icmp .ge 7, 3) := dk_162 0 7 (dk_at dksX5_statement_2 13 rfl rfl)
theorem dX5_statement_56 : decode cX5_statement 56 = .ok (.iconst 1, 1) := dk_4 (dk_at dksX5_statement_2 16 rfl rfl)
theorem dX5_statement_57 : decode cX5_statement 57 = .ok (.goto 4, 3) := dk_167 0 4 (dk_at dksX5_statement_2 17 rfl rfl)
theorem dX5_statement_60 : decode cX5_statement 60 = .ok (.iconst 0, 1) := dk_3 (dk_at dksX5_statement_2 20 rfl rfl)
theorem dX5_statement_61 : decode cX5_statement 61 = .ok (.iconst 3, 1) := dk_6 (dk_at dksX5_statement_2 21 rfl rfl)
theorem dX5_statement_62 : decode cX5_statement 62 = .ok (.invokevirtual 91, 3) := dk_182 0 91 (dk_at dksX5_statement_3 0 rfl rfl)
theorem dX5_statement_65 : decode cX5_statement 65 = .ok (.aload_n 0, 1) := dk_42 (dk_at dksX5_statement_3 3 rfl rfl)
theorem dX5_statement_66 : decode cX5_statement 66 = .ok (.invokevirtual 26, 3) := dk_182 0 26 (dk_at dksX5_statement_3 4 rfl rfl)
theorem dX5_statement_69 : decode cX5_statement 69 = .ok (.aload_n 0, 1) := dk_42 (dk_at dksX5_statement_3 7 rfl rfl)
theorem dX5_statement_70 : decode cX5_statement 70 = .ok (.getfield 18, 3) := dk_180 0 18 (dk_at dksX5_statement_3 8 rfl rfl)
theorem dX5_statement_73 : decode cX5_statement 73 = .ok (.getfield 101, 3) := dk_180 0 101 (dk_at dksX5_statement_3 11 rfl rfl)
theorem dX5_statement_76 : decode cX5_statement 76 = .ok (.aload_n 0, 1) := dk_42 (dk_at dksX5_statement_3 14 rfl rfl)
theorem dX5_statement_77 : decode cX5_statement 77 = .ok (.iconst 0, 1) := dk_3 (dk_at dksX5_statement_3 15 rfl rfl)
theorem dX5_statement_78 : decode cX5_statement 78 = .ok (.bipush 99, 2) := dk_16 99 (dk_at dksX5_statement_3 16 rfl rfl)
theorem dX5_statement_80 : decode cX5_statement 80 = .ok (.invokevirtual 110, 3) := dk_182 0 110 (dk_at dksX5_statement_3 18 rfl rfl)
theorem dX5_statement_83 : decode cX5_statement 83 = .ok (.invokevirtual 112, 3) := dk_182 0 112 (dk_at dksX5_statement_3 21 rfl rfl)
theorem dX5_statement_86 : decode cX5_statement 86 = .ok (.istore_n 1, 1) := dk_60 (dk_at dksX5_statement_4 0 rfl rfl)
theorem dX5_statement_87 : decode cX5_statement 87 = .ok (.goto 202, 3) := dk_167 0 202 (dk_at dksX5_statement_4 1 rfl rfl)
theorem dX5_statement_90 : decode cX5_statement 90 = .ok (.aload_n 0, 1) := dk_42 (dk_at dksX5_statement_4 4 rfl rfl)
theorem dX5_statement_91 : decode cX5_statement 91 = .ok (.aload_n 0, 1) := dk_42 (dk_at dksX5_statement_4 5 rfl rfl)
theorem dX5_statement_92 : decode cX5_statement 92 = .ok (.getfield 18, 3) := dk_180 0 18 (dk_at dksX5_statement_4 6 rfl rfl)
theorem dX5_statement_95 : decode cX5_statement 95 = .ok (.getfield 101, 3) := dk_180 0 101 (dk_at dksX5_statement_4 9 rfl rfl)
theorem dX5_statement_98 : decode cX5_statement 98 = .ok (.getfield 115, 3) := dk_180 0 115 (dk_at dksX5_statement_4 12 rfl rfl)
theorem dX5_statement_101 : decode cX5_statement 101 = .ok (.bipush 40, 2) := dk_16 40 (dk_at dksX5_statement_4 15 rfl rfl)
theorem dX5_statement_103 : decode cX5_statement 103 = .ok (.if_icmp .ge 7, 3) := dk_162 0 7 (dk_at dksX5_statement_4 17 rfl rfl)
theorem dX5_statement_106 : decode cX5_statement 106 = .ok (.iconst 1, 1) := dk_4 (dk_at dksX5_statement_4 20 rfl rfl)
theorem dX5_statement_107 : decode cX5_statement 107 = .ok (.goto 4, 3) := dk_167 0 4 (dk_at dksX5_statement_4 21 rfl rfl)
theorem dX5_statement_110 : decode cX5_statement 110 = .ok (.iconst 0, 1) := dk_3 (dk_at dksX5_statement_5 0 rfl rfl)
theorem dX5_statement_111 : decode cX5_statement 111 = .ok (.iconst 3, 1) := dk_6 (dk_at dksX5_statement_5 1 rfl rfl)
theorem dX5_statement_112 : decode cX5_statement 112 = .ok (.invokevirtual 91, 3) := dk_182 0 91 (dk_at dksX5_statement_5 2 rfl rfl)
theorem dX5_statement_115 : decode cX5_statement 115 = .ok (.aload_n 0, 1) := dk_42 (dk_at dksX5_statement_5 5 rfl rfl)
theorem dX5_statement_116 : decode cX5_statement 116 = .ok (.invokevirtual 26, 3) := dk_182 0 26 (dk_at dksX5_statement_5 6 rfl rfl)
theorem dX5_statement_119 : decode cX5_statement 119 = .ok (.aload_n 0, 1) := dk_42 (dk_at dksX5_statement_5 9 rfl rfl)
theorem dX5_statement_120 : decode cX5_statement 120 = .ok (.invokevirtual 118, 3) := dk_182 0 118 (dk_at dksX5_statement_5 10 rfl rfl)
theorem dX5_statement_123 : decode cX5_statement 123 = .ok (.goto 166, 3) := dk_167 0 166 (dk_at dksX5_statement_5 13 rfl rfl)
theorem dX5_statement_126 : decode cX5_statement 126 = .ok (.aload_n 0, 1) := dk_42 (dk_at dksX5_statement_5 16 rfl rfl)
theorem dX5_statement_127 : decode cX5_statement 127 = .ok (.aload_n 0, 1) := dk_42 (dk_at dksX5_statement_5 17 rfl rfl)
theorem dX5_statement_128 : decode cX5_statement 128 = .ok (.getfield 18, 3) := dk_180 0 18 (dk_at dksX5_statement_5 18 rfl rfl)
theorem dX5_statement_131 : decode cX5_statement 131 = .ok (.getfield 121, 3) := dk_180 0 121 (dk_at dksX5_statement_5 21 rfl rfl)
theorem dX5_statement_134 : decode cX5_statement 134 = .ok (.bipush 8, 2) := dk_16 8 (dk_at dksX5_statement_6 0 rfl rfl)
theorem dX5_statement_136 : decode cX5_statement 136 = .ok (.if_icmp .ge 7, 3) := dk_162 0 7 (dk_at dksX5_statement_6 2 rfl rfl)
theorem dX5_statement_139 : decode cX5_statement 139 = .ok (.iconst 1, 1) := dk_4 (dk_at dksX5_statement_6 5 rfl rfl)
theorem dX5_statement_140 : decode cX5_statement 140 = .ok (.goto 4, 3) := dk_167 0 4 (dk_at dksX5_statement_6 6 rfl rfl)
theorem dX5_statement_143 : decode cX5_statement 143 = .ok (.iconst 0, 1) := dk_3 (dk_at dksX5_statement_6 9 rfl rfl)
theorem dX5_statement_144 : decode cX5_statement 144 = .ok (.iconst 3, 1) := dk_6 (dk_at dksX5_statement_6 10 rfl rfl)
theorem dX5_statement_145 : decode cX5_statement 145 = .ok (.invokevirtual 91, 3) := dk_182 0 91 (dk_at dksX5_statement_6 11 rfl rfl)
theorem dX5_statement_148 : decode cX5_statement 148 = .ok (.aload_n 0, 1) := dk_42 (dk_at dksX5_statement_6 14 rfl rfl)
theorem dX5_statement_149 : decode cX5_statement 149 = .ok (.invokevirtual 26, 3) := dk_182 0 26 (dk_at dksX5_statement_6 15 rfl rfl)
theorem dX5_statement_152 : decode cX5_statement 152 = .ok (.aload_n 0, 1) := dk_42 (dk_at dksX5_statement_6 18 rfl rfl)
theorem dX5_statement_153 : decode cX5_statement 153 = .ok (.iconst 0, 1) := dk_3 (dk_at dksX5_statement_6 19 rfl rfl)
theorem dX5_statement_154 : decode cX5_statement 154 = .ok (.ldc 124, 2) := dk_18 124 (dk_at dksX5_statement_6 20 rfl rfl)
theorem dX5_statement_156 : decode cX5_statement 156 = .ok (.invokevirtual 110, 3) := dk_182 0 110 (dk_at dksX5_statement_7 0 rfl rfl)
theorem dX5_statement_159 : decode cX5_statement 159 = .ok (.istore_n 2, 1) := dk_61 (dk_at dksX5_statement_7 3 rfl rfl)
theorem dX5_statement_160 : decode cX5_statement 160 = .ok (.aload_n 0, 1) := dk_42 (dk_at dksX5_statement_7 4 rfl rfl)
theorem dX5_statement_161 : decode cX5_statement 161 = .ok (.iconst 0, 1) := dk_3 (dk_at dksX5_statement_7 5 rfl rfl)
theorem dX5_statement_162 : decode cX5_statement 162 = .ok (.bipush 50, 2) := dk_16 50 (dk_at dksX5_statement_7 6 rfl rfl)
theorem dX5_statement_164 : decode cX5_statement 164 = .ok (.invokevirtual 110, 3) := dk_182 0 110 (dk_at dksX5_statement_7 8 rfl rfl)
theorem dX5_statement_167 : decode cX5_statement 167 = .ok (.istore_n 3, 1) := dk_62 (dk_at dksX5_statement_7 11 rfl rfl)
theorem dX5_statement_168 : decode cX5_statement 168 = .ok (.aload_n 0, 1) := dk_42 (dk_at dksX5_statement_7 12 rfl rfl)
theorem dX5_statement_169 : decode cX5_statement 169 = .ok (.getfield 18, 3) := dk_180 0 18 (dk_at dksX5_statement_7 13 rfl rfl)
theorem dX5_statement_172 : decode cX5_statement 172 = .ok (.iload_n 2, 1) := dk_28 (dk_at dksX5_statement_7 16 rfl rfl)
theorem dX5_statement_173 : decode cX5_statement 173 = .ok (.iload_n 3, 1) := dk_29 (dk_at dksX5_statement_7 17 rfl rfl)
theorem dX5_statement_174 : decode cX5_statement 174 = .ok (.aload_n 0, 1) := dk_42 (dk_at dksX5_statement_7 18 rfl rfl)
theorem dX5_statement_175 : decode cX5_statement 175 = .ok (.iconst 0, 1) := dk_3 (dk_at dksX5_statement_7 19 rfl rfl)
theorem dX5_statement_176 : decode cX5_statement 176 = .ok (.bipush 50, 2) := dk_16 50 (dk_at dksX5_statement_7 20 rfl rfl)
theorem dX5_statement_178 : decode cX5_statement 178 = .ok (.invokevirtual 110, 3) := dk_182 0 110 (dk_at dksX5_statement_8 0 rfl rfl)
theorem dX5_statement_181 : decode cX5_statement 181 = .ok (.invokevirtual 125, 3) := dk_182 0 125 (dk_at dksX5_statement_8 3 rfl rfl)
theorem dX5_statement_184 : decode cX5_statement 184 = .ok (.istore 4, 2) := dk_54 4 (dk_at dksX5_statement_8 6 rfl rfl)
theorem dX5_statement_186 : decode cX5_statement 186 = .ok (.goto 103, 3) := dk_167 0 103 (dk_at dksX5_statement_8 8 rfl rfl)
theorem dX5_statement_189 : decode cX5_statement 189 = .ok (.aload_n 0, 1) := dk_42 (dk_at dksX5_statement_8 11 rfl rfl)
theorem dX5_statement_190 : decode cX5_statement 190 = .ok (.aload_n 0, 1) := dk_42 (dk_at dksX5_statement_8 12 rfl rfl)
theorem dX5_statement_191 : decode cX5_statement 191 = .ok (.getfield 18, 3) := dk_180 0 18 (dk_at dksX5_statement_8 13 rfl rfl)
theorem dX5_statement_194 : decode cX5_statement 194 = .ok (.getfield 129, 3) := dk_180 0 129 (dk_at dksX5_statement_8 16 rfl rfl)
theorem dX5_statement_197 : decode cX5_statement 197 = .ok (.invokevirtual 133, 3) := dk_182 0 133 (dk_at dksX5_statement_8 19 rfl rfl)
theorem dX5_statement_200 : decode cX5_statement 200 = .ok (.bipush 15, 2) := dk_16 15 (dk_at dksX5_statement_8 22 rfl rfl)
theorem dX5_statement_202 : decode cX5_statement 202 = .ok (.if_icmp .ge 7, 3) := dk_162 0 7 (dk_at dksX5_statement_9 0 rfl rfl)
theorem dX5_statement_205 : decode cX5_statement 205 = .ok (.iconst 1, 1) := dk_4 (dk_at dksX5_statement_9 3 rfl rfl)
theorem dX5_statement_206 : decode cX5_statement 206 = .ok (.goto 4, 3) := dk_167 0 4 (dk_at dksX5_statement_9 4 rfl rfl)
theorem dX5_statement_209 : decode cX5_statement 209 = .ok (.iconst 0, 1) := dk_3 (dk_at dksX5_statement_9 7 rfl rfl)
theorem dX5_statement_210 : decode cX5_statement 210 = .ok (.iconst 3, 1) := dk_6 (dk_at dksX5_statement_9 8 rfl rfl)
theorem dX5_statement_211 : decode cX5_statement 211 = .ok (.invokevirtual 91, 3) := dk_182 0 91 (dk_at dksX5_statement_9 9 rfl rfl)
theorem dX5_statement_214 : decode cX5_statement 214 = .ok (.aload_n 0, 1) := dk_42 (dk_at dksX5_statement_9 12 rfl rfl)
theorem dX5_statement_215 : decode cX5_statement 215 = .ok (.invokevirtual 26, 3) := dk_182 0 26 (dk_at dksX5_statement_9 13 rfl rfl)
theorem dX5_statement_218 : decode cX5_statement 218 = .ok (.aload_n 0, 1) := dk_42 (dk_at dksX5_statement_9 16 rfl rfl)
theorem dX5_statement_219 : decode cX5_statement 219 = .ok (.invokevirtual 139, 3) := dk_182 0 139 (dk_at dksX5_statement_9 17 rfl rfl)
theorem dX5_statement_222 : decode cX5_statement 222 = .ok (.goto 67, 3) := dk_167 0 67 (dk_at dksX5_statement_9 20 rfl rfl)
theorem dX5_statement_225 : decode cX5_statement 225 = .ok (.aload_n 0, 1) := dk_42 (dk_at dksX5_statement_9 23 rfl rfl)
theorem dX5_statement_226 : decode cX5_statement 226 = .ok (.invokevirtual 26, 3) := dk_182 0 26 (dk_at dksX5_statement_10 0 rfl rfl)
theorem dX5_statement_229 : decode cX5_statement 229 = .ok (.aload_n 0, 1) := dk_42 (dk_at dksX5_statement_10 3 rfl rfl)
theorem dX5_statement_230 : decode cX5_statement 230 = .ok (.iconst 0, 1) := dk_3 (dk_at dksX5_statement_10 4 rfl rfl)
theorem dX5_statement_231 : decode cX5_statement 231 = .ok (.bipush 7, 2) := dk_16 7 (dk_at dksX5_statement_10 5 rfl rfl)
theorem dX5_statement_233 : decode cX5_statement 233 = .ok (.invokevirtual 110, 3) := dk_182 0 110 (dk_at dksX5_statement_10 7 rfl rfl)
theorem dX5_statement_236 : decode cX5_statement 236 = .ok (.istore 5, 2) := dk_54 5 (dk_at dksX5_statement_10 10 rfl rfl)
theorem dX5_statement_238 : decode cX5_statement 238 = .ok (.iload 5, 2) := dk_21 5 (dk_at dksX5_statement_10 12 rfl rfl)
theorem dX5_statement_240 : decode cX5_statement 240 = .ok (.invokestatic 142, 3) := dk_184 0 142 (dk_at dksX5_statement_10 14 rfl rfl)
theorem dX5_statement_243 : decode cX5_statement 243 = .ok (.astore 6, 2) := dk_58 6 (dk_at dksX5_statement_10 17 rfl rfl)
theorem dX5_statement_245 : decode cX5_statement 245 = .ok (.aload_n 0, 1) := dk_42 (dk_at dksX5_statement_10 19 rfl rfl)
theorem dX5_statement_246 : decode cX5_statement 246 = .ok (.getfield 18, 3) := dk_180 0 18 (dk_at dksX5_statement_10 20 rfl rfl)
theorem dX5_statement_249 : decode cX5_statement 249 = .ok (.getfield 148, 3) := dk_180 0 148 (dk_at dksX5_statement_11 0 rfl rfl)
theorem dX5_statement_252 : decode cX5_statement 252 = .ok (.iload 5, 2) := dk_21 5 (dk_at dksX5_statement_11 3 rfl rfl)
theorem dX5_statement_254 : decode cX5_statement 254 = .ok (.aload_n 0, 1) := dk_42 (dk_at dksX5_statement_11 5 rfl rfl)
theorem dX5_statement_255 : decode cX5_statement 255 = .ok (.aload 6, 2) := dk_25 6 (dk_at dksX5_statement_11 6 rfl rfl)
theorem dX5_statement_257 : decode cX5_statement 257 = .ok (.invokeinterface 152 1, 5) := by decide +kernel
theorem dX5_statement_262 : decode cX5_statement 262 = .ok (.aload 6, 2) := dk_25 6 (dk_at dksX5_statement_11 13 rfl rfl)
theorem dX5_statement_264 : decode cX5_statement 264 = .ok (.invokeinterface 155 1, 5) := by decide +kernel
theorem dX5_statement_269 : decode cX5_statement 269 = .ok (.invokevirtual 110, 3) := dk_182 0 110 (dk_at dksX5_statement_11 20 rfl rfl)
theorem dX5_statement_272 : decode cX5_statement 272 = .ok (.iastore, 1) := dk_79 (dk_at dksX5_statement_11 23 rfl rfl)
theorem dX5_statement_273 : decode cX5_statement 273 = .ok (.goto 16, 3) := dk_167 0 16 (dk_at dksX5_statement_12 0 rfl rfl)
theorem dX5_statement_276 : decode cX5_statement 276 = .ok (.new 86, 3) := dk_187 0 86 (dk_at dksX5_statement_12 3 rfl rfl)
theorem dX5_statement_279 : decode cX5_statement 279 = .ok (.dup, 1) := dk_89 (dk_at dksX5_statement_12 6 rfl rfl)
theorem dX5_statement_280 : decode cX5_statement 280 = .ok (.iconst 1, 1) := dk_4 (dk_at dksX5_statement_12 7 rfl rfl)
theorem dX5_statement_281 : decode cX5_statement 281 = .ok (.aload_n 0, 1) := dk_42 (dk_at dksX5_statement_12 8 rfl rfl)
theorem dX5_statement_282 : decode cX5_statement 282 = .ok (.getfield 40, 3) := dk_180 0 40 (dk_at dksX5_statement_12 9 rfl rfl)
theorem dX5_statement_285 : decode cX5_statement 285 = .ok (.invokespecial 88, 3) := dk_183 0 88 (dk_at dksX5_statement_12 12 rfl rfl)
theorem dX5_statement_288 : decode cX5_statement 288 = .ok (.athrow, 1) := dk_191 (dk_at dksX5_statement_12 15 rfl rfl)
theorem dX5_statement_289 : decode cX5_statement 289 = .ok (.return_, 1) := dk_177 (dk_at dksX5_statement_12 16 rfl rfl)
theorem c_411_0 : LkP (OkP 411) [(0, o_aload 0 1), (1, o_get 50), (4, o_sw (swt 0 [40, 90, 126, 189, 225] 276)), (40, o_aload 0 1), (41, o_aload 0 1), (42, o_get 44), (45, o_get 6), (48, o_get 15), (51, o_push 2 (.int 12)), (53, o_icmp (fun x y => decide (y ≤ x)) 60), (56, o_push 1 (.int 1)), (57, o_goto 61), (60, o_push 1 (.int 0)), (61, o_push 1 (.int 3)), (62, o_cv [(9, 412)] 2 3 true none)] := lkp_c (P := OkP 411) ⟨(PuOK.ok (ok_aload_n dX5_statement_0 rfl)), m_aload⟩ (
  lkp_c (P := OkP 411) ⟨ok_get ⟨"TollRoad$Parser", q1346, Or.inl rfl⟩ dX5_statement_1, m_get⟩ (
  lkp_c (P := OkP 411) ⟨(PuOK.ok (ok_tsw dX5_statement_4 (by decide +kernel))), m_sw⟩ (
  lkp_c (P := OkP 411) ⟨(PuOK.ok (ok_aload_n dX5_statement_40 rfl)), m_aload⟩ (
  lkp_c (P := OkP 411) ⟨(PuOK.ok (ok_aload_n dX5_statement_41 rfl)), m_aload⟩ (
  lkp_c (P := OkP 411) ⟨ok_get ⟨"TollRoad$Parser", q1339, Or.inl rfl⟩ dX5_statement_42, m_get⟩ (
  lkp_c (P := OkP 411) ⟨ok_getN ⟨"TollRoad$World", "TollRoad", q628, Or.inl rfl⟩ dX5_statement_45, m_get⟩ (
  lkp_c (P := OkP 411) ⟨ok_getN ⟨"TollRoad$Network", "TollRoad", q210, Or.inl rfl⟩ dX5_statement_48, m_get⟩ (
  lkp_c (P := OkP 411) ⟨(PuOK.ok (ok_bipush dX5_statement_51 rfl)), m_push⟩ (
  lkp_c (P := OkP 411) ⟨(PuOK.ok (ok_icmp_ge dX5_statement_53 rfl)), m_icmp⟩ (
  lkp_c (P := OkP 411) ⟨(PuOK.ok (ok_iconst dX5_statement_56 rfl)), m_push⟩ (
  lkp_c (P := OkP 411) ⟨(PuOK.ok (ok_goto dX5_statement_57 rfl)), m_goto⟩ (
  lkp_c (P := OkP 411) ⟨(PuOK.ok (ok_iconst dX5_statement_60 rfl)), m_push⟩ (
  lkp_c (P := OkP 411) ⟨(PuOK.ok (ok_iconst dX5_statement_61 rfl)), m_push⟩ (
  lkp_c (P := OkP 411) ⟨ok_cv (List.forall_mem_cons.mpr ⟨tg_V (ci := 9) (r := CLr 9) (y := 412) rfl ⟨rfl, by decide⟩ rfl q1375 q1377 qs5 q141 q1378 ⟨cn_38.1, cn_38.2, pd_124⟩ dX5_statement_62, (List.forall_mem_nil _)⟩) hd_no, m_cv⟩ (
  trivial)))))))))))))))
theorem c_411_1 : LkP (OkP 411) [(65, o_aload 0 1), (66, o_cv [(9, 408)] 0 3 true none), (69, o_aload 0 1), (70, o_get 44), (73, o_get 6), (76, o_aload 0 1), (77, o_push 1 (.int 0)), (78, o_push 2 (.int 99)), (80, o_cv [(9, 413)] 2 3 false none), (83, o_cv [(2, 283)] 1 3 false none), (86, o_istore 1 1), (87, o_goto 289), (90, o_aload 0 1), (91, o_aload 0 1), (92, o_get 44), (95, o_get 6), (98, o_get 17), (101, o_push 2 (.int 40)), (103, o_icmp (fun x y => decide (y ≤ x)) 110), (106, o_push 1 (.int 1)), (107, o_goto 111), (110, o_push 1 (.int 0)), (111, o_push 1 (.int 3)), (112, o_cv [(9, 412)] 2 3 true none), (115, o_aload 0 1), (116, o_cv [(9, 408)] 0 3 true none), (119, o_aload 0 1), (120, o_cv [(9, 415)] 0 3 true none), (123, o_goto 289), (126, o_aload 0 1), (127, o_aload 0 1)] := lkp_c (P := OkP 411) ⟨(PuOK.ok (ok_aload_n dX5_statement_65 rfl)), m_aload⟩ (
  lkp_c (P := OkP 411) ⟨ok_cv (List.forall_mem_cons.mpr ⟨tg_V (ci := 9) (r := CLr 9) (y := 408) rfl ⟨rfl, by decide⟩ rfl q1273 q1275 qs2 q141 q1276 ⟨cn_38.1, cn_38.2, pd_0⟩ dX5_statement_66, (List.forall_mem_nil _)⟩) hd_no, m_cv⟩ (
  lkp_c (P := OkP 411) ⟨(PuOK.ok (ok_aload_n dX5_statement_69 rfl)), m_aload⟩ (
  lkp_c (P := OkP 411) ⟨ok_get ⟨"TollRoad$Parser", q1339, Or.inl rfl⟩ dX5_statement_70, m_get⟩ (
  lkp_c (P := OkP 411) ⟨ok_getN ⟨"TollRoad$World", "TollRoad", q628, Or.inl rfl⟩ dX5_statement_73, m_get⟩ (
  lkp_c (P := OkP 411) ⟨(PuOK.ok (ok_aload_n dX5_statement_76 rfl)), m_aload⟩ (
  lkp_c (P := OkP 411) ⟨(PuOK.ok (ok_iconst dX5_statement_77 rfl)), m_push⟩ (
  lkp_c (P := OkP 411) ⟨(PuOK.ok (ok_bipush dX5_statement_78 rfl)), m_push⟩ (
  lkp_c (P := OkP 411) ⟨ok_cv (List.forall_mem_cons.mpr ⟨tg_V (ci := 9) (r := CLr 9) (y := 413) rfl ⟨rfl, by decide⟩ rfl q1407 q1409 qs6 q141 q1410 ⟨cn_38.1, cn_38.2, pd_1⟩ dX5_statement_80, (List.forall_mem_nil _)⟩) hd_no, m_cv⟩ (
  lkp_c (P := OkP 411) ⟨ok_cv (List.forall_mem_cons.mpr ⟨tg_V (ci := 2) (r := CLr 2) (y := 283) rfl ⟨rfl, by decide⟩ rfl q1415 q1416 q1417 q117 q1418 ⟨cn_40.1, cn_40.2, pd_48⟩ dX5_statement_83, (List.forall_mem_nil _)⟩) hd_no, m_cv⟩ (
  lkp_c (P := OkP 411) ⟨(PuOK.ok (ok_istore_n dX5_statement_86 rfl)), m_istore⟩ (
  lkp_c (P := OkP 411) ⟨(PuOK.ok (ok_goto dX5_statement_87 rfl)), m_goto⟩ (
  lkp_c (P := OkP 411) ⟨(PuOK.ok (ok_aload_n dX5_statement_90 rfl)), m_aload⟩ (
  lkp_c (P := OkP 411) ⟨(PuOK.ok (ok_aload_n dX5_statement_91 rfl)), m_aload⟩ (
  lkp_c (P := OkP 411) ⟨ok_get ⟨"TollRoad$Parser", q1339, Or.inl rfl⟩ dX5_statement_92, m_get⟩ (
  lkp_c (P := OkP 411) ⟨ok_getN ⟨"TollRoad$World", "TollRoad", q628, Or.inl rfl⟩ dX5_statement_95, m_get⟩ (
  lkp_c (P := OkP 411) ⟨ok_getN ⟨"TollRoad$Network", "TollRoad", q213, Or.inl rfl⟩ dX5_statement_98, m_get⟩ (
  lkp_c (P := OkP 411) ⟨(PuOK.ok (ok_bipush dX5_statement_101 rfl)), m_push⟩ (
  lkp_c (P := OkP 411) ⟨(PuOK.ok (ok_icmp_ge dX5_statement_103 rfl)), m_icmp⟩ (
  lkp_c (P := OkP 411) ⟨(PuOK.ok (ok_iconst dX5_statement_106 rfl)), m_push⟩ (
  lkp_c (P := OkP 411) ⟨(PuOK.ok (ok_goto dX5_statement_107 rfl)), m_goto⟩ (
  lkp_c (P := OkP 411) ⟨(PuOK.ok (ok_iconst dX5_statement_110 rfl)), m_push⟩ (
  lkp_c (P := OkP 411) ⟨(PuOK.ok (ok_iconst dX5_statement_111 rfl)), m_push⟩ (
  lkp_c (P := OkP 411) ⟨ok_cv (List.forall_mem_cons.mpr ⟨tg_V (ci := 9) (r := CLr 9) (y := 412) rfl ⟨rfl, by decide⟩ rfl q1375 q1377 qs5 q141 q1378 ⟨cn_38.1, cn_38.2, pd_124⟩ dX5_statement_112, (List.forall_mem_nil _)⟩) hd_no, m_cv⟩ (
  lkp_c (P := OkP 411) ⟨(PuOK.ok (ok_aload_n dX5_statement_115 rfl)), m_aload⟩ (
  lkp_c (P := OkP 411) ⟨ok_cv (List.forall_mem_cons.mpr ⟨tg_V (ci := 9) (r := CLr 9) (y := 408) rfl ⟨rfl, by decide⟩ rfl q1273 q1275 qs2 q141 q1276 ⟨cn_38.1, cn_38.2, pd_0⟩ dX5_statement_116, (List.forall_mem_nil _)⟩) hd_no, m_cv⟩ (
  lkp_c (P := OkP 411) ⟨(PuOK.ok (ok_aload_n dX5_statement_119 rfl)), m_aload⟩ (
  lkp_c (P := OkP 411) ⟨ok_cv (List.forall_mem_cons.mpr ⟨tg_V (ci := 9) (r := CLr 9) (y := 415) rfl ⟨rfl, by decide⟩ rfl q1419 q1421 qs8 q141 q1422 ⟨cn_38.1, cn_38.2, pd_0⟩ dX5_statement_120, (List.forall_mem_nil _)⟩) hd_no, m_cv⟩ (
  lkp_c (P := OkP 411) ⟨(PuOK.ok (ok_goto dX5_statement_123 rfl)), m_goto⟩ (
  lkp_c (P := OkP 411) ⟨(PuOK.ok (ok_aload_n dX5_statement_126 rfl)), m_aload⟩ (
  lkp_c (P := OkP 411) ⟨(PuOK.ok (ok_aload_n dX5_statement_127 rfl)), m_aload⟩ (
  trivial)))))))))))))))))))))))))))))))
theorem c_411_2 : LkP (OkP 411) [(128, o_get 44), (131, o_get 9), (134, o_push 2 (.int 8)), (136, o_icmp (fun x y => decide (y ≤ x)) 143), (139, o_push 1 (.int 1)), (140, o_goto 144), (143, o_push 1 (.int 0)), (144, o_push 1 (.int 3)), (145, o_cv [(9, 412)] 2 3 true none), (148, o_aload 0 1), (149, o_cv [(9, 408)] 0 3 true none), (152, o_aload 0 1), (153, o_push 1 (.int 0)), (154, o_push 2 (.int 100000)), (156, o_cv [(9, 413)] 2 3 false none), (159, o_istore 2 1), (160, o_aload 0 1), (161, o_push 1 (.int 0)), (162, o_push 2 (.int 50)), (164, o_cv [(9, 413)] 2 3 false none), (167, o_istore 3 1), (168, o_aload 0 1), (169, o_get 44), (172, o_iload 2 1), (173, o_iload 3 1), (174, o_aload 0 1), (175, o_push 1 (.int 0)), (176, o_push 2 (.int 50)), (178, o_cv [(9, 413)] 2 3 false none), (181, o_cv [(1, 258)] 3 3 false none), (184, o_istore 4 2), (186, o_goto 289), (189, o_aload 0 1), (190, o_aload 0 1), (191, o_get 44)] := lkp_c (P := OkP 411) ⟨ok_get ⟨"TollRoad$Parser", q1339, Or.inl rfl⟩ dX5_statement_128, m_get⟩ (
  lkp_c (P := OkP 411) ⟨ok_getN ⟨"TollRoad$World", "TollRoad", q636, Or.inl rfl⟩ dX5_statement_131, m_get⟩ (
  lkp_c (P := OkP 411) ⟨(PuOK.ok (ok_bipush dX5_statement_134 rfl)), m_push⟩ (
  lkp_c (P := OkP 411) ⟨(PuOK.ok (ok_icmp_ge dX5_statement_136 rfl)), m_icmp⟩ (
  lkp_c (P := OkP 411) ⟨(PuOK.ok (ok_iconst dX5_statement_139 rfl)), m_push⟩ (
  lkp_c (P := OkP 411) ⟨(PuOK.ok (ok_goto dX5_statement_140 rfl)), m_goto⟩ (
  lkp_c (P := OkP 411) ⟨(PuOK.ok (ok_iconst dX5_statement_143 rfl)), m_push⟩ (
  lkp_c (P := OkP 411) ⟨(PuOK.ok (ok_iconst dX5_statement_144 rfl)), m_push⟩ (
  lkp_c (P := OkP 411) ⟨ok_cv (List.forall_mem_cons.mpr ⟨tg_V (ci := 9) (r := CLr 9) (y := 412) rfl ⟨rfl, by decide⟩ rfl q1375 q1377 qs5 q141 q1378 ⟨cn_38.1, cn_38.2, pd_124⟩ dX5_statement_145, (List.forall_mem_nil _)⟩) hd_no, m_cv⟩ (
  lkp_c (P := OkP 411) ⟨(PuOK.ok (ok_aload_n dX5_statement_148 rfl)), m_aload⟩ (
  lkp_c (P := OkP 411) ⟨ok_cv (List.forall_mem_cons.mpr ⟨tg_V (ci := 9) (r := CLr 9) (y := 408) rfl ⟨rfl, by decide⟩ rfl q1273 q1275 qs2 q141 q1276 ⟨cn_38.1, cn_38.2, pd_0⟩ dX5_statement_149, (List.forall_mem_nil _)⟩) hd_no, m_cv⟩ (
  lkp_c (P := OkP 411) ⟨(PuOK.ok (ok_aload_n dX5_statement_152 rfl)), m_aload⟩ (
  lkp_c (P := OkP 411) ⟨(PuOK.ok (ok_iconst dX5_statement_153 rfl)), m_push⟩ (
  lkp_c (P := OkP 411) ⟨(PuOK.ok (ok_ldc q1448 dX5_statement_154)), m_push⟩ (
  lkp_c (P := OkP 411) ⟨ok_cv (List.forall_mem_cons.mpr ⟨tg_V (ci := 9) (r := CLr 9) (y := 413) rfl ⟨rfl, by decide⟩ rfl q1407 q1409 qs6 q141 q1410 ⟨cn_38.1, cn_38.2, pd_1⟩ dX5_statement_156, (List.forall_mem_nil _)⟩) hd_no, m_cv⟩ (
  lkp_c (P := OkP 411) ⟨(PuOK.ok (ok_istore_n dX5_statement_159 rfl)), m_istore⟩ (
  lkp_c (P := OkP 411) ⟨(PuOK.ok (ok_aload_n dX5_statement_160 rfl)), m_aload⟩ (
  lkp_c (P := OkP 411) ⟨(PuOK.ok (ok_iconst dX5_statement_161 rfl)), m_push⟩ (
  lkp_c (P := OkP 411) ⟨(PuOK.ok (ok_bipush dX5_statement_162 rfl)), m_push⟩ (
  lkp_c (P := OkP 411) ⟨ok_cv (List.forall_mem_cons.mpr ⟨tg_V (ci := 9) (r := CLr 9) (y := 413) rfl ⟨rfl, by decide⟩ rfl q1407 q1409 qs6 q141 q1410 ⟨cn_38.1, cn_38.2, pd_1⟩ dX5_statement_164, (List.forall_mem_nil _)⟩) hd_no, m_cv⟩ (
  lkp_c (P := OkP 411) ⟨(PuOK.ok (ok_istore_n dX5_statement_167 rfl)), m_istore⟩ (
  lkp_c (P := OkP 411) ⟨(PuOK.ok (ok_aload_n dX5_statement_168 rfl)), m_aload⟩ (
  lkp_c (P := OkP 411) ⟨ok_get ⟨"TollRoad$Parser", q1339, Or.inl rfl⟩ dX5_statement_169, m_get⟩ (
  lkp_c (P := OkP 411) ⟨(PuOK.ok (ok_iload_n dX5_statement_172 rfl)), m_iload⟩ (
  lkp_c (P := OkP 411) ⟨(PuOK.ok (ok_iload_n dX5_statement_173 rfl)), m_iload⟩ (
  lkp_c (P := OkP 411) ⟨(PuOK.ok (ok_aload_n dX5_statement_174 rfl)), m_aload⟩ (
  lkp_c (P := OkP 411) ⟨(PuOK.ok (ok_iconst dX5_statement_175 rfl)), m_push⟩ (
  lkp_c (P := OkP 411) ⟨(PuOK.ok (ok_bipush dX5_statement_176 rfl)), m_push⟩ (
  lkp_c (P := OkP 411) ⟨ok_cv (List.forall_mem_cons.mpr ⟨tg_V (ci := 9) (r := CLr 9) (y := 413) rfl ⟨rfl, by decide⟩ rfl q1407 q1409 qs6 q141 q1410 ⟨cn_38.1, cn_38.2, pd_1⟩ dX5_statement_178, (List.forall_mem_nil _)⟩) hd_no, m_cv⟩ (
  lkp_c (P := OkP 411) ⟨ok_cv (List.forall_mem_cons.mpr ⟨tg_V (ci := 1) (r := CLr 1) (y := 258) rfl ⟨rfl, by decide⟩ rfl q1449 q1450 q1451 q116 q1452 ⟨cn_36.1, cn_36.2, pd_25⟩ dX5_statement_181, (List.forall_mem_nil _)⟩) hd_no, m_cv⟩ (
  lkp_c (P := OkP 411) ⟨(PuOK.ok (ok_istore dX5_statement_184)), m_istore⟩ (
  lkp_c (P := OkP 411) ⟨(PuOK.ok (ok_goto dX5_statement_186 rfl)), m_goto⟩ (
  lkp_c (P := OkP 411) ⟨(PuOK.ok (ok_aload_n dX5_statement_189 rfl)), m_aload⟩ (
  lkp_c (P := OkP 411) ⟨(PuOK.ok (ok_aload_n dX5_statement_190 rfl)), m_aload⟩ (
  lkp_c (P := OkP 411) ⟨ok_get ⟨"TollRoad$Parser", q1339, Or.inl rfl⟩ dX5_statement_191, m_get⟩ (
  trivial)))))))))))))))))))))))))))))))))))
theorem c_411_3 : LkP (OkP 411) [(194, o_get 10), (197, o_cv [(3, 42)] 0 3 false none), (200, o_push 2 (.int 15)), (202, o_icmp (fun x y => decide (y ≤ x)) 209), (205, o_push 1 (.int 1)), (206, o_goto 210), (209, o_push 1 (.int 0)), (210, o_push 1 (.int 3)), (211, o_cv [(9, 412)] 2 3 true none), (214, o_aload 0 1), (215, o_cv [(9, 408)] 0 3 true none), (218, o_aload 0 1), (219, o_cv [(9, 416)] 0 3 true none), (222, o_goto 289), (225, o_aload 0 1), (226, o_cv [(9, 408)] 0 3 true none), (229, o_aload 0 1), (230, o_push 1 (.int 0)), (231, o_push 2 (.int 7)), (233, o_cv [(9, 413)] 2 3 false none), (236, o_istore 5 2), (238, o_iload 5 2), (240, o_cs 222 1 false none), (243, o_astore 6 2), (245, o_aload 0 1), (246, o_get 44), (249, o_get 7), (252, o_iload 5 2), (254, o_aload 0 1), (255, o_aload 6 2)] := lkp_c (P := OkP 411) ⟨ok_getN ⟨"TollRoad$World", "TollRoad", q640, Or.inl rfl⟩ dX5_statement_194, m_get⟩ (
  lkp_c (P := OkP 411) ⟨ok_cv (List.forall_mem_cons.mpr ⟨tg_V (ci := 3) (r := CLr 3) (y := 42) rfl ⟨rfl, by decide⟩ rfl q1483 q1257 q1258 q120 q1259 ⟨cn_15.1, cn_15.2, pd_13⟩ dX5_statement_197, (List.forall_mem_nil _)⟩) hd_no, m_cv⟩ (
  lkp_c (P := OkP 411) ⟨(PuOK.ok (ok_bipush dX5_statement_200 rfl)), m_push⟩ (
  lkp_c (P := OkP 411) ⟨(PuOK.ok (ok_icmp_ge dX5_statement_202 rfl)), m_icmp⟩ (
  lkp_c (P := OkP 411) ⟨(PuOK.ok (ok_iconst dX5_statement_205 rfl)), m_push⟩ (
  lkp_c (P := OkP 411) ⟨(PuOK.ok (ok_goto dX5_statement_206 rfl)), m_goto⟩ (
  lkp_c (P := OkP 411) ⟨(PuOK.ok (ok_iconst dX5_statement_209 rfl)), m_push⟩ (
  lkp_c (P := OkP 411) ⟨(PuOK.ok (ok_iconst dX5_statement_210 rfl)), m_push⟩ (
  lkp_c (P := OkP 411) ⟨ok_cv (List.forall_mem_cons.mpr ⟨tg_V (ci := 9) (r := CLr 9) (y := 412) rfl ⟨rfl, by decide⟩ rfl q1375 q1377 qs5 q141 q1378 ⟨cn_38.1, cn_38.2, pd_124⟩ dX5_statement_211, (List.forall_mem_nil _)⟩) hd_no, m_cv⟩ (
  lkp_c (P := OkP 411) ⟨(PuOK.ok (ok_aload_n dX5_statement_214 rfl)), m_aload⟩ (
  lkp_c (P := OkP 411) ⟨ok_cv (List.forall_mem_cons.mpr ⟨tg_V (ci := 9) (r := CLr 9) (y := 408) rfl ⟨rfl, by decide⟩ rfl q1273 q1275 qs2 q141 q1276 ⟨cn_38.1, cn_38.2, pd_0⟩ dX5_statement_215, (List.forall_mem_nil _)⟩) hd_no, m_cv⟩ (
  lkp_c (P := OkP 411) ⟨(PuOK.ok (ok_aload_n dX5_statement_218 rfl)), m_aload⟩ (
  lkp_c (P := OkP 411) ⟨ok_cv (List.forall_mem_cons.mpr ⟨tg_V (ci := 9) (r := CLr 9) (y := 416) rfl ⟨rfl, by decide⟩ rfl q1484 q1486 qs9 q141 q1487 ⟨cn_38.1, cn_38.2, pd_0⟩ dX5_statement_219, (List.forall_mem_nil _)⟩) hd_no, m_cv⟩ (
  lkp_c (P := OkP 411) ⟨(PuOK.ok (ok_goto dX5_statement_222 rfl)), m_goto⟩ (
  lkp_c (P := OkP 411) ⟨(PuOK.ok (ok_aload_n dX5_statement_225 rfl)), m_aload⟩ (
  lkp_c (P := OkP 411) ⟨ok_cv (List.forall_mem_cons.mpr ⟨tg_V (ci := 9) (r := CLr 9) (y := 408) rfl ⟨rfl, by decide⟩ rfl q1273 q1275 qs2 q141 q1276 ⟨cn_38.1, cn_38.2, pd_0⟩ dX5_statement_226, (List.forall_mem_nil _)⟩) hd_no, m_cv⟩ (
  lkp_c (P := OkP 411) ⟨(PuOK.ok (ok_aload_n dX5_statement_229 rfl)), m_aload⟩ (
  lkp_c (P := OkP 411) ⟨(PuOK.ok (ok_iconst dX5_statement_230 rfl)), m_push⟩ (
  lkp_c (P := OkP 411) ⟨(PuOK.ok (ok_bipush dX5_statement_231 rfl)), m_push⟩ (
  lkp_c (P := OkP 411) ⟨ok_cv (List.forall_mem_cons.mpr ⟨tg_V (ci := 9) (r := CLr 9) (y := 413) rfl ⟨rfl, by decide⟩ rfl q1407 q1409 qs6 q141 q1410 ⟨cn_38.1, cn_38.2, pd_1⟩ dX5_statement_233, (List.forall_mem_nil _)⟩) hd_no, m_cv⟩ (
  lkp_c (P := OkP 411) ⟨(PuOK.ok (ok_istore dX5_statement_236)), m_istore⟩ (
  lkp_c (P := OkP 411) ⟨(PuOK.ok (ok_iload dX5_statement_238)), m_iload⟩ (
  lkp_c (P := OkP 411) ⟨ok_cs (tg_S ⟨rfl, by decide⟩ q1560 q1561 q146 q1562 ⟨cn_41.1, cn_41.2, pd_76⟩ dX5_statement_240) hd_no, m_cs⟩ (
  lkp_c (P := OkP 411) ⟨(PuOK.ok (ok_astore dX5_statement_243)), m_astore⟩ (
  lkp_c (P := OkP 411) ⟨(PuOK.ok (ok_aload_n dX5_statement_245 rfl)), m_aload⟩ (
  lkp_c (P := OkP 411) ⟨ok_get ⟨"TollRoad$Parser", q1339, Or.inl rfl⟩ dX5_statement_246, m_get⟩ (
  lkp_c (P := OkP 411) ⟨ok_getN ⟨"TollRoad$World", "TollRoad", q630, Or.inl rfl⟩ dX5_statement_249, m_get⟩ (
  lkp_c (P := OkP 411) ⟨(PuOK.ok (ok_iload dX5_statement_252)), m_iload⟩ (
  lkp_c (P := OkP 411) ⟨(PuOK.ok (ok_aload_n dX5_statement_254 rfl)), m_aload⟩ (
  lkp_c (P := OkP 411) ⟨(PuOK.ok (ok_aload dX5_statement_255)), m_aload⟩ (
  trivial))))))))))))))))))))))))))))))
theorem c_411_4 : LkP (OkP 411) [(257, o_cv [(14, 225)] 0 5 false none), (262, o_aload 6 2), (264, o_cv [(14, 226)] 0 5 false none), (269, o_cv [(9, 413)] 2 3 false none), (272, o_wrI 0), (273, o_goto 289), (276, o_new 10 8 dv10), (279, o_dup), (280, o_push 1 (.int 1)), (281, o_aload 0 1), (282, o_get 46), (285, o_ci 417 2), (288, o_athrow), (289, o_vret)] := lkp_c (P := OkP 411) ⟨ok_cv (List.forall_mem_cons.mpr ⟨tg_F (ci := 14) (r := CLr 14) (y := 225) rfl ⟨rfl, by decide⟩ q1577 q1581 q1583 q147 q1585 q1579 q1578 q1584 q1582 q1580 ⟨cn_41.1, cn_41.2, pd_13⟩ dX5_statement_257, (List.forall_mem_nil _)⟩) hd_no, m_cv⟩ (
  lkp_c (P := OkP 411) ⟨(PuOK.ok (ok_aload dX5_statement_262)), m_aload⟩ (
  lkp_c (P := OkP 411) ⟨ok_cv (List.forall_mem_cons.mpr ⟨tg_F (ci := 14) (r := CLr 14) (y := 226) rfl ⟨rfl, by decide⟩ q1587 q1590 q1592 q147 q1594 q1589 q1588 q1593 q1591 q1580 ⟨cn_41.1, cn_41.2, pd_13⟩ dX5_statement_264, (List.forall_mem_nil _)⟩) hd_no, m_cv⟩ (
  lkp_c (P := OkP 411) ⟨ok_cv (List.forall_mem_cons.mpr ⟨tg_V (ci := 9) (r := CLr 9) (y := 413) rfl ⟨rfl, by decide⟩ rfl q1407 q1409 qs6 q141 q1410 ⟨cn_38.1, cn_38.2, pd_1⟩ dX5_statement_269, (List.forall_mem_nil _)⟩) hd_no, m_cv⟩ (
  lkp_c (P := OkP 411) ⟨ok_iast dX5_statement_272, m_wrI⟩ (
  lkp_c (P := OkP 411) ⟨(PuOK.ok (ok_goto dX5_statement_273 rfl)), m_goto⟩ (
  lkp_c (P := OkP 411) ⟨ok_new (ci := 10) (r := CLr 10) rfl dvok_10 q1379 q1380 q142 dX5_statement_276, m_new⟩ (
  lkp_c (P := OkP 411) ⟨(PuOK.ok (ok_dup dX5_statement_279)), m_dup⟩ (
  lkp_c (P := OkP 411) ⟨(PuOK.ok (ok_iconst dX5_statement_280 rfl)), m_push⟩ (
  lkp_c (P := OkP 411) ⟨(PuOK.ok (ok_aload_n dX5_statement_281 rfl)), m_aload⟩ (
  lkp_c (P := OkP 411) ⟨ok_get ⟨"TollRoad$Parser", q1342, Or.inl rfl⟩ dX5_statement_282, m_get⟩ (
  lkp_c (P := OkP 411) ⟨ok_ci (tg_I (rt := none) ⟨rfl, by decide⟩ rfl q1388 q1389 q142 q1390 ⟨cn_58.1, cn_58.2, pd_5⟩ dX5_statement_285) hd_no, m_ci⟩ (
  lkp_c (P := OkP 411) ⟨ok_athrow hd_no dX5_statement_288, m_athrow⟩ (
  lkp_c (P := OkP 411) ⟨ok_vret rfl dX5_statement_289, m_vret⟩ (
  trivial))))))))))))))
theorem mt_411 : MtOK TB NT IT 411 := ⟨by decide +kernel, rfl, (fun h => by cases h), Or.inl ⟨rfl, rfl⟩, rfl, by decide, lk2_all (P := OkP 411) ⟨c_411_0, c_411_1, c_411_2, c_411_3, c_411_4, trivial⟩⟩
def dkwX5_require_0 : List UInt8 := [27, 154, 0, 16, 187, 0, 86, 89, 28, 42, 180, 0, 40, 183, 0, 88, 191, 177]
abbrev dktX5_require_0 : List UInt8 := dkwX5_require_0 ++ []
theorem dksX5_require_0 : cX5_require.data.toList.drop 0 = dktX5_require_0 := by decide +kernel
theorem dX5_require_0 : decode cX5_require 0 = .ok (.iload_n 1, 1) := dk_27 (dk_at dksX5_require_0 0 rfl rfl)
theorem dX5_require_1 : decode cX5_require 1 = .ok (.ifCond .ne 16, 3) := dk_154 0 16 (dk_at dksX5_require_0 1 rfl rfl)
theorem dX5_require_4 : decode cX5_require 4 = .ok (.new 86, 3) := dk_187 0 86 (dk_at dksX5_require_0 4 rfl rfl)
theorem dX5_require_7 : decode cX5_require 7 = .ok (.dup, 1) := dk_89 (dk_at dksX5_require_0 7 rfl rfl)
theorem dX5_require_8 : decode cX5_require 8 = .ok (.iload_n 2, 1) := dk_28 (dk_at dksX5_require_0 8 rfl rfl)
theorem dX5_require_9 : decode cX5_require 9 = .ok (.aload_n 0, 1) := dk_42 (dk_at dksX5_require_0 9 rfl rfl)
theorem dX5_require_10 : decode cX5_require 10 = .ok (.getfield 40, 3) := dk_180 0 40 (dk_at dksX5_require_0 10 rfl rfl)
theorem dX5_require_13 : decode cX5_require 13 = .ok (.invokespecial 88, 3) := dk_183 0 88 (dk_at dksX5_require_0 13 rfl rfl)
theorem dX5_require_16 : decode cX5_require 16 = .ok (.athrow, 1) := dk_191 (dk_at dksX5_require_0 16 rfl rfl)
theorem dX5_require_17 : decode cX5_require 17 = .ok (.return_, 1) := dk_177 (dk_at dksX5_require_0 17 rfl rfl)
theorem c_412_0 : LkP (OkP 412) [(0, o_iload 1 1), (1, o_if (fun x => decide (¬ x = 0)) 17), (4, o_new 10 8 dv10), (7, o_dup), (8, o_iload 2 1), (9, o_aload 0 1), (10, o_get 46), (13, o_ci 417 2), (16, o_athrow), (17, o_vret)] := lkp_c (P := OkP 412) ⟨(PuOK.ok (ok_iload_n dX5_require_0 rfl)), m_iload⟩ (
  lkp_c (P := OkP 412) ⟨(PuOK.ok (ok_if_ne dX5_require_1 rfl)), m_if⟩ (
  lkp_c (P := OkP 412) ⟨ok_new (ci := 10) (r := CLr 10) rfl dvok_10 q1379 q1380 q142 dX5_require_4, m_new⟩ (
  lkp_c (P := OkP 412) ⟨(PuOK.ok (ok_dup dX5_require_7)), m_dup⟩ (
  lkp_c (P := OkP 412) ⟨(PuOK.ok (ok_iload_n dX5_require_8 rfl)), m_iload⟩ (
  lkp_c (P := OkP 412) ⟨(PuOK.ok (ok_aload_n dX5_require_9 rfl)), m_aload⟩ (
  lkp_c (P := OkP 412) ⟨ok_get ⟨"TollRoad$Parser", q1342, Or.inl rfl⟩ dX5_require_10, m_get⟩ (
  lkp_c (P := OkP 412) ⟨ok_ci (tg_I (rt := none) ⟨rfl, by decide⟩ rfl q1388 q1389 q142 q1390 ⟨cn_58.1, cn_58.2, pd_5⟩ dX5_require_13) hd_no, m_ci⟩ (
  lkp_c (P := OkP 412) ⟨ok_athrow hd_no dX5_require_16, m_athrow⟩ (
  lkp_c (P := OkP 412) ⟨ok_vret rfl dX5_require_17, m_vret⟩ (
  trivial))))))))))
theorem mt_412 : MtOK TB NT IT 412 := ⟨by decide +kernel, rfl, (fun h => by cases h), Or.inl ⟨rfl, rfl⟩, rfl, by decide, lk2_all (P := OkP 412) ⟨c_412_0, trivial⟩⟩
def dkwX5_number_0 : List UInt8 := [42, 27, 28, 182, 0, 95, 62, 42, 182, 0, 26, 29, 172]
abbrev dktX5_number_0 : List UInt8 := dkwX5_number_0 ++ []
theorem dksX5_number_0 : cX5_number.data.toList.drop 0 = dktX5_number_0 := by decide +kernel
theorem dX5_number_0 : decode cX5_number 0 = .ok (.aload_n 0, 1) := dk_42 (dk_at dksX5_number_0 0 rfl rfl)
theorem dX5_number_1 : decode cX5_number 1 = .ok (.iload_n 1, 1) := dk_27 (dk_at dksX5_number_0 1 rfl rfl)
theorem dX5_number_2 : decode cX5_number 2 = .ok (.iload_n 2, 1) := dk_28 (dk_at dksX5_number_0 2 rfl rfl)
theorem dX5_number_3 : decode cX5_number 3 = .ok (.invokevirtual 95, 3) := dk_182 0 95 (dk_at dksX5_number_0 3 rfl rfl)
theorem dX5_number_6 : decode cX5_number 6 = .ok (.istore_n 3, 1) := dk_62 (dk_at dksX5_number_0 6 rfl rfl)
theorem dX5_number_7 : decode cX5_number 7 = .ok (.aload_n 0, 1) := dk_42 (dk_at dksX5_number_0 7 rfl rfl)
theorem dX5_number_8 : decode cX5_number 8 = .ok (.invokevirtual 26, 3) := dk_182 0 26 (dk_at dksX5_number_0 8 rfl rfl)
theorem dX5_number_11 : decode cX5_number 11 = .ok (.iload_n 3, 1) := dk_29 (dk_at dksX5_number_0 11 rfl rfl)
theorem dX5_number_12 : decode cX5_number 12 = .ok (.ireturn, 1) := dk_172 (dk_at dksX5_number_0 12 rfl rfl)
theorem c_413_0 : LkP (OkP 413) [(0, o_aload 0 1), (1, o_iload 1 1), (2, o_iload 2 1), (3, o_cv [(9, 414)] 2 3 false none), (6, o_istore 3 1), (7, o_aload 0 1), (8, o_cv [(9, 408)] 0 3 true none), (11, o_iload 3 1), (12, o_ret 1)] := lkp_c (P := OkP 413) ⟨(PuOK.ok (ok_aload_n dX5_number_0 rfl)), m_aload⟩ (
  lkp_c (P := OkP 413) ⟨(PuOK.ok (ok_iload_n dX5_number_1 rfl)), m_iload⟩ (
  lkp_c (P := OkP 413) ⟨(PuOK.ok (ok_iload_n dX5_number_2 rfl)), m_iload⟩ (
  lkp_c (P := OkP 413) ⟨ok_cv (List.forall_mem_cons.mpr ⟨tg_V (ci := 9) (r := CLr 9) (y := 414) rfl ⟨rfl, by decide⟩ rfl q1411 q1413 qs7 q141 q1414 ⟨cn_38.1, cn_38.2, pd_1⟩ dX5_number_3, (List.forall_mem_nil _)⟩) hd_no, m_cv⟩ (
  lkp_c (P := OkP 413) ⟨(PuOK.ok (ok_istore_n dX5_number_6 rfl)), m_istore⟩ (
  lkp_c (P := OkP 413) ⟨(PuOK.ok (ok_aload_n dX5_number_7 rfl)), m_aload⟩ (
  lkp_c (P := OkP 413) ⟨ok_cv (List.forall_mem_cons.mpr ⟨tg_V (ci := 9) (r := CLr 9) (y := 408) rfl ⟨rfl, by decide⟩ rfl q1273 q1275 qs2 q141 q1276 ⟨cn_38.1, cn_38.2, pd_0⟩ dX5_number_8, (List.forall_mem_nil _)⟩) hd_no, m_cv⟩ (
  lkp_c (P := OkP 413) ⟨(PuOK.ok (ok_iload_n dX5_number_11 rfl)), m_iload⟩ (
  lkp_c (P := OkP 413) ⟨ok_iret rfl rfl (by decide) dX5_number_12, m_ret⟩ (
  trivial)))))))))
theorem mt_413 : MtOK TB NT IT 413 := ⟨by decide +kernel, rfl, (fun h => by cases h), Or.inl ⟨rfl, rfl⟩, rfl, by decide, lk2_all (P := OkP 413) ⟨c_413_0, trivial⟩⟩
def dkwX5_look_1 : List UInt8 := [182, 0, 91, 42, 180, 0, 43, 172]
abbrev dktX5_look_1 : List UInt8 := dkwX5_look_1 ++ []
def dkwX5_look_0 : List UInt8 := [42, 42, 180, 0, 54, 4, 182, 0, 91, 42, 42, 180, 0, 43, 133, 27, 133, 28, 133, 184, 0, 50, 5]
abbrev dktX5_look_0 : List UInt8 := dkwX5_look_0 ++ dktX5_look_1
theorem dksX5_look_0 : cX5_look.data.toList.drop 0 = dktX5_look_0 := by decide +kernel
theorem dksX5_look_1 : cX5_look.data.toList.drop 23 = dktX5_look_1 := dk_seg dksX5_look_0 23 rfl rfl
theorem dX5_look_0 : decode cX5_look 0 = .ok (.aload_n 0, 1) := dk_42 (dk_at dksX5_look_0 0 rfl rfl)
theorem dX5_look_1 : decode cX5_look 1 = .ok (.aload_n 0, 1) := dk_42 (dk_at dksX5_look_0 1 rfl rfl)
theorem dX5_look_2 : decode cX5_look 2 = .ok (.getfield 54, 3) := dk_180 0 54 (dk_at dksX5_look_0 2 rfl rfl)
theorem dX5_look_5 : decode cX5_look 5 = .ok (.iconst 1, 1) := dk_4 (dk_at dksX5_look_0 5 rfl rfl)
theorem dX5_look_6 : decode cX5_look 6 = .ok (.invokevirtual 91, 3) := dk_182 0 91 (dk_at dksX5_look_0 6 rfl rfl)
theorem dX5_look_9 : decode cX5_look 9 = .ok (.aload_n 0, 1) := dk_42 (dk_at dksX5_look_0 9 rfl rfl)
theorem dX5_look_10 : decode cX5_look 10 = .ok (.aload_n 0, 1) := dk_42 (dk_at dksX5_look_0 10 rfl rfl)
theorem dX5_look_11 : decode cX5_look 11 = .ok (.getfield 43, 3) := dk_180 0 43 (dk_at dksX5_look_0 11 rfl rfl)
theorem dX5_look_14 : decode cX5_look 14 = .ok (.i2l, 1) := dk_133 (dk_at dksX5_look_0 14 rfl rfl)
theorem dX5_look_15 : decode cX5_look 15 = .ok (.iload_n 1, 1) := dk_27 (dk_at dksX5_look_0 15 rfl rfl)
theorem dX5_look_16 : decode cX5_look 16 = .ok (.i2l, 1) := dk_133 (dk_at dksX5_look_0 16 rfl rfl)
theorem dX5_look_17 : decode cX5_look 17 = .ok (.iload_n 2, 1) := dk_28 (dk_at dksX5_look_0 17 rfl rfl)
theorem dX5_look_18 : decode cX5_look 18 = .ok (.i2l, 1) := dk_133 (dk_at dksX5_look_0 18 rfl rfl)
theorem dX5_look_19 : decode cX5_look 19 = .ok (.invokestatic 50, 3) := dk_184 0 50 (dk_at dksX5_look_0 19 rfl rfl)
theorem dX5_look_22 : decode cX5_look 22 = .ok (.iconst 2, 1) := dk_5 (dk_at dksX5_look_0 22 rfl rfl)
theorem dX5_look_23 : decode cX5_look 23 = .ok (.invokevirtual 91, 3) := dk_182 0 91 (dk_at dksX5_look_1 0 rfl rfl)
theorem dX5_look_26 : decode cX5_look 26 = .ok (.aload_n 0, 1) := dk_42 (dk_at dksX5_look_1 3 rfl rfl)
theorem dX5_look_27 : decode cX5_look 27 = .ok (.getfield 43, 3) := dk_180 0 43 (dk_at dksX5_look_1 4 rfl rfl)
theorem dX5_look_30 : decode cX5_look 30 = .ok (.ireturn, 1) := dk_172 (dk_at dksX5_look_1 7 rfl rfl)
theorem c_414_0 : LkP (OkP 414) [(0, o_aload 0 1), (1, o_aload 0 1), (2, o_get 47), (5, o_push 1 (.int 1)), (6, o_cv [(9, 412)] 2 3 true none), (9, o_aload 0 1), (10, o_aload 0 1), (11, o_get 49), (14, o_i2l), (15, o_iload 1 1), (16, o_i2l), (17, o_iload 2 1), (18, o_i2l), (19, o_cs 165 3 false none), (22, o_push 1 (.int 2)), (23, o_cv [(9, 412)] 2 3 true none), (26, o_aload 0 1), (27, o_get 49), (30, o_ret 1)] := lkp_c (P := OkP 414) ⟨(PuOK.ok (ok_aload_n dX5_look_0 rfl)), m_aload⟩ (
  lkp_c (P := OkP 414) ⟨(PuOK.ok (ok_aload_n dX5_look_1 rfl)), m_aload⟩ (
  lkp_c (P := OkP 414) ⟨ok_get ⟨"TollRoad$Parser", q1343, Or.inl rfl⟩ dX5_look_2, m_get⟩ (
  lkp_c (P := OkP 414) ⟨(PuOK.ok (ok_iconst dX5_look_5 rfl)), m_push⟩ (
  lkp_c (P := OkP 414) ⟨ok_cv (List.forall_mem_cons.mpr ⟨tg_V (ci := 9) (r := CLr 9) (y := 412) rfl ⟨rfl, by decide⟩ rfl q1375 q1377 qs5 q141 q1378 ⟨cn_38.1, cn_38.2, pd_124⟩ dX5_look_6, (List.forall_mem_nil _)⟩) hd_no, m_cv⟩ (
  lkp_c (P := OkP 414) ⟨(PuOK.ok (ok_aload_n dX5_look_9 rfl)), m_aload⟩ (
  lkp_c (P := OkP 414) ⟨(PuOK.ok (ok_aload_n dX5_look_10 rfl)), m_aload⟩ (
  lkp_c (P := OkP 414) ⟨ok_get ⟨"TollRoad$Parser", q1345, Or.inl rfl⟩ dX5_look_11, m_get⟩ (
  lkp_c (P := OkP 414) ⟨(PuOK.ok (ok_i2l dX5_look_14)), m_i2l⟩ (
  lkp_c (P := OkP 414) ⟨(PuOK.ok (ok_iload_n dX5_look_15 rfl)), m_iload⟩ (
  lkp_c (P := OkP 414) ⟨(PuOK.ok (ok_i2l dX5_look_16)), m_i2l⟩ (
  lkp_c (P := OkP 414) ⟨(PuOK.ok (ok_iload_n dX5_look_17 rfl)), m_iload⟩ (
  lkp_c (P := OkP 414) ⟨(PuOK.ok (ok_i2l dX5_look_18)), m_i2l⟩ (
  lkp_c (P := OkP 414) ⟨ok_cs (tg_SN ⟨rfl, by decide⟩ q1283 q1284 q115 q1285 ⟨cn_33.1, cn_33.2, pd_74⟩ dX5_look_19) hd_no, m_cs⟩ (
  lkp_c (P := OkP 414) ⟨(PuOK.ok (ok_iconst dX5_look_22 rfl)), m_push⟩ (
  lkp_c (P := OkP 414) ⟨ok_cv (List.forall_mem_cons.mpr ⟨tg_V (ci := 9) (r := CLr 9) (y := 412) rfl ⟨rfl, by decide⟩ rfl q1375 q1377 qs5 q141 q1378 ⟨cn_38.1, cn_38.2, pd_124⟩ dX5_look_23, (List.forall_mem_nil _)⟩) hd_no, m_cv⟩ (
  lkp_c (P := OkP 414) ⟨(PuOK.ok (ok_aload_n dX5_look_26 rfl)), m_aload⟩ (
  lkp_c (P := OkP 414) ⟨ok_get ⟨"TollRoad$Parser", q1345, Or.inl rfl⟩ dX5_look_27, m_get⟩ (
  lkp_c (P := OkP 414) ⟨ok_iret rfl rfl (by decide) dX5_look_30, m_ret⟩ (
  trivial)))))))))))))))))))
theorem mt_414 : MtOK TB NT IT 414 := ⟨by decide +kernel, rfl, (fun h => by cases h), Or.inl ⟨rfl, rfl⟩, rfl, by decide, lk2_all (P := OkP 414) ⟨c_414_0, trivial⟩⟩
def dkwX5_road_4 : List UInt8 := [182, 0, 110, 182, 0, 161, 54, 4, 177]
abbrev dktX5_road_4 : List UInt8 := dkwX5_road_4 ++ []
def dkwX5_road_3 : List UInt8 := [42, 4, 16, 60, 182, 0, 110, 62, 42, 180, 0, 18, 180, 0, 101, 27, 28, 29, 42, 3, 17, 3, 231]
abbrev dktX5_road_3 : List UInt8 := dkwX5_road_3 ++ dktX5_road_4
def dkwX5_road_2 : List UInt8 := [180, 0, 101, 27, 28, 182, 0, 158, 199, 0, 7, 4, 167, 0, 4, 3, 7, 182, 0, 91, 42, 182, 0, 26]
abbrev dktX5_road_2 : List UInt8 := dkwX5_road_2 ++ dktX5_road_3
def dkwX5_road_1 : List UInt8 := [180, 0, 101, 180, 0, 105, 4, 100, 182, 0, 95, 61, 42, 27, 28, 159, 0, 22, 42, 180, 0, 18]
abbrev dktX5_road_1 : List UInt8 := dkwX5_road_1 ++ dktX5_road_2
def dkwX5_road_0 : List UInt8 := [42, 3, 42, 180, 0, 18, 180, 0, 101, 180, 0, 105, 4, 100, 182, 0, 110, 60, 42, 3, 42, 180, 0, 18]
abbrev dktX5_road_0 : List UInt8 := dkwX5_road_0 ++ dktX5_road_1
theorem dksX5_road_0 : cX5_road.data.toList.drop 0 = dktX5_road_0 := by decide +kernel
theorem dksX5_road_1 : cX5_road.data.toList.drop 24 = dktX5_road_1 := dk_seg dksX5_road_0 24 rfl rfl
theorem dksX5_road_2 : cX5_road.data.toList.drop 46 = dktX5_road_2 := dk_seg dksX5_road_1 22 rfl rfl
theorem dksX5_road_3 : cX5_road.data.toList.drop 70 = dktX5_road_3 := dk_seg dksX5_road_2 24 rfl rfl
theorem dksX5_road_4 : cX5_road.data.toList.drop 93 = dktX5_road_4 := dk_seg dksX5_road_3 23 rfl rfl
theorem dX5_road_0 : decode cX5_road 0 = .ok (.aload_n 0, 1) := dk_42 (dk_at dksX5_road_0 0 rfl rfl)
theorem dX5_road_1 : decode cX5_road 1 = .ok (.iconst 0, 1) := dk_3 (dk_at dksX5_road_0 1 rfl rfl)
theorem dX5_road_2 : decode cX5_road 2 = .ok (.aload_n 0, 1) := dk_42 (dk_at dksX5_road_0 2 rfl rfl)
theorem dX5_road_3 : decode cX5_road 3 = .ok (.getfield 18, 3) := dk_180 0 18 (dk_at dksX5_road_0 3 rfl rfl)
theorem dX5_road_6 : decode cX5_road 6 = .ok (.getfield 101, 3) := dk_180 0 101 (dk_at dksX5_road_0 6 rfl rfl)
theorem dX5_road_9 : decode cX5_road 9 = .ok (.getfield 105, 3) := dk_180 0 105 (dk_at dksX5_road_0 9 rfl rfl)
theorem dX5_road_12 : decode cX5_road 12 = .ok (.iconst 1, 1) := dk_4 (dk_at dksX5_road_0 12 rfl rfl)
theorem dX5_road_13 : decode cX5_road 13 = .ok (.isub, 1) := dk_100 (dk_at dksX5_road_0 13 rfl rfl)
theorem dX5_road_14 : decode cX5_road 14 = .ok (.invokevirtual 110, 3) := dk_182 0 110 (dk_at dksX5_road_0 14 rfl rfl)
theorem dX5_road_17 : decode cX5_road 17 = .ok (.istore_n 1, 1) := dk_60 (dk_at dksX5_road_0 17 rfl rfl)
theorem dX5_road_18 : decode cX5_road 18 = .ok (.aload_n 0, 1) := dk_42 (dk_at dksX5_road_0 18 rfl rfl)
theorem dX5_road_19 : decode cX5_road 19 = .ok (.iconst 0, 1) := dk_3 (dk_at dksX5_road_0 19 rfl rfl)
theorem dX5_road_20 : decode cX5_road 20 = .ok (.aload_n 0, 1) := dk_42 (dk_at dksX5_road_0 20 rfl rfl)
theorem dX5_road_21 : decode cX5_road 21 = .ok (.getfield 18, 3) := dk_180 0 18 (dk_at dksX5_road_0 21 rfl rfl)
theorem dX5_road_24 : decode cX5_road 24 = .ok (.getfield 101, 3) := dk_180 0 101 (dk_at dksX5_road_1 0 rfl rfl)
theorem dX5_road_27 : decode cX5_road 27 = .ok (.getfield 105, 3) := dk_180 0 105 (dk_at dksX5_road_1 3 rfl rfl)
theorem dX5_road_30 : decode cX5_road 30 = .ok (.iconst 1, 1) := dk_4 (dk_at dksX5_road_1 6 rfl rfl)
theorem dX5_road_31 : decode cX5_road 31 = .ok (.isub, 1) := dk_100 (dk_at dksX5_road_1 7 rfl rfl)
theorem dX5_road_32 : decode cX5_road 32 = .ok (.invokevirtual 95, 3) := dk_182 0 95 (dk_at dksX5_road_1 8 rfl rfl)
theorem dX5_road_35 : decode cX5_road 35 = .ok (.istore_n 2, 1) := dk_61 (dk_at dksX5_road_1 11 rfl rfl)
theorem dX5_road_36 : decode cX5_road 36 = .ok (.aload_n 0, 1) := dk_42 (dk_at dksX5_road_1 12 rfl rfl)
theorem dX5_road_37 : decode cX5_road 37 = .ok (.iload_n 1, 1) := dk_27 (dk_at dksX5_road_1 13 rfl rfl)
theorem dX5_road_38 : decode cX5_road 38 = .ok (.iload_n 2, 1) := dk_28 (dk_at dksX5_road_1 14 rfl rfl)
theorem dX5_road_39 : decode cX5_road 39 = .ok (.if_icmp .eq 22, 3) := dk_159 0 22 (dk_at dksX5_road_1 15 rfl rfl)
theorem dX5_road_42 : decode cX5_road 42 = .ok (.aload_n 0, 1) := dk_42 (dk_at dksX5_road_1 18 rfl rfl)
theorem dX5_road_43 : decode cX5_road 43 = .ok (.getfield 18, 3) := dk_180 0 18 (dk_at dksX5_road_1 19 rfl rfl)
theorem dX5_road_46 : decode cX5_road 46 = .ok (.getfield 101, 3) := dk_180 0 101 (dk_at dksX5_road_2 0 rfl rfl)
theorem dX5_road_49 : decode cX5_road 49 = .ok (.iload_n 1, 1) := dk_27 (dk_at dksX5_road_2 3 rfl rfl)
theorem dX5_road_50 : decode cX5_road 50 = .ok (.iload_n 2, 1) := dk_28 (dk_at dksX5_road_2 4 rfl rfl)
theorem dX5_road_51 : decode cX5_road 51 = .ok (.invokevirtual 158, 3) := dk_182 0 158 (dk_at dksX5_road_2 5 rfl rfl)
theorem dX5_road_54 : decode cX5_road 54 = .ok (.ifnonnull 7, 3) := dk_199 0 7 (dk_at dksX5_road_2 8 rfl rfl)
theorem dX5_road_57 : decode cX5_road 57 = .ok (.iconst 1, 1) := dk_4 (dk_at dksX5_road_2 11 rfl rfl)
theorem dX5_road_58 : decode cX5_road 58 = .ok (.goto 4, 3) := dk_167 0 4 (dk_at dksX5_road_2 12 rfl rfl)
theorem dX5_road_61 : decode cX5_road 61 = .ok (.iconst 0, 1) := dk_3 (dk_at dksX5_road_2 15 rfl rfl)
theorem dX5_road_62 : decode cX5_road 62 = .ok (.iconst 4, 1) := dk_7 (dk_at dksX5_road_2 16 rfl rfl)
theorem dX5_road_63 : decode cX5_road 63 = .ok (.invokevirtual 91, 3) := dk_182 0 91 (dk_at dksX5_road_2 17 rfl rfl)
theorem dX5_road_66 : decode cX5_road 66 = .ok (.aload_n 0, 1) := dk_42 (dk_at dksX5_road_2 20 rfl rfl)
theorem dX5_road_67 : decode cX5_road 67 = .ok (.invokevirtual 26, 3) := dk_182 0 26 (dk_at dksX5_road_2 21 rfl rfl)
theorem dX5_road_70 : decode cX5_road 70 = .ok (.aload_n 0, 1) := dk_42 (dk_at dksX5_road_3 0 rfl rfl)
theorem dX5_road_71 : decode cX5_road 71 = .ok (.iconst 1, 1) := dk_4 (dk_at dksX5_road_3 1 rfl rfl)
theorem dX5_road_72 : decode cX5_road 72 = .ok (.bipush 60, 2) := dk_16 60 (dk_at dksX5_road_3 2 rfl rfl)
theorem dX5_road_74 : decode cX5_road 74 = .ok (.invokevirtual 110, 3) := dk_182 0 110 (dk_at dksX5_road_3 4 rfl rfl)
theorem dX5_road_77 : decode cX5_road 77 = .ok (.istore_n 3, 1) := dk_62 (dk_at dksX5_road_3 7 rfl rfl)
theorem dX5_road_78 : decode cX5_road 78 = .ok (.aload_n 0, 1) := dk_42 (dk_at dksX5_road_3 8 rfl rfl)
theorem dX5_road_79 : decode cX5_road 79 = .ok (.getfield 18, 3) := dk_180 0 18 (dk_at dksX5_road_3 9 rfl rfl)
theorem dX5_road_82 : decode cX5_road 82 = .ok (.getfield 101, 3) := dk_180 0 101 (dk_at dksX5_road_3 12 rfl rfl)
theorem dX5_road_85 : decode cX5_road 85 = .ok (.iload_n 1, 1) := dk_27 (dk_at dksX5_road_3 15 rfl rfl)
theorem dX5_road_86 : decode cX5_road 86 = .ok (.iload_n 2, 1) := dk_28 (dk_at dksX5_road_3 16 rfl rfl)
theorem dX5_road_87 : decode cX5_road 87 = .ok (.iload_n 3, 1) := dk_29 (dk_at dksX5_road_3 17 rfl rfl)
theorem dX5_road_88 : decode cX5_road 88 = .ok (.aload_n 0, 1) := dk_42 (dk_at dksX5_road_3 18 rfl rfl)
theorem dX5_road_89 : decode cX5_road 89 = .ok (.iconst 0, 1) := dk_3 (dk_at dksX5_road_3 19 rfl rfl)
theorem dX5_road_90 : decode cX5_road 90 = .ok (.sipush 999, 3) := dk_17 3 231 (dk_at dksX5_road_3 20 rfl rfl)
theorem dX5_road_93 : decode cX5_road 93 = .ok (.invokevirtual 110, 3) := dk_182 0 110 (dk_at dksX5_road_4 0 rfl rfl)
theorem dX5_road_96 : decode cX5_road 96 = .ok (.invokevirtual 161, 3) := dk_182 0 161 (dk_at dksX5_road_4 3 rfl rfl)
theorem dX5_road_99 : decode cX5_road 99 = .ok (.istore 4, 2) := dk_54 4 (dk_at dksX5_road_4 6 rfl rfl)
theorem dX5_road_101 : decode cX5_road 101 = .ok (.return_, 1) := dk_177 (dk_at dksX5_road_4 8 rfl rfl)
theorem c_415_0 : LkP (OkP 415) [(0, o_aload 0 1), (1, o_push 1 (.int 0)), (2, o_aload 0 1), (3, o_get 44), (6, o_get 6), (9, o_get 15), (12, o_push 1 (.int 1)), (13, o_iop (fun x y => x - y)), (14, o_cv [(9, 413)] 2 3 false none), (17, o_istore 1 1), (18, o_aload 0 1), (19, o_push 1 (.int 0)), (20, o_aload 0 1), (21, o_get 44), (24, o_get 6), (27, o_get 15), (30, o_push 1 (.int 1)), (31, o_iop (fun x y => x - y)), (32, o_cv [(9, 414)] 2 3 false none), (35, o_istore 2 1), (36, o_aload 0 1), (37, o_iload 1 1), (38, o_iload 2 1), (39, o_icmp (fun x y => decide (x = y)) 61), (42, o_aload 0 1), (43, o_get 44), (46, o_get 6), (49, o_iload 1 1), (50, o_iload 2 1), (51, o_cv [(2, 284)] 2 3 false none), (54, o_ifnonnull 61), (57, o_push 1 (.int 1)), (58, o_goto 62), (61, o_push 1 (.int 0)), (62, o_push 1 (.int 4)), (63, o_cv [(9, 412)] 2 3 true none)] := lkp_c (P := OkP 415) ⟨(PuOK.ok (ok_aload_n dX5_road_0 rfl)), m_aload⟩ (
  lkp_c (P := OkP 415) ⟨(PuOK.ok (ok_iconst dX5_road_1 rfl)), m_push⟩ (
  lkp_c (P := OkP 415) ⟨(PuOK.ok (ok_aload_n dX5_road_2 rfl)), m_aload⟩ (
  lkp_c (P := OkP 415) ⟨ok_get ⟨"TollRoad$Parser", q1339, Or.inl rfl⟩ dX5_road_3, m_get⟩ (
  lkp_c (P := OkP 415) ⟨ok_getN ⟨"TollRoad$World", "TollRoad", q628, Or.inl rfl⟩ dX5_road_6, m_get⟩ (
  lkp_c (P := OkP 415) ⟨ok_getN ⟨"TollRoad$Network", "TollRoad", q210, Or.inl rfl⟩ dX5_road_9, m_get⟩ (
  lkp_c (P := OkP 415) ⟨(PuOK.ok (ok_iconst dX5_road_12 rfl)), m_push⟩ (
  lkp_c (P := OkP 415) ⟨(PuOK.ok (ok_isub dX5_road_13)), m_iop⟩ (
  lkp_c (P := OkP 415) ⟨ok_cv (List.forall_mem_cons.mpr ⟨tg_V (ci := 9) (r := CLr 9) (y := 413) rfl ⟨rfl, by decide⟩ rfl q1407 q1409 qs6 q141 q1410 ⟨cn_38.1, cn_38.2, pd_1⟩ dX5_road_14, (List.forall_mem_nil _)⟩) hd_no, m_cv⟩ (
  lkp_c (P := OkP 415) ⟨(PuOK.ok (ok_istore_n dX5_road_17 rfl)), m_istore⟩ (
  lkp_c (P := OkP 415) ⟨(PuOK.ok (ok_aload_n dX5_road_18 rfl)), m_aload⟩ (
  lkp_c (P := OkP 415) ⟨(PuOK.ok (ok_iconst dX5_road_19 rfl)), m_push⟩ (
  lkp_c (P := OkP 415) ⟨(PuOK.ok (ok_aload_n dX5_road_20 rfl)), m_aload⟩ (
  lkp_c (P := OkP 415) ⟨ok_get ⟨"TollRoad$Parser", q1339, Or.inl rfl⟩ dX5_road_21, m_get⟩ (
  lkp_c (P := OkP 415) ⟨ok_getN ⟨"TollRoad$World", "TollRoad", q628, Or.inl rfl⟩ dX5_road_24, m_get⟩ (
  lkp_c (P := OkP 415) ⟨ok_getN ⟨"TollRoad$Network", "TollRoad", q210, Or.inl rfl⟩ dX5_road_27, m_get⟩ (
  lkp_c (P := OkP 415) ⟨(PuOK.ok (ok_iconst dX5_road_30 rfl)), m_push⟩ (
  lkp_c (P := OkP 415) ⟨(PuOK.ok (ok_isub dX5_road_31)), m_iop⟩ (
  lkp_c (P := OkP 415) ⟨ok_cv (List.forall_mem_cons.mpr ⟨tg_V (ci := 9) (r := CLr 9) (y := 414) rfl ⟨rfl, by decide⟩ rfl q1411 q1413 qs7 q141 q1414 ⟨cn_38.1, cn_38.2, pd_1⟩ dX5_road_32, (List.forall_mem_nil _)⟩) hd_no, m_cv⟩ (
  lkp_c (P := OkP 415) ⟨(PuOK.ok (ok_istore_n dX5_road_35 rfl)), m_istore⟩ (
  lkp_c (P := OkP 415) ⟨(PuOK.ok (ok_aload_n dX5_road_36 rfl)), m_aload⟩ (
  lkp_c (P := OkP 415) ⟨(PuOK.ok (ok_iload_n dX5_road_37 rfl)), m_iload⟩ (
  lkp_c (P := OkP 415) ⟨(PuOK.ok (ok_iload_n dX5_road_38 rfl)), m_iload⟩ (
  lkp_c (P := OkP 415) ⟨(PuOK.ok (ok_icmp_eq dX5_road_39 rfl)), m_icmp⟩ (
  lkp_c (P := OkP 415) ⟨(PuOK.ok (ok_aload_n dX5_road_42 rfl)), m_aload⟩ (
  lkp_c (P := OkP 415) ⟨ok_get ⟨"TollRoad$Parser", q1339, Or.inl rfl⟩ dX5_road_43, m_get⟩ (
  lkp_c (P := OkP 415) ⟨ok_getN ⟨"TollRoad$World", "TollRoad", q628, Or.inl rfl⟩ dX5_road_46, m_get⟩ (
  lkp_c (P := OkP 415) ⟨(PuOK.ok (ok_iload_n dX5_road_49 rfl)), m_iload⟩ (
  lkp_c (P := OkP 415) ⟨(PuOK.ok (ok_iload_n dX5_road_50 rfl)), m_iload⟩ (
  lkp_c (P := OkP 415) ⟨ok_cv (List.forall_mem_cons.mpr ⟨tg_V (ci := 2) (r := CLr 2) (y := 284) rfl ⟨rfl, by decide⟩ rfl q1423 q1424 q1425 q117 q1426 ⟨cn_40.1, cn_40.2, pd_75⟩ dX5_road_51, (List.forall_mem_nil _)⟩) hd_no, m_cv⟩ (
  lkp_c (P := OkP 415) ⟨(PuOK.ok (ok_ifnonnull dX5_road_54 rfl)), m_ifnonnull⟩ (
  lkp_c (P := OkP 415) ⟨(PuOK.ok (ok_iconst dX5_road_57 rfl)), m_push⟩ (
  lkp_c (P := OkP 415) ⟨(PuOK.ok (ok_goto dX5_road_58 rfl)), m_goto⟩ (
  lkp_c (P := OkP 415) ⟨(PuOK.ok (ok_iconst dX5_road_61 rfl)), m_push⟩ (
  lkp_c (P := OkP 415) ⟨(PuOK.ok (ok_iconst dX5_road_62 rfl)), m_push⟩ (
  lkp_c (P := OkP 415) ⟨ok_cv (List.forall_mem_cons.mpr ⟨tg_V (ci := 9) (r := CLr 9) (y := 412) rfl ⟨rfl, by decide⟩ rfl q1375 q1377 qs5 q141 q1378 ⟨cn_38.1, cn_38.2, pd_124⟩ dX5_road_63, (List.forall_mem_nil _)⟩) hd_no, m_cv⟩ (
  trivial))))))))))))))))))))))))))))))))))))
theorem c_415_1 : LkP (OkP 415) [(66, o_aload 0 1), (67, o_cv [(9, 408)] 0 3 true none), (70, o_aload 0 1), (71, o_push 1 (.int 1)), (72, o_push 2 (.int 60)), (74, o_cv [(9, 413)] 2 3 false none), (77, o_istore 3 1), (78, o_aload 0 1), (79, o_get 44), (82, o_get 6), (85, o_iload 1 1), (86, o_iload 2 1), (87, o_iload 3 1), (88, o_aload 0 1), (89, o_push 1 (.int 0)), (90, o_push 3 (.int 999)), (93, o_cv [(9, 413)] 2 3 false none), (96, o_cv [(2, 285)] 4 3 false none), (99, o_istore 4 2), (101, o_vret)] := lkp_c (P := OkP 415) ⟨(PuOK.ok (ok_aload_n dX5_road_66 rfl)), m_aload⟩ (
  lkp_c (P := OkP 415) ⟨ok_cv (List.forall_mem_cons.mpr ⟨tg_V (ci := 9) (r := CLr 9) (y := 408) rfl ⟨rfl, by decide⟩ rfl q1273 q1275 qs2 q141 q1276 ⟨cn_38.1, cn_38.2, pd_0⟩ dX5_road_67, (List.forall_mem_nil _)⟩) hd_no, m_cv⟩ (
  lkp_c (P := OkP 415) ⟨(PuOK.ok (ok_aload_n dX5_road_70 rfl)), m_aload⟩ (
  lkp_c (P := OkP 415) ⟨(PuOK.ok (ok_iconst dX5_road_71 rfl)), m_push⟩ (
  lkp_c (P := OkP 415) ⟨(PuOK.ok (ok_bipush dX5_road_72 rfl)), m_push⟩ (
  lkp_c (P := OkP 415) ⟨ok_cv (List.forall_mem_cons.mpr ⟨tg_V (ci := 9) (r := CLr 9) (y := 413) rfl ⟨rfl, by decide⟩ rfl q1407 q1409 qs6 q141 q1410 ⟨cn_38.1, cn_38.2, pd_1⟩ dX5_road_74, (List.forall_mem_nil _)⟩) hd_no, m_cv⟩ (
  lkp_c (P := OkP 415) ⟨(PuOK.ok (ok_istore_n dX5_road_77 rfl)), m_istore⟩ (
  lkp_c (P := OkP 415) ⟨(PuOK.ok (ok_aload_n dX5_road_78 rfl)), m_aload⟩ (
  lkp_c (P := OkP 415) ⟨ok_get ⟨"TollRoad$Parser", q1339, Or.inl rfl⟩ dX5_road_79, m_get⟩ (
  lkp_c (P := OkP 415) ⟨ok_getN ⟨"TollRoad$World", "TollRoad", q628, Or.inl rfl⟩ dX5_road_82, m_get⟩ (
  lkp_c (P := OkP 415) ⟨(PuOK.ok (ok_iload_n dX5_road_85 rfl)), m_iload⟩ (
  lkp_c (P := OkP 415) ⟨(PuOK.ok (ok_iload_n dX5_road_86 rfl)), m_iload⟩ (
  lkp_c (P := OkP 415) ⟨(PuOK.ok (ok_iload_n dX5_road_87 rfl)), m_iload⟩ (
  lkp_c (P := OkP 415) ⟨(PuOK.ok (ok_aload_n dX5_road_88 rfl)), m_aload⟩ (
  lkp_c (P := OkP 415) ⟨(PuOK.ok (ok_iconst dX5_road_89 rfl)), m_push⟩ (
  lkp_c (P := OkP 415) ⟨(PuOK.ok (ok_sipush dX5_road_90 rfl)), m_push⟩ (
  lkp_c (P := OkP 415) ⟨ok_cv (List.forall_mem_cons.mpr ⟨tg_V (ci := 9) (r := CLr 9) (y := 413) rfl ⟨rfl, by decide⟩ rfl q1407 q1409 qs6 q141 q1410 ⟨cn_38.1, cn_38.2, pd_1⟩ dX5_road_93, (List.forall_mem_nil _)⟩) hd_no, m_cv⟩ (
  lkp_c (P := OkP 415) ⟨ok_cv (List.forall_mem_cons.mpr ⟨tg_V (ci := 2) (r := CLr 2) (y := 285) rfl ⟨rfl, by decide⟩ rfl q1427 q1428 q1429 q117 q1430 ⟨cn_40.1, cn_40.2, pd_62⟩ dX5_road_96, (List.forall_mem_nil _)⟩) hd_no, m_cv⟩ (
  lkp_c (P := OkP 415) ⟨(PuOK.ok (ok_istore dX5_road_99)), m_istore⟩ (
  lkp_c (P := OkP 415) ⟨ok_vret rfl dX5_road_101, m_vret⟩ (
  trivial))))))))))))))))))))
theorem mt_415 : MtOK TB NT IT 415 := ⟨by decide +kernel, rfl, (fun h => by cases h), Or.inl ⟨rfl, rfl⟩, rfl, by decide, lk2_all (P := OkP 415) ⟨c_415_0, c_415_1, trivial⟩⟩
def dkwX5_vehicle_1 : List UInt8 := [180, 0, 18, 180, 0, 121, 4, 100, 182, 0, 110, 61, 42, 180, 0, 18, 27, 28, 182, 0, 165, 62, 177]
abbrev dktX5_vehicle_1 : List UInt8 := dkwX5_vehicle_1 ++ []
def dkwX5_vehicle_0 : List UInt8 := [42, 4, 7, 182, 0, 110, 60, 2, 61, 42, 180, 0, 83, 5, 160, 0, 22, 42, 182, 0, 26, 42, 3, 42]
abbrev dktX5_vehicle_0 : List UInt8 := dkwX5_vehicle_0 ++ dktX5_vehicle_1
theorem dksX5_vehicle_0 : cX5_vehicle.data.toList.drop 0 = dktX5_vehicle_0 := by decide +kernel
theorem dksX5_vehicle_1 : cX5_vehicle.data.toList.drop 24 = dktX5_vehicle_1 := dk_seg dksX5_vehicle_0 24 rfl rfl
theorem dX5_vehicle_0 : decode cX5_vehicle 0 = .ok (.aload_n 0, 1) := dk_42 (dk_at dksX5_vehicle_0 0 rfl rfl)
theorem dX5_vehicle_1 : decode cX5_vehicle 1 = .ok (.iconst 1, 1) := dk_4 (dk_at dksX5_vehicle_0 1 rfl rfl)
theorem dX5_vehicle_2 : decode cX5_vehicle 2 = .ok (.iconst 4, 1) := dk_7 (dk_at dksX5_vehicle_0 2 rfl rfl)
theorem dX5_vehicle_3 : decode cX5_vehicle 3 = .ok (.invokevirtual 110, 3) := dk_182 0 110 (dk_at dksX5_vehicle_0 3 rfl rfl)
theorem dX5_vehicle_6 : decode cX5_vehicle 6 = .ok (.istore_n 1, 1) := dk_60 (dk_at dksX5_vehicle_0 6 rfl rfl)
theorem dX5_vehicle_7 : decode cX5_vehicle 7 = .ok (.iconst (-1), 1) := dk_2 (dk_at dksX5_vehicle_0 7 rfl rfl)
theorem dX5_vehicle_8 : decode cX5_vehicle 8 = .ok (.istore_n 2, 1) := dk_61 (dk_at dksX5_vehicle_0 8 rfl rfl)
theorem dX5_vehicle_9 : decode cX5_vehicle 9 = .ok (.aload_n 0, 1) := dk_42 (dk_at dksX5_vehicle_0 9 rfl rfl)
theorem dX5_vehicle_10 : decode cX5_vehicle 10 = .ok (.getfield 83, 3) := dk_180 0 83 (dk_at dksX5_vehicle_0 10 rfl rfl)
theorem dX5_vehicle_13 : decode cX5_vehicle 13 = .ok (.iconst 2, 1) := dk_5 (dk_at dksX5_vehicle_0 13 rfl rfl)
theorem dX5_vehicle_14 : decode cX5_vehicle 14 = .ok (.if_icmp .ne 22, 3) := dk_160 0 22 (dk_at dksX5_vehicle_0 14 rfl rfl)
theorem dX5_vehicle_17 : decode cX5_vehicle 17 = .ok (.aload_n 0, 1) := dk_42 (dk_at dksX5_vehicle_0 17 rfl rfl)
theorem dX5_vehicle_18 : decode cX5_vehicle 18 = .ok (.invokevirtual 26, 3) := dk_182 0 26 (dk_at dksX5_vehicle_0 18 rfl rfl)
theorem dX5_vehicle_21 : decode cX5_vehicle 21 = .ok (.aload_n 0, 1) := dk_42 (dk_at dksX5_vehicle_0 21 rfl rfl)
theorem dX5_vehicle_22 : decode cX5_vehicle 22 = .ok (.iconst 0, 1) := dk_3 (dk_at dksX5_vehicle_0 22 rfl rfl)
theorem dX5_vehicle_23 : decode cX5_vehicle 23 = .ok (.aload_n 0, 1) := dk_42 (dk_at dksX5_vehicle_0 23 rfl rfl)
theorem dX5_vehicle_24 : decode cX5_vehicle 24 = .ok (.getfield 18, 3) := dk_180 0 18 (dk_at dksX5_vehicle_1 0 rfl rfl)
theorem dX5_vehicle_27 : decode cX5_vehicle 27 = .ok (.getfield 121, 3) := dk_180 0 121 (dk_at dksX5_vehicle_1 3 rfl rfl)
theorem dX5_vehicle_30 : decode cX5_vehicle 30 = .ok (.iconst 1, 1) := dk_4 (dk_at dksX5_vehicle_1 6 rfl rfl)
theorem dX5_vehicle_31 : decode cX5_vehicle 31 = .ok (.isub, 1) := dk_100 (dk_at dksX5_vehicle_1 7 rfl rfl)
theorem dX5_vehicle_32 : decode cX5_vehicle 32 = .ok (.invokevirtual 110, 3) := dk_182 0 110 (dk_at dksX5_vehicle_1 8 rfl rfl)
theorem dX5_vehicle_35 : decode cX5_vehicle 35 = .ok (.istore_n 2, 1) := dk_61 (dk_at dksX5_vehicle_1 11 rfl rfl)
theorem dX5_vehicle_36 : decode cX5_vehicle 36 = .ok (.aload_n 0, 1) := dk_42 (dk_at dksX5_vehicle_1 12 rfl rfl)
theorem dX5_vehicle_37 : decode cX5_vehicle 37 = .ok (.getfield 18, 3) := dk_180 0 18 (dk_at dksX5_vehicle_1 13 rfl rfl)
theorem dX5_vehicle_40 : decode cX5_vehicle 40 = .ok (.iload_n 1, 1) := dk_27 (dk_at dksX5_vehicle_1 16 rfl rfl)
theorem dX5_vehicle_41 : decode cX5_vehicle 41 = .ok (.iload_n 2, 1) := dk_28 (dk_at dksX5_vehicle_1 17 rfl rfl)
theorem dX5_vehicle_42 : decode cX5_vehicle 42 = .ok (.invokevirtual 165, 3) := dk_182 0 165 (dk_at dksX5_vehicle_1 18 rfl rfl)
theorem dX5_vehicle_45 : decode cX5_vehicle 45 = .ok (.istore_n 3, 1) := dk_62 (dk_at dksX5_vehicle_1 21 rfl rfl)
theorem dX5_vehicle_46 : decode cX5_vehicle 46 = .ok (.return_, 1) := dk_177 (dk_at dksX5_vehicle_1 22 rfl rfl)
theorem c_416_0 : LkP (OkP 416) [(0, o_aload 0 1), (1, o_push 1 (.int 1)), (2, o_push 1 (.int 4)), (3, o_cv [(9, 413)] 2 3 false none), (6, o_istore 1 1), (7, o_push 1 (.int (-1))), (8, o_istore 2 1), (9, o_aload 0 1), (10, o_get 50), (13, o_push 1 (.int 2)), (14, o_icmp (fun x y => decide (¬ x = y)) 36), (17, o_aload 0 1), (18, o_cv [(9, 408)] 0 3 true none), (21, o_aload 0 1), (22, o_push 1 (.int 0)), (23, o_aload 0 1), (24, o_get 44), (27, o_get 9), (30, o_push 1 (.int 1)), (31, o_iop (fun x y => x - y)), (32, o_cv [(9, 413)] 2 3 false none), (35, o_istore 2 1), (36, o_aload 0 1), (37, o_get 44), (40, o_iload 1 1), (41, o_iload 2 1), (42, o_cv [(1, 259)] 2 3 false none), (45, o_istore 3 1), (46, o_vret)] := lkp_c (P := OkP 416) ⟨(PuOK.ok (ok_aload_n dX5_vehicle_0 rfl)), m_aload⟩ (
  lkp_c (P := OkP 416) ⟨(PuOK.ok (ok_iconst dX5_vehicle_1 rfl)), m_push⟩ (
  lkp_c (P := OkP 416) ⟨(PuOK.ok (ok_iconst dX5_vehicle_2 rfl)), m_push⟩ (
  lkp_c (P := OkP 416) ⟨ok_cv (List.forall_mem_cons.mpr ⟨tg_V (ci := 9) (r := CLr 9) (y := 413) rfl ⟨rfl, by decide⟩ rfl q1407 q1409 qs6 q141 q1410 ⟨cn_38.1, cn_38.2, pd_1⟩ dX5_vehicle_3, (List.forall_mem_nil _)⟩) hd_no, m_cv⟩ (
  lkp_c (P := OkP 416) ⟨(PuOK.ok (ok_istore_n dX5_vehicle_6 rfl)), m_istore⟩ (
  lkp_c (P := OkP 416) ⟨(PuOK.ok (ok_iconst dX5_vehicle_7 rfl)), m_push⟩ (
  lkp_c (P := OkP 416) ⟨(PuOK.ok (ok_istore_n dX5_vehicle_8 rfl)), m_istore⟩ (
  lkp_c (P := OkP 416) ⟨(PuOK.ok (ok_aload_n dX5_vehicle_9 rfl)), m_aload⟩ (
  lkp_c (P := OkP 416) ⟨ok_get ⟨"TollRoad$Parser", q1346, Or.inl rfl⟩ dX5_vehicle_10, m_get⟩ (
  lkp_c (P := OkP 416) ⟨(PuOK.ok (ok_iconst dX5_vehicle_13 rfl)), m_push⟩ (
  lkp_c (P := OkP 416) ⟨(PuOK.ok (ok_icmp_ne dX5_vehicle_14 rfl)), m_icmp⟩ (
  lkp_c (P := OkP 416) ⟨(PuOK.ok (ok_aload_n dX5_vehicle_17 rfl)), m_aload⟩ (
  lkp_c (P := OkP 416) ⟨ok_cv (List.forall_mem_cons.mpr ⟨tg_V (ci := 9) (r := CLr 9) (y := 408) rfl ⟨rfl, by decide⟩ rfl q1273 q1275 qs2 q141 q1276 ⟨cn_38.1, cn_38.2, pd_0⟩ dX5_vehicle_18, (List.forall_mem_nil _)⟩) hd_no, m_cv⟩ (
  lkp_c (P := OkP 416) ⟨(PuOK.ok (ok_aload_n dX5_vehicle_21 rfl)), m_aload⟩ (
  lkp_c (P := OkP 416) ⟨(PuOK.ok (ok_iconst dX5_vehicle_22 rfl)), m_push⟩ (
  lkp_c (P := OkP 416) ⟨(PuOK.ok (ok_aload_n dX5_vehicle_23 rfl)), m_aload⟩ (
  lkp_c (P := OkP 416) ⟨ok_get ⟨"TollRoad$Parser", q1339, Or.inl rfl⟩ dX5_vehicle_24, m_get⟩ (
  lkp_c (P := OkP 416) ⟨ok_getN ⟨"TollRoad$World", "TollRoad", q636, Or.inl rfl⟩ dX5_vehicle_27, m_get⟩ (
  lkp_c (P := OkP 416) ⟨(PuOK.ok (ok_iconst dX5_vehicle_30 rfl)), m_push⟩ (
  lkp_c (P := OkP 416) ⟨(PuOK.ok (ok_isub dX5_vehicle_31)), m_iop⟩ (
  lkp_c (P := OkP 416) ⟨ok_cv (List.forall_mem_cons.mpr ⟨tg_V (ci := 9) (r := CLr 9) (y := 413) rfl ⟨rfl, by decide⟩ rfl q1407 q1409 qs6 q141 q1410 ⟨cn_38.1, cn_38.2, pd_1⟩ dX5_vehicle_32, (List.forall_mem_nil _)⟩) hd_no, m_cv⟩ (
  lkp_c (P := OkP 416) ⟨(PuOK.ok (ok_istore_n dX5_vehicle_35 rfl)), m_istore⟩ (
  lkp_c (P := OkP 416) ⟨(PuOK.ok (ok_aload_n dX5_vehicle_36 rfl)), m_aload⟩ (
  lkp_c (P := OkP 416) ⟨ok_get ⟨"TollRoad$Parser", q1339, Or.inl rfl⟩ dX5_vehicle_37, m_get⟩ (
  lkp_c (P := OkP 416) ⟨(PuOK.ok (ok_iload_n dX5_vehicle_40 rfl)), m_iload⟩ (
  lkp_c (P := OkP 416) ⟨(PuOK.ok (ok_iload_n dX5_vehicle_41 rfl)), m_iload⟩ (
  lkp_c (P := OkP 416) ⟨ok_cv (List.forall_mem_cons.mpr ⟨tg_V (ci := 1) (r := CLr 1) (y := 259) rfl ⟨rfl, by decide⟩ rfl q1488 q1489 q1490 q116 q1491 ⟨cn_36.1, cn_36.2, pd_1⟩ dX5_vehicle_42, (List.forall_mem_nil _)⟩) hd_no, m_cv⟩ (
  lkp_c (P := OkP 416) ⟨(PuOK.ok (ok_istore_n dX5_vehicle_45 rfl)), m_istore⟩ (
  lkp_c (P := OkP 416) ⟨ok_vret rfl dX5_vehicle_46, m_vret⟩ (
  trivial)))))))))))))))))))))))))))))
theorem mt_416 : MtOK TB NT IT 416 := ⟨by decide +kernel, rfl, (fun h => by cases h), Or.inl ⟨rfl, rfl⟩, rfl, by decide, lk2_all (P := OkP 416) ⟨c_416_0, trivial⟩⟩
def dkwX6_init_0 : List UInt8 := [42, 1, 1, 3, 3, 183, 0, 1, 42, 27, 181, 0, 7, 42, 28, 181, 0, 13, 177]
abbrev dktX6_init_0 : List UInt8 := dkwX6_init_0 ++ []
theorem dksX6_init_0 : cX6_init.data.toList.drop 0 = dktX6_init_0 := by decide +kernel
theorem dX6_init_0 : decode cX6_init 0 = .ok (.aload_n 0, 1) := dk_42 (dk_at dksX6_init_0 0 rfl rfl)
theorem dX6_init_1 : decode cX6_init 1 = .ok (.aconst_null, 1) := dk_1 (dk_at dksX6_init_0 1 rfl rfl)
theorem dX6_init_2 : decode cX6_init 2 = .ok (.aconst_null, 1) := dk_1 (dk_at dksX6_init_0 2 rfl rfl)
theorem dX6_init_3 : decode cX6_init 3 = .ok (.iconst 0, 1) := dk_3 (dk_at dksX6_init_0 3 rfl rfl)
theorem dX6_init_4 : decode cX6_init 4 = .ok (.iconst 0, 1) := dk_3 (dk_at dksX6_init_0 4 rfl rfl)
theorem dX6_init_5 : decode cX6_init 5 = .ok (.invokespecial 1, 3) := dk_183 0 1 (dk_at dksX6_init_0 5 rfl rfl)
theorem dX6_init_8 : decode cX6_init 8 = .ok (.aload_n 0, 1) := dk_42 (dk_at dksX6_init_0 8 rfl rfl)
theorem dX6_init_9 : decode cX6_init 9 = .ok (.iload_n 1, 1) := dk_27 (dk_at dksX6_init_0 9 rfl rfl)
theorem dX6_init_10 : decode cX6_init 10 = .ok (.putfield 7, 3) := dk_181 0 7 (dk_at dksX6_init_0 10 rfl rfl)
theorem dX6_init_13 : decode cX6_init 13 = .ok (.aload_n 0, 1) := dk_42 (dk_at dksX6_init_0 13 rfl rfl)
theorem dX6_init_14 : decode cX6_init 14 = .ok (.iload_n 2, 1) := dk_28 (dk_at dksX6_init_0 14 rfl rfl)
theorem dX6_init_15 : decode cX6_init 15 = .ok (.putfield 13, 3) := dk_181 0 13 (dk_at dksX6_init_0 15 rfl rfl)
theorem dX6_init_18 : decode cX6_init 18 = .ok (.return_, 1) := dk_177 (dk_at dksX6_init_0 18 rfl rfl)
theorem c_417_0 : LkP (OkP 417) [(0, o_aload 0 1), (1, o_push 1 .null), (2, o_push 1 .null), (3, o_push 1 (.int 0)), (4, o_push 1 (.int 0)), (5, o_ci 100 4), (8, o_aload 0 1), (9, o_iload 1 1), (10, o_put 58 1), (13, o_aload 0 1), (14, o_iload 2 1), (15, o_put 59 1), (18, o_vret)] := lkp_c (P := OkP 417) ⟨(PuOK.ok (ok_aload_n dX6_init_0 rfl)), m_aload⟩ (
  lkp_c (P := OkP 417) ⟨(PuOK.ok (ok_null dX6_init_1)), m_push⟩ (
  lkp_c (P := OkP 417) ⟨(PuOK.ok (ok_null dX6_init_2)), m_push⟩ (
  lkp_c (P := OkP 417) ⟨(PuOK.ok (ok_iconst dX6_init_3 rfl)), m_push⟩ (
  lkp_c (P := OkP 417) ⟨(PuOK.ok (ok_iconst dX6_init_4 rfl)), m_push⟩ (
  lkp_c (P := OkP 417) ⟨ok_ci (tg_I (rt := none) ⟨rfl, by decide⟩ rfl q1391 q1392 q122 q1393 ⟨cn_59.1, cn_59.2, pd_47⟩ dX6_init_5) hd_no, m_ci⟩ (
  lkp_c (P := OkP 417) ⟨(PuOK.ok (ok_aload_n dX6_init_8 rfl)), m_aload⟩ (
  lkp_c (P := OkP 417) ⟨(PuOK.ok (ok_iload_n dX6_init_9 rfl)), m_iload⟩ (
  lkp_c (P := OkP 417) ⟨ok_putF q1397 rfl rfl rfl fd_58 rfl dX6_init_10, m_put⟩ (
  lkp_c (P := OkP 417) ⟨(PuOK.ok (ok_aload_n dX6_init_13 rfl)), m_aload⟩ (
  lkp_c (P := OkP 417) ⟨(PuOK.ok (ok_iload_n dX6_init_14 rfl)), m_iload⟩ (
  lkp_c (P := OkP 417) ⟨ok_putF q1399 rfl rfl rfl fd_59 rfl dX6_init_15, m_put⟩ (
  lkp_c (P := OkP 417) ⟨ok_vret rfl dX6_init_18, m_vret⟩ (
  trivial)))))))))))))
theorem mt_417 : MtOK TB NT IT 417 := ⟨by decide +kernel, rfl, fun _ => rfl, Or.inl ⟨rfl, rfl⟩, rfl, by decide, lk2_all (P := OkP 417) ⟨c_417_0, trivial⟩⟩
def dkwX7_init_0 : List UInt8 := [42, 183, 0, 1, 42, 27, 181, 0, 7, 42, 28, 181, 0, 13, 42, 29, 181, 0, 16, 177]
abbrev dktX7_init_0 : List UInt8 := dkwX7_init_0 ++ []
theorem dksX7_init_0 : cX7_init.data.toList.drop 0 = dktX7_init_0 := by decide +kernel
theorem dX7_init_0 : decode cX7_init 0 = .ok (.aload_n 0, 1) := dk_42 (dk_at dksX7_init_0 0 rfl rfl)
theorem dX7_init_1 : decode cX7_init 1 = .ok (.invokespecial 1, 3) := dk_183 0 1 (dk_at dksX7_init_0 1 rfl rfl)
theorem dX7_init_4 : decode cX7_init 4 = .ok (.aload_n 0, 1) := dk_42 (dk_at dksX7_init_0 4 rfl rfl)
theorem dX7_init_5 : decode cX7_init 5 = .ok (.iload_n 1, 1) := dk_27 (dk_at dksX7_init_0 5 rfl rfl)
theorem dX7_init_6 : decode cX7_init 6 = .ok (.putfield 7, 3) := dk_181 0 7 (dk_at dksX7_init_0 6 rfl rfl)
theorem dX7_init_9 : decode cX7_init 9 = .ok (.aload_n 0, 1) := dk_42 (dk_at dksX7_init_0 9 rfl rfl)
theorem dX7_init_10 : decode cX7_init 10 = .ok (.iload_n 2, 1) := dk_28 (dk_at dksX7_init_0 10 rfl rfl)
theorem dX7_init_11 : decode cX7_init 11 = .ok (.putfield 13, 3) := dk_181 0 13 (dk_at dksX7_init_0 11 rfl rfl)
theorem dX7_init_14 : decode cX7_init 14 = .ok (.aload_n 0, 1) := dk_42 (dk_at dksX7_init_0 14 rfl rfl)
theorem dX7_init_15 : decode cX7_init 15 = .ok (.iload_n 3, 1) := dk_29 (dk_at dksX7_init_0 15 rfl rfl)
theorem dX7_init_16 : decode cX7_init 16 = .ok (.putfield 16, 3) := dk_181 0 16 (dk_at dksX7_init_0 16 rfl rfl)
theorem dX7_init_19 : decode cX7_init 19 = .ok (.return_, 1) := dk_177 (dk_at dksX7_init_0 19 rfl rfl)
theorem c_418_0 : LkP (OkP 418) [(0, o_aload 0 1), (1, o_oi), (4, o_aload 0 1), (5, o_iload 1 1), (6, o_put 60 1), (9, o_aload 0 1), (10, o_iload 2 1), (11, o_put 61 1), (14, o_aload 0 1), (15, o_iload 3 1), (16, o_put 62 1), (19, o_vret)] := lkp_c (P := OkP 418) ⟨(PuOK.ok (ok_aload_n dX7_init_0 rfl)), m_aload⟩ (
  lkp_c (P := OkP 418) ⟨ok_oi q1435 q188 q_oi dX7_init_1, m_oi⟩ (
  lkp_c (P := OkP 418) ⟨(PuOK.ok (ok_aload_n dX7_init_4 rfl)), m_aload⟩ (
  lkp_c (P := OkP 418) ⟨(PuOK.ok (ok_iload_n dX7_init_5 rfl)), m_iload⟩ (
  lkp_c (P := OkP 418) ⟨ok_putF q1436 rfl rfl rfl fd_60 rfl dX7_init_6, m_put⟩ (
  lkp_c (P := OkP 418) ⟨(PuOK.ok (ok_aload_n dX7_init_9 rfl)), m_aload⟩ (
  lkp_c (P := OkP 418) ⟨(PuOK.ok (ok_iload_n dX7_init_10 rfl)), m_iload⟩ (
  lkp_c (P := OkP 418) ⟨ok_putF q1437 rfl rfl rfl fd_61 rfl dX7_init_11, m_put⟩ (
  lkp_c (P := OkP 418) ⟨(PuOK.ok (ok_aload_n dX7_init_14 rfl)), m_aload⟩ (
  lkp_c (P := OkP 418) ⟨(PuOK.ok (ok_iload_n dX7_init_15 rfl)), m_iload⟩ (
  lkp_c (P := OkP 418) ⟨ok_putF q1439 rfl rfl rfl fd_62 rfl dX7_init_16, m_put⟩ (
  lkp_c (P := OkP 418) ⟨ok_vret rfl dX7_init_19, m_vret⟩ (
  trivial))))))))))))
theorem mt_418 : MtOK TB NT IT 418 := ⟨by decide +kernel, rfl, fun _ => rfl, Or.inl ⟨rfl, rfl⟩, rfl, by decide, lk2_all (P := OkP 418) ⟨c_418_0, trivial⟩⟩
def dkwX8_init_0 : List UInt8 := [42, 183, 0, 1, 42, 27, 181, 0, 7, 42, 28, 181, 0, 13, 42, 29, 181, 0, 16, 177]
abbrev dktX8_init_0 : List UInt8 := dkwX8_init_0 ++ []
theorem dksX8_init_0 : cX8_init.data.toList.drop 0 = dktX8_init_0 := by decide +kernel
theorem dX8_init_0 : decode cX8_init 0 = .ok (.aload_n 0, 1) := dk_42 (dk_at dksX8_init_0 0 rfl rfl)
theorem dX8_init_1 : decode cX8_init 1 = .ok (.invokespecial 1, 3) := dk_183 0 1 (dk_at dksX8_init_0 1 rfl rfl)
theorem dX8_init_4 : decode cX8_init 4 = .ok (.aload_n 0, 1) := dk_42 (dk_at dksX8_init_0 4 rfl rfl)
theorem dX8_init_5 : decode cX8_init 5 = .ok (.iload_n 1, 1) := dk_27 (dk_at dksX8_init_0 5 rfl rfl)
theorem dX8_init_6 : decode cX8_init 6 = .ok (.putfield 7, 3) := dk_181 0 7 (dk_at dksX8_init_0 6 rfl rfl)
theorem dX8_init_9 : decode cX8_init 9 = .ok (.aload_n 0, 1) := dk_42 (dk_at dksX8_init_0 9 rfl rfl)
theorem dX8_init_10 : decode cX8_init 10 = .ok (.iload_n 2, 1) := dk_28 (dk_at dksX8_init_0 10 rfl rfl)
theorem dX8_init_11 : decode cX8_init 11 = .ok (.putfield 13, 3) := dk_181 0 13 (dk_at dksX8_init_0 11 rfl rfl)
theorem dX8_init_14 : decode cX8_init 14 = .ok (.aload_n 0, 1) := dk_42 (dk_at dksX8_init_0 14 rfl rfl)
theorem dX8_init_15 : decode cX8_init 15 = .ok (.iload_n 3, 1) := dk_29 (dk_at dksX8_init_0 15 rfl rfl)
theorem dX8_init_16 : decode cX8_init 16 = .ok (.putfield 16, 3) := dk_181 0 16 (dk_at dksX8_init_0 16 rfl rfl)
theorem dX8_init_19 : decode cX8_init 19 = .ok (.return_, 1) := dk_177 (dk_at dksX8_init_0 19 rfl rfl)
theorem c_419_0 : LkP (OkP 419) [(0, o_aload 0 1), (1, o_oi), (4, o_aload 0 1), (5, o_iload 1 1), (6, o_put 63 1), (9, o_aload 0 1), (10, o_iload 2 1), (11, o_put 64 1), (14, o_aload 0 1), (15, o_iload 3 1), (16, o_put 65 1), (19, o_vret)] := lkp_c (P := OkP 419) ⟨(PuOK.ok (ok_aload_n dX8_init_0 rfl)), m_aload⟩ (
  lkp_c (P := OkP 419) ⟨ok_oi q1457 q188 q_oi dX8_init_1, m_oi⟩ (
  lkp_c (P := OkP 419) ⟨(PuOK.ok (ok_aload_n dX8_init_4 rfl)), m_aload⟩ (
  lkp_c (P := OkP 419) ⟨(PuOK.ok (ok_iload_n dX8_init_5 rfl)), m_iload⟩ (
  lkp_c (P := OkP 419) ⟨ok_put ⟨"TollRoad$Account", q1458, Or.inl rfl⟩ rfl fd_63 rfl dX8_init_6, m_put⟩ (
  lkp_c (P := OkP 419) ⟨(PuOK.ok (ok_aload_n dX8_init_9 rfl)), m_aload⟩ (
  lkp_c (P := OkP 419) ⟨(PuOK.ok (ok_iload_n dX8_init_10 rfl)), m_iload⟩ (
  lkp_c (P := OkP 419) ⟨ok_putF q1460 rfl rfl rfl fd_64 rfl dX8_init_11, m_put⟩ (
  lkp_c (P := OkP 419) ⟨(PuOK.ok (ok_aload_n dX8_init_14 rfl)), m_aload⟩ (
  lkp_c (P := OkP 419) ⟨(PuOK.ok (ok_iload_n dX8_init_15 rfl)), m_iload⟩ (
  lkp_c (P := OkP 419) ⟨ok_putF q1462 rfl rfl rfl fd_65 rfl dX8_init_16, m_put⟩ (
  lkp_c (P := OkP 419) ⟨ok_vret rfl dX8_init_19, m_vret⟩ (
  trivial))))))))))))
theorem mt_419 : MtOK TB NT IT 419 := ⟨by decide +kernel, rfl, fun _ => rfl, Or.inl ⟨rfl, rfl⟩, rfl, by decide, lk2_all (P := OkP 419) ⟨c_419_0, trivial⟩⟩
def dkwX8_reduction_0 : List UInt8 := [42, 180, 0, 22, 27, 96, 42, 180, 0, 16, 161, 0, 10, 42, 180, 0, 13, 167, 0, 4, 3, 172]
abbrev dktX8_reduction_0 : List UInt8 := dkwX8_reduction_0 ++ []
theorem dksX8_reduction_0 : cX8_reduction.data.toList.drop 0 = dktX8_reduction_0 := by decide +kernel
theorem dX8_reduction_0 : decode cX8_reduction 0 = .ok (.aload_n 0, 1) := dk_42 (dk_at dksX8_reduction_0 0 rfl rfl)
theorem dX8_reduction_1 : decode cX8_reduction 1 = .ok (.getfield 22, 3) := dk_180 0 22 (dk_at dksX8_reduction_0 1 rfl rfl)
theorem dX8_reduction_4 : decode cX8_reduction 4 = .ok (.iload_n 1, 1) := dk_27 (dk_at dksX8_reduction_0 4 rfl rfl)
theorem dX8_reduction_5 : decode cX8_reduction 5 = .ok (.iadd, 1) := dk_96 (dk_at dksX8_reduction_0 5 rfl rfl)
theorem dX8_reduction_6 : decode cX8_reduction 6 = .ok (.aload_n 0, 1) := dk_42 (dk_at dksX8_reduction_0 6 rfl rfl)
theorem dX8_reduction_7 : decode cX8_reduction 7 = .ok (.getfield 16, 3) := dk_180 0 16 (dk_at dksX8_reduction_0 7 rfl rfl)
theorem dX8_reduction_10 : decode cX8_reduction 10 = .ok (.if_icmp .lt 10, 3) := dk_161 0 10 (dk_at dksX8_reduction_0 10 rfl rfl)
theorem dX8_reduction_13 : decode cX8_reduction 13 = .ok (.aload_n 0, 1) := dk_42 (dk_at dksX8_reduction_0 13 rfl rfl)
theorem dX8_reduction_14 : decode cX8_reduction 14 = .ok (.getfield 13, 3) := dk_180 0 13 (dk_at dksX8_reduction_0 14 rfl rfl)
theorem dX8_reduction_17 : decode cX8_reduction 17 = .ok (.goto 4, 3) := dk_167 0 4 (dk_at dksX8_reduction_0 17 rfl rfl)
theorem dX8_reduction_20 : decode cX8_reduction 20 = .ok (.iconst 0, 1) := dk_3 (dk_at dksX8_reduction_0 20 rfl rfl)
theorem dX8_reduction_21 : decode cX8_reduction 21 = .ok (.ireturn, 1) := dk_172 (dk_at dksX8_reduction_0 21 rfl rfl)
theorem c_420_0 : LkP (OkP 420) [(0, o_aload 0 1), (1, o_get 66), (4, o_iload 1 1), (5, o_iop (fun x y => x + y)), (6, o_aload 0 1), (7, o_get 65), (10, o_icmp (fun x y => decide (x < y)) 20), (13, o_aload 0 1), (14, o_get 64), (17, o_goto 21), (20, o_push 1 (.int 0)), (21, o_ret 1)] := lkp_c (P := OkP 420) ⟨(PuOK.ok (ok_aload_n dX8_reduction_0 rfl)), m_aload⟩ (
  lkp_c (P := OkP 420) ⟨ok_get ⟨"TollRoad$Account", q1464, Or.inl rfl⟩ dX8_reduction_1, m_get⟩ (
  lkp_c (P := OkP 420) ⟨(PuOK.ok (ok_iload_n dX8_reduction_4 rfl)), m_iload⟩ (
  lkp_c (P := OkP 420) ⟨(PuOK.ok (ok_iadd dX8_reduction_5)), m_iop⟩ (
  lkp_c (P := OkP 420) ⟨(PuOK.ok (ok_aload_n dX8_reduction_6 rfl)), m_aload⟩ (
  lkp_c (P := OkP 420) ⟨ok_get ⟨"TollRoad$Account", q1462, Or.inl rfl⟩ dX8_reduction_7, m_get⟩ (
  lkp_c (P := OkP 420) ⟨(PuOK.ok (ok_icmp_lt dX8_reduction_10 rfl)), m_icmp⟩ (
  lkp_c (P := OkP 420) ⟨(PuOK.ok (ok_aload_n dX8_reduction_13 rfl)), m_aload⟩ (
  lkp_c (P := OkP 420) ⟨ok_get ⟨"TollRoad$Account", q1460, Or.inl rfl⟩ dX8_reduction_14, m_get⟩ (
  lkp_c (P := OkP 420) ⟨(PuOK.ok (ok_goto dX8_reduction_17 rfl)), m_goto⟩ (
  lkp_c (P := OkP 420) ⟨(PuOK.ok (ok_iconst dX8_reduction_20 rfl)), m_push⟩ (
  lkp_c (P := OkP 420) ⟨ok_iret rfl rfl (by decide) dX8_reduction_21, m_ret⟩ (
  trivial))))))))))))
theorem mt_420 : MtOK TB NT IT 420 := ⟨by decide +kernel, rfl, (fun h => by cases h), Or.inl ⟨rfl, rfl⟩, rfl, by decide, lk2_all (P := OkP 420) ⟨c_420_0, trivial⟩⟩
def dkwX8_charge_1 : List UInt8 := [180, 0, 22, 4, 96, 181, 0, 22, 177]
abbrev dktX8_charge_1 : List UInt8 := dkwX8_charge_1 ++ []
def dkwX8_charge_0 : List UInt8 := [42, 89, 180, 0, 7, 27, 100, 181, 0, 7, 42, 89, 180, 0, 25, 27, 96, 181, 0, 25, 42, 89]
abbrev dktX8_charge_0 : List UInt8 := dkwX8_charge_0 ++ dktX8_charge_1
theorem dksX8_charge_0 : cX8_charge.data.toList.drop 0 = dktX8_charge_0 := by decide +kernel
theorem dksX8_charge_1 : cX8_charge.data.toList.drop 22 = dktX8_charge_1 := dk_seg dksX8_charge_0 22 rfl rfl
theorem dX8_charge_0 : decode cX8_charge 0 = .ok (.aload_n 0, 1) := dk_42 (dk_at dksX8_charge_0 0 rfl rfl)
theorem dX8_charge_1 : decode cX8_charge 1 = .ok (.dup, 1) := dk_89 (dk_at dksX8_charge_0 1 rfl rfl)
theorem dX8_charge_2 : decode cX8_charge 2 = .ok (.getfield 7, 3) := dk_180 0 7 (dk_at dksX8_charge_0 2 rfl rfl)
theorem dX8_charge_5 : decode cX8_charge 5 = .ok (.iload_n 1, 1) := dk_27 (dk_at dksX8_charge_0 5 rfl rfl)
theorem dX8_charge_6 : decode cX8_charge 6 = .ok (.isub, 1) := dk_100 (dk_at dksX8_charge_0 6 rfl rfl)
theorem dX8_charge_7 : decode cX8_charge 7 = .ok (.putfield 7, 3) := dk_181 0 7 (dk_at dksX8_charge_0 7 rfl rfl)
theorem dX8_charge_10 : decode cX8_charge 10 = .ok (.aload_n 0, 1) := dk_42 (dk_at dksX8_charge_0 10 rfl rfl)
theorem dX8_charge_11 : decode cX8_charge 11 = .ok (.dup, 1) := dk_89 (dk_at dksX8_charge_0 11 rfl rfl)
theorem dX8_charge_12 : decode cX8_charge 12 = .ok (.getfield 25, 3) := dk_180 0 25 (dk_at dksX8_charge_0 12 rfl rfl)
theorem dX8_charge_15 : decode cX8_charge 15 = .ok (.iload_n 1, 1) := dk_27 (dk_at dksX8_charge_0 15 rfl rfl)
theorem dX8_charge_16 : decode cX8_charge 16 = .ok (.iadd, 1) := dk_96 (dk_at dksX8_charge_0 16 rfl rfl)
theorem dX8_charge_17 : decode cX8_charge 17 = .ok (.putfield 25, 3) := dk_181 0 25 (dk_at dksX8_charge_0 17 rfl rfl)
theorem dX8_charge_20 : decode cX8_charge 20 = .ok (.aload_n 0, 1) := dk_42 (dk_at dksX8_charge_0 20 rfl rfl)
theorem dX8_charge_21 : decode cX8_charge 21 = .ok (.dup, 1) := dk_89 (dk_at dksX8_charge_0 21 rfl rfl)
theorem dX8_charge_22 : decode cX8_charge 22 = .ok (.getfield 22, 3) := dk_180 0 22 (dk_at dksX8_charge_1 0 rfl rfl)
theorem dX8_charge_25 : decode cX8_charge 25 = .ok (.iconst 1, 1) := dk_4 (dk_at dksX8_charge_1 3 rfl rfl)
theorem dX8_charge_26 : decode cX8_charge 26 = .ok (.iadd, 1) := dk_96 (dk_at dksX8_charge_1 4 rfl rfl)
theorem dX8_charge_27 : decode cX8_charge 27 = .ok (.putfield 22, 3) := dk_181 0 22 (dk_at dksX8_charge_1 5 rfl rfl)
theorem dX8_charge_30 : decode cX8_charge 30 = .ok (.return_, 1) := dk_177 (dk_at dksX8_charge_1 8 rfl rfl)
theorem c_421_0 : LkP (OkP 421) [(0, o_aload 0 1), (1, o_dup), (2, o_get 63), (5, o_iload 1 1), (6, o_iop (fun x y => x - y)), (7, o_put 63 1), (10, o_aload 0 1), (11, o_dup), (12, o_get 67), (15, o_iload 1 1), (16, o_iop (fun x y => x + y)), (17, o_put 67 1), (20, o_aload 0 1), (21, o_dup), (22, o_get 66), (25, o_push 1 (.int 1)), (26, o_iop (fun x y => x + y)), (27, o_put 66 1), (30, o_vret)] := lkp_c (P := OkP 421) ⟨(PuOK.ok (ok_aload_n dX8_charge_0 rfl)), m_aload⟩ (
  lkp_c (P := OkP 421) ⟨(PuOK.ok (ok_dup dX8_charge_1)), m_dup⟩ (
  lkp_c (P := OkP 421) ⟨ok_get ⟨"TollRoad$Account", q1458, Or.inl rfl⟩ dX8_charge_2, m_get⟩ (
  lkp_c (P := OkP 421) ⟨(PuOK.ok (ok_iload_n dX8_charge_5 rfl)), m_iload⟩ (
  lkp_c (P := OkP 421) ⟨(PuOK.ok (ok_isub dX8_charge_6)), m_iop⟩ (
  lkp_c (P := OkP 421) ⟨ok_put ⟨"TollRoad$Account", q1458, Or.inl rfl⟩ rfl fd_63 rfl dX8_charge_7, m_put⟩ (
  lkp_c (P := OkP 421) ⟨(PuOK.ok (ok_aload_n dX8_charge_10 rfl)), m_aload⟩ (
  lkp_c (P := OkP 421) ⟨(PuOK.ok (ok_dup dX8_charge_11)), m_dup⟩ (
  lkp_c (P := OkP 421) ⟨ok_get ⟨"TollRoad$Account", q1466, Or.inl rfl⟩ dX8_charge_12, m_get⟩ (
  lkp_c (P := OkP 421) ⟨(PuOK.ok (ok_iload_n dX8_charge_15 rfl)), m_iload⟩ (
  lkp_c (P := OkP 421) ⟨(PuOK.ok (ok_iadd dX8_charge_16)), m_iop⟩ (
  lkp_c (P := OkP 421) ⟨ok_put ⟨"TollRoad$Account", q1466, Or.inl rfl⟩ rfl fd_67 rfl dX8_charge_17, m_put⟩ (
  lkp_c (P := OkP 421) ⟨(PuOK.ok (ok_aload_n dX8_charge_20 rfl)), m_aload⟩ (
  lkp_c (P := OkP 421) ⟨(PuOK.ok (ok_dup dX8_charge_21)), m_dup⟩ (
  lkp_c (P := OkP 421) ⟨ok_get ⟨"TollRoad$Account", q1464, Or.inl rfl⟩ dX8_charge_22, m_get⟩ (
  lkp_c (P := OkP 421) ⟨(PuOK.ok (ok_iconst dX8_charge_25 rfl)), m_push⟩ (
  lkp_c (P := OkP 421) ⟨(PuOK.ok (ok_iadd dX8_charge_26)), m_iop⟩ (
  lkp_c (P := OkP 421) ⟨ok_put ⟨"TollRoad$Account", q1464, Or.inl rfl⟩ rfl fd_66 rfl dX8_charge_27, m_put⟩ (
  lkp_c (P := OkP 421) ⟨ok_vret rfl dX8_charge_30, m_vret⟩ (
  trivial)))))))))))))))))))
theorem mt_421 : MtOK TB NT IT 421 := ⟨by decide +kernel, rfl, (fun h => by cases h), Or.inl ⟨rfl, rfl⟩, rfl, by decide, lk2_all (P := OkP 421) ⟨c_421_0, trivial⟩⟩
def dkwX8_refund_0 : List UInt8 := [42, 89, 180, 0, 7, 27, 96, 181, 0, 7, 42, 89, 180, 0, 28, 27, 96, 181, 0, 28, 177]
abbrev dktX8_refund_0 : List UInt8 := dkwX8_refund_0 ++ []
theorem dksX8_refund_0 : cX8_refund.data.toList.drop 0 = dktX8_refund_0 := by decide +kernel
theorem dX8_refund_0 : decode cX8_refund 0 = .ok (.aload_n 0, 1) := dk_42 (dk_at dksX8_refund_0 0 rfl rfl)
theorem dX8_refund_1 : decode cX8_refund 1 = .ok (.dup, 1) := dk_89 (dk_at dksX8_refund_0 1 rfl rfl)
theorem dX8_refund_2 : decode cX8_refund 2 = .ok (.getfield 7, 3) := dk_180 0 7 (dk_at dksX8_refund_0 2 rfl rfl)
theorem dX8_refund_5 : decode cX8_refund 5 = .ok (.iload_n 1, 1) := dk_27 (dk_at dksX8_refund_0 5 rfl rfl)
theorem dX8_refund_6 : decode cX8_refund 6 = .ok (.iadd, 1) := dk_96 (dk_at dksX8_refund_0 6 rfl rfl)
theorem dX8_refund_7 : decode cX8_refund 7 = .ok (.putfield 7, 3) := dk_181 0 7 (dk_at dksX8_refund_0 7 rfl rfl)
theorem dX8_refund_10 : decode cX8_refund 10 = .ok (.aload_n 0, 1) := dk_42 (dk_at dksX8_refund_0 10 rfl rfl)
theorem dX8_refund_11 : decode cX8_refund 11 = .ok (.dup, 1) := dk_89 (dk_at dksX8_refund_0 11 rfl rfl)
theorem dX8_refund_12 : decode cX8_refund 12 = .ok (.getfield 28, 3) := dk_180 0 28 (dk_at dksX8_refund_0 12 rfl rfl)
theorem dX8_refund_15 : decode cX8_refund 15 = .ok (.iload_n 1, 1) := dk_27 (dk_at dksX8_refund_0 15 rfl rfl)
theorem dX8_refund_16 : decode cX8_refund 16 = .ok (.iadd, 1) := dk_96 (dk_at dksX8_refund_0 16 rfl rfl)
theorem dX8_refund_17 : decode cX8_refund 17 = .ok (.putfield 28, 3) := dk_181 0 28 (dk_at dksX8_refund_0 17 rfl rfl)
theorem dX8_refund_20 : decode cX8_refund 20 = .ok (.return_, 1) := dk_177 (dk_at dksX8_refund_0 20 rfl rfl)
theorem c_422_0 : LkP (OkP 422) [(0, o_aload 0 1), (1, o_dup), (2, o_get 63), (5, o_iload 1 1), (6, o_iop (fun x y => x + y)), (7, o_put 63 1), (10, o_aload 0 1), (11, o_dup), (12, o_get 68), (15, o_iload 1 1), (16, o_iop (fun x y => x + y)), (17, o_put 68 1), (20, o_vret)] := lkp_c (P := OkP 422) ⟨(PuOK.ok (ok_aload_n dX8_refund_0 rfl)), m_aload⟩ (
  lkp_c (P := OkP 422) ⟨(PuOK.ok (ok_dup dX8_refund_1)), m_dup⟩ (
  lkp_c (P := OkP 422) ⟨ok_get ⟨"TollRoad$Account", q1458, Or.inl rfl⟩ dX8_refund_2, m_get⟩ (
  lkp_c (P := OkP 422) ⟨(PuOK.ok (ok_iload_n dX8_refund_5 rfl)), m_iload⟩ (
  lkp_c (P := OkP 422) ⟨(PuOK.ok (ok_iadd dX8_refund_6)), m_iop⟩ (
  lkp_c (P := OkP 422) ⟨ok_put ⟨"TollRoad$Account", q1458, Or.inl rfl⟩ rfl fd_63 rfl dX8_refund_7, m_put⟩ (
  lkp_c (P := OkP 422) ⟨(PuOK.ok (ok_aload_n dX8_refund_10 rfl)), m_aload⟩ (
  lkp_c (P := OkP 422) ⟨(PuOK.ok (ok_dup dX8_refund_11)), m_dup⟩ (
  lkp_c (P := OkP 422) ⟨ok_get ⟨"TollRoad$Account", q1468, Or.inl rfl⟩ dX8_refund_12, m_get⟩ (
  lkp_c (P := OkP 422) ⟨(PuOK.ok (ok_iload_n dX8_refund_15 rfl)), m_iload⟩ (
  lkp_c (P := OkP 422) ⟨(PuOK.ok (ok_iadd dX8_refund_16)), m_iop⟩ (
  lkp_c (P := OkP 422) ⟨ok_put ⟨"TollRoad$Account", q1468, Or.inl rfl⟩ rfl fd_68 rfl dX8_refund_17, m_put⟩ (
  lkp_c (P := OkP 422) ⟨ok_vret rfl dX8_refund_20, m_vret⟩ (
  trivial)))))))))))))
theorem mt_422 : MtOK TB NT IT 422 := ⟨by decide +kernel, rfl, (fun h => by cases h), Or.inl ⟨rfl, rfl⟩, rfl, by decide, lk2_all (P := OkP 422) ⟨c_422_0, trivial⟩⟩
def dkwX8_copy_1 : List UInt8 := [180, 0, 22, 181, 0, 22, 43, 42, 180, 0, 25, 181, 0, 25, 43, 42, 180, 0, 28, 181, 0, 28, 43, 176]
abbrev dktX8_copy_1 : List UInt8 := dkwX8_copy_1 ++ []
def dkwX8_copy_0 : List UInt8 := [187, 0, 8, 89, 42, 180, 0, 7, 42, 180, 0, 13, 42, 180, 0, 16, 183, 0, 19, 76, 43, 42]
abbrev dktX8_copy_0 : List UInt8 := dkwX8_copy_0 ++ dktX8_copy_1
theorem dksX8_copy_0 : cX8_copy.data.toList.drop 0 = dktX8_copy_0 := by decide +kernel
theorem dksX8_copy_1 : cX8_copy.data.toList.drop 22 = dktX8_copy_1 := dk_seg dksX8_copy_0 22 rfl rfl
theorem dX8_copy_0 : decode cX8_copy 0 = .ok (.new 8, 3) := dk_187 0 8 (dk_at dksX8_copy_0 0 rfl rfl)
theorem dX8_copy_3 : decode cX8_copy 3 = .ok (.dup, 1) := dk_89 (dk_at dksX8_copy_0 3 rfl rfl)
theorem dX8_copy_4 : decode cX8_copy 4 = .ok (.aload_n 0, 1) := dk_42 (dk_at dksX8_copy_0 4 rfl rfl)
theorem dX8_copy_5 : decode cX8_copy 5 = .ok (.getfield 7, 3) := dk_180 0 7 (dk_at dksX8_copy_0 5 rfl rfl)
theorem dX8_copy_8 : decode cX8_copy 8 = .ok (.aload_n 0, 1) := dk_42 (dk_at dksX8_copy_0 8 rfl rfl)
theorem dX8_copy_9 : decode cX8_copy 9 = .ok (.getfield 13, 3) := dk_180 0 13 (dk_at dksX8_copy_0 9 rfl rfl)
theorem dX8_copy_12 : decode cX8_copy 12 = .ok (.aload_n 0, 1) := dk_42 (dk_at dksX8_copy_0 12 rfl rfl)
theorem dX8_copy_13 : decode cX8_copy 13 = .ok (.getfield 16, 3) := dk_180 0 16 (dk_at dksX8_copy_0 13 rfl rfl)
theorem dX8_copy_16 : decode cX8_copy 16 = .ok (.invokespecial 19, 3) := dk_183 0 19 (dk_at dksX8_copy_0 16 rfl rfl)
theorem dX8_copy_19 : decode cX8_copy 19 = .ok (.astore_n 1, 1) := dk_76 (dk_at dksX8_copy_0 19 rfl rfl)
theorem dX8_copy_20 : decode cX8_copy 20 = .ok (.aload_n 1, 1) := dk_43 (dk_at dksX8_copy_0 20 rfl rfl)
theorem dX8_copy_21 : decode cX8_copy 21 = .ok (.aload_n 0, 1) := dk_42 (dk_at dksX8_copy_0 21 rfl rfl)
theorem dX8_copy_22 : decode cX8_copy 22 = .ok (.getfield 22, 3) := dk_180 0 22 (dk_at dksX8_copy_1 0 rfl rfl)
theorem dX8_copy_25 : decode cX8_copy 25 = .ok (.putfield 22, 3) := dk_181 0 22 (dk_at dksX8_copy_1 3 rfl rfl)
theorem dX8_copy_28 : decode cX8_copy 28 = .ok (.aload_n 1, 1) := dk_43 (dk_at dksX8_copy_1 6 rfl rfl)
theorem dX8_copy_29 : decode cX8_copy 29 = .ok (.aload_n 0, 1) := dk_42 (dk_at dksX8_copy_1 7 rfl rfl)
theorem dX8_copy_30 : decode cX8_copy 30 = .ok (.getfield 25, 3) := dk_180 0 25 (dk_at dksX8_copy_1 8 rfl rfl)
theorem dX8_copy_33 : decode cX8_copy 33 = .ok (.putfield 25, 3) := dk_181 0 25 (dk_at dksX8_copy_1 11 rfl rfl)
theorem dX8_copy_36 : decode cX8_copy 36 = .ok (.aload_n 1, 1) := dk_43 (dk_at dksX8_copy_1 14 rfl rfl)
theorem dX8_copy_37 : decode cX8_copy 37 = .ok (.aload_n 0, 1) := dk_42 (dk_at dksX8_copy_1 15 rfl rfl)
theorem dX8_copy_38 : decode cX8_copy 38 = .ok (.getfield 28, 3) := dk_180 0 28 (dk_at dksX8_copy_1 16 rfl rfl)
theorem dX8_copy_41 : decode cX8_copy 41 = .ok (.putfield 28, 3) := dk_181 0 28 (dk_at dksX8_copy_1 19 rfl rfl)
theorem dX8_copy_44 : decode cX8_copy 44 = .ok (.aload_n 1, 1) := dk_43 (dk_at dksX8_copy_1 22 rfl rfl)
theorem dX8_copy_45 : decode cX8_copy 45 = .ok (.areturn, 1) := dk_176 (dk_at dksX8_copy_1 23 rfl rfl)
theorem c_423_0 : LkP (OkP 423) [(0, o_new 12 6 dv12), (3, o_dup), (4, o_aload 0 1), (5, o_get 63), (8, o_aload 0 1), (9, o_get 64), (12, o_aload 0 1), (13, o_get 65), (16, o_ci 419 3), (19, o_astore 1 1), (20, o_aload 1 1), (21, o_aload 0 1), (22, o_get 66), (25, o_put 66 1), (28, o_aload 1 1), (29, o_aload 0 1), (30, o_get 67), (33, o_put 67 1), (36, o_aload 1 1), (37, o_aload 0 1), (38, o_get 68), (41, o_put 68 1), (44, o_aload 1 1), (45, o_ret 0)] := lkp_c (P := OkP 423) ⟨ok_new (ci := 12) (r := CLr 12) rfl dvok_12 q2984 q1453 q144 dX8_copy_0, m_new⟩ (
  lkp_c (P := OkP 423) ⟨(PuOK.ok (ok_dup dX8_copy_3)), m_dup⟩ (
  lkp_c (P := OkP 423) ⟨(PuOK.ok (ok_aload_n dX8_copy_4 rfl)), m_aload⟩ (
  lkp_c (P := OkP 423) ⟨ok_get ⟨"TollRoad$Account", q1458, Or.inl rfl⟩ dX8_copy_5, m_get⟩ (
  lkp_c (P := OkP 423) ⟨(PuOK.ok (ok_aload_n dX8_copy_8 rfl)), m_aload⟩ (
  lkp_c (P := OkP 423) ⟨ok_get ⟨"TollRoad$Account", q1460, Or.inl rfl⟩ dX8_copy_9, m_get⟩ (
  lkp_c (P := OkP 423) ⟨(PuOK.ok (ok_aload_n dX8_copy_12 rfl)), m_aload⟩ (
  lkp_c (P := OkP 423) ⟨ok_get ⟨"TollRoad$Account", q1462, Or.inl rfl⟩ dX8_copy_13, m_get⟩ (
  lkp_c (P := OkP 423) ⟨ok_ci (tg_I (rt := none) ⟨rfl, by decide⟩ rfl q2985 q1455 q144 q1456 ⟨cn_51.1, cn_51.2, pd_105⟩ dX8_copy_16) hd_no, m_ci⟩ (
  lkp_c (P := OkP 423) ⟨(PuOK.ok (ok_astore_n dX8_copy_19 rfl)), m_astore⟩ (
  lkp_c (P := OkP 423) ⟨(PuOK.ok (ok_aload_n dX8_copy_20 rfl)), m_aload⟩ (
  lkp_c (P := OkP 423) ⟨(PuOK.ok (ok_aload_n dX8_copy_21 rfl)), m_aload⟩ (
  lkp_c (P := OkP 423) ⟨ok_get ⟨"TollRoad$Account", q1464, Or.inl rfl⟩ dX8_copy_22, m_get⟩ (
  lkp_c (P := OkP 423) ⟨ok_put ⟨"TollRoad$Account", q1464, Or.inl rfl⟩ rfl fd_66 rfl dX8_copy_25, m_put⟩ (
  lkp_c (P := OkP 423) ⟨(PuOK.ok (ok_aload_n dX8_copy_28 rfl)), m_aload⟩ (
  lkp_c (P := OkP 423) ⟨(PuOK.ok (ok_aload_n dX8_copy_29 rfl)), m_aload⟩ (
  lkp_c (P := OkP 423) ⟨ok_get ⟨"TollRoad$Account", q1466, Or.inl rfl⟩ dX8_copy_30, m_get⟩ (
  lkp_c (P := OkP 423) ⟨ok_put ⟨"TollRoad$Account", q1466, Or.inl rfl⟩ rfl fd_67 rfl dX8_copy_33, m_put⟩ (
  lkp_c (P := OkP 423) ⟨(PuOK.ok (ok_aload_n dX8_copy_36 rfl)), m_aload⟩ (
  lkp_c (P := OkP 423) ⟨(PuOK.ok (ok_aload_n dX8_copy_37 rfl)), m_aload⟩ (
  lkp_c (P := OkP 423) ⟨ok_get ⟨"TollRoad$Account", q1468, Or.inl rfl⟩ dX8_copy_38, m_get⟩ (
  lkp_c (P := OkP 423) ⟨ok_put ⟨"TollRoad$Account", q1468, Or.inl rfl⟩ rfl fd_68 rfl dX8_copy_41, m_put⟩ (
  lkp_c (P := OkP 423) ⟨(PuOK.ok (ok_aload_n dX8_copy_44 rfl)), m_aload⟩ (
  lkp_c (P := OkP 423) ⟨ok_aret rfl (Or.inl ⟨_, rfl⟩) dX8_copy_45, m_ret⟩ (
  trivial))))))))))))))))))))))))
theorem mt_423 : MtOK TB NT IT 423 := ⟨by decide +kernel, rfl, (fun h => by cases h), Or.inl ⟨rfl, rfl⟩, rfl, by decide, lk2_all (P := OkP 423) ⟨c_423_0, trivial⟩⟩
def dkwX9_init_0 : List UInt8 := [42, 183, 0, 3, 42, 2, 181, 0, 9, 42, 27, 181, 0, 15, 42, 28, 181, 0, 18, 177]
abbrev dktX9_init_0 : List UInt8 := dkwX9_init_0 ++ []
theorem dksX9_init_0 : cX9_init.data.toList.drop 0 = dktX9_init_0 := by decide +kernel
theorem dX9_init_0 : decode cX9_init 0 = .ok (.aload_n 0, 1) := dk_42 (dk_at dksX9_init_0 0 rfl rfl)
theorem dX9_init_1 : decode cX9_init 1 = .ok (.invokespecial 3, 3) := dk_183 0 3 (dk_at dksX9_init_0 1 rfl rfl)
theorem dX9_init_4 : decode cX9_init 4 = .ok (.aload_n 0, 1) := dk_42 (dk_at dksX9_init_0 4 rfl rfl)
theorem dX9_init_5 : decode cX9_init 5 = .ok (.iconst (-1), 1) := dk_2 (dk_at dksX9_init_0 5 rfl rfl)
theorem dX9_init_6 : decode cX9_init 6 = .ok (.putfield 9, 3) := dk_181 0 9 (dk_at dksX9_init_0 6 rfl rfl)
theorem dX9_init_9 : decode cX9_init 9 = .ok (.aload_n 0, 1) := dk_42 (dk_at dksX9_init_0 9 rfl rfl)
theorem dX9_init_10 : decode cX9_init 10 = .ok (.iload_n 1, 1) := dk_27 (dk_at dksX9_init_0 10 rfl rfl)
theorem dX9_init_11 : decode cX9_init 11 = .ok (.putfield 15, 3) := dk_181 0 15 (dk_at dksX9_init_0 11 rfl rfl)
theorem dX9_init_14 : decode cX9_init 14 = .ok (.aload_n 0, 1) := dk_42 (dk_at dksX9_init_0 14 rfl rfl)
theorem dX9_init_15 : decode cX9_init 15 = .ok (.iload_n 2, 1) := dk_28 (dk_at dksX9_init_0 15 rfl rfl)
theorem dX9_init_16 : decode cX9_init 16 = .ok (.putfield 18, 3) := dk_181 0 18 (dk_at dksX9_init_0 16 rfl rfl)
theorem dX9_init_19 : decode cX9_init 19 = .ok (.return_, 1) := dk_177 (dk_at dksX9_init_0 19 rfl rfl)
theorem c_424_0 : LkP (OkP 424) [(0, o_aload 0 1), (1, o_oi), (4, o_aload 0 1), (5, o_push 1 (.int (-1))), (6, o_put 73 1), (9, o_aload 0 1), (10, o_iload 1 1), (11, o_put 69 1), (14, o_aload 0 1), (15, o_iload 2 1), (16, o_put 70 1), (19, o_vret)] := lkp_c (P := OkP 424) ⟨(PuOK.ok (ok_aload_n dX9_init_0 rfl)), m_aload⟩ (
  lkp_c (P := OkP 424) ⟨ok_oi q1497 q188 q_oi dX9_init_1, m_oi⟩ (
  lkp_c (P := OkP 424) ⟨(PuOK.ok (ok_aload_n dX9_init_4 rfl)), m_aload⟩ (
  lkp_c (P := OkP 424) ⟨(PuOK.ok (ok_iconst dX9_init_5 rfl)), m_push⟩ (
  lkp_c (P := OkP 424) ⟨ok_put ⟨"TollRoad$Vehicle", q1511, Or.inl rfl⟩ rfl fd_73 rfl dX9_init_6, m_put⟩ (
  lkp_c (P := OkP 424) ⟨(PuOK.ok (ok_aload_n dX9_init_9 rfl)), m_aload⟩ (
  lkp_c (P := OkP 424) ⟨(PuOK.ok (ok_iload_n dX9_init_10 rfl)), m_iload⟩ (
  lkp_c (P := OkP 424) ⟨ok_putF q1498 rfl rfl rfl fd_69 rfl dX9_init_11, m_put⟩ (
  lkp_c (P := OkP 424) ⟨(PuOK.ok (ok_aload_n dX9_init_14 rfl)), m_aload⟩ (
  lkp_c (P := OkP 424) ⟨(PuOK.ok (ok_iload_n dX9_init_15 rfl)), m_iload⟩ (
  lkp_c (P := OkP 424) ⟨ok_put ⟨"TollRoad$Vehicle", q1502, Or.inl rfl⟩ rfl fd_70 rfl dX9_init_16, m_put⟩ (
  lkp_c (P := OkP 424) ⟨ok_vret rfl dX9_init_19, m_vret⟩ (
  trivial))))))))))))
theorem mt_424 : MtOK TB NT IT 424 := ⟨by decide +kernel, rfl, fun _ => rfl, Or.inl ⟨rfl, rfl⟩, rfl, by decide, lk2_all (P := OkP 424) ⟨c_424_0, trivial⟩⟩
def dkwX9_copy_2 : List UInt8 := [43, 176]
abbrev dktX9_copy_2 : List UInt8 := dkwX9_copy_2 ++ []
def dkwX9_copy_1 : List UInt8 := [43, 42, 180, 0, 27, 181, 0, 27, 43, 42, 180, 0, 9, 181, 0, 9, 43, 42, 180, 0, 30, 181, 0, 30]
abbrev dktX9_copy_1 : List UInt8 := dkwX9_copy_1 ++ dktX9_copy_2
def dkwX9_copy_0 : List UInt8 := [187, 0, 10, 89, 42, 180, 0, 15, 42, 180, 0, 18, 183, 0, 21, 76, 43, 42, 180, 0, 24, 181, 0, 24]
abbrev dktX9_copy_0 : List UInt8 := dkwX9_copy_0 ++ dktX9_copy_1
theorem dksX9_copy_0 : cX9_copy.data.toList.drop 0 = dktX9_copy_0 := by decide +kernel
theorem dksX9_copy_1 : cX9_copy.data.toList.drop 24 = dktX9_copy_1 := dk_seg dksX9_copy_0 24 rfl rfl
theorem dksX9_copy_2 : cX9_copy.data.toList.drop 48 = dktX9_copy_2 := dk_seg dksX9_copy_1 24 rfl rfl
theorem dX9_copy_0 : decode cX9_copy 0 = .ok (.new 10, 3) := dk_187 0 10 (dk_at dksX9_copy_0 0 rfl rfl)
theorem dX9_copy_3 : decode cX9_copy 3 = .ok (.dup, 1) := dk_89 (dk_at dksX9_copy_0 3 rfl rfl)
theorem dX9_copy_4 : decode cX9_copy 4 = .ok (.aload_n 0, 1) := dk_42 (dk_at dksX9_copy_0 4 rfl rfl)
theorem dX9_copy_5 : decode cX9_copy 5 = .ok (.getfield 15, 3) := dk_180 0 15 (dk_at dksX9_copy_0 5 rfl rfl)
theorem dX9_copy_8 : decode cX9_copy 8 = .ok (.aload_n 0, 1) := dk_42 (dk_at dksX9_copy_0 8 rfl rfl)
theorem dX9_copy_9 : decode cX9_copy 9 = .ok (.getfield 18, 3) := dk_180 0 18 (dk_at dksX9_copy_0 9 rfl rfl)
theorem dX9_copy_12 : decode cX9_copy 12 = .ok (.invokespecial 21, 3) := dk_183 0 21 (dk_at dksX9_copy_0 12 rfl rfl)
theorem dX9_copy_15 : decode cX9_copy 15 = .ok (.astore_n 1, 1) := dk_76 (dk_at dksX9_copy_0 15 rfl rfl)
theorem dX9_copy_16 : decode cX9_copy 16 = .ok (.aload_n 1, 1) := dk_43 (dk_at dksX9_copy_0 16 rfl rfl)
theorem dX9_copy_17 : decode cX9_copy 17 = .ok (.aload_n 0, 1) := dk_42 (dk_at dksX9_copy_0 17 rfl rfl)
theorem dX9_copy_18 : decode cX9_copy 18 = .ok (.getfield 24, 3) := dk_180 0 24 (dk_at dksX9_copy_0 18 rfl rfl)
theorem dX9_copy_21 : decode cX9_copy 21 = .ok (.putfield 24, 3) := dk_181 0 24 (dk_at dksX9_copy_0 21 rfl rfl)
theorem dX9_copy_24 : decode cX9_copy 24 = .ok (.aload_n 1, 1) := dk_43 (dk_at dksX9_copy_1 0 rfl rfl)
theorem dX9_copy_25 : decode cX9_copy 25 = .ok (.aload_n 0, 1) := dk_42 (dk_at dksX9_copy_1 1 rfl rfl)
theorem dX9_copy_26 : decode cX9_copy 26 = .ok (.getfield 27, 3) := dk_180 0 27 (dk_at dksX9_copy_1 2 rfl rfl)
theorem dX9_copy_29 : decode cX9_copy 29 = .ok (.putfield 27, 3) := dk_181 0 27 (dk_at dksX9_copy_1 5 rfl rfl)
theorem dX9_copy_32 : decode cX9_copy 32 = .ok (.aload_n 1, 1) := dk_43 (dk_at dksX9_copy_1 8 rfl rfl)
theorem dX9_copy_33 : decode cX9_copy 33 = .ok (.aload_n 0, 1) := dk_42 (dk_at dksX9_copy_1 9 rfl rfl)
theorem dX9_copy_34 : decode cX9_copy 34 = .ok (.getfield 9, 3) := dk_180 0 9 (dk_at dksX9_copy_1 10 rfl rfl)
theorem dX9_copy_37 : decode cX9_copy 37 = .ok (.putfield 9, 3) := dk_181 0 9 (dk_at dksX9_copy_1 13 rfl rfl)
theorem dX9_copy_40 : decode cX9_copy 40 = .ok (.aload_n 1, 1) := dk_43 (dk_at dksX9_copy_1 16 rfl rfl)
theorem dX9_copy_41 : decode cX9_copy 41 = .ok (.aload_n 0, 1) := dk_42 (dk_at dksX9_copy_1 17 rfl rfl)
theorem dX9_copy_42 : decode cX9_copy 42 = .ok (.getfield 30, 3) := dk_180 0 30 (dk_at dksX9_copy_1 18 rfl rfl)
theorem dX9_copy_45 : decode cX9_copy 45 = .ok (.putfield 30, 3) := dk_181 0 30 (dk_at dksX9_copy_1 21 rfl rfl)
theorem dX9_copy_48 : decode cX9_copy 48 = .ok (.aload_n 1, 1) := dk_43 (dk_at dksX9_copy_2 0 rfl rfl)
theorem dX9_copy_49 : decode cX9_copy 49 = .ok (.areturn, 1) := dk_176 (dk_at dksX9_copy_2 1 rfl rfl)
theorem c_425_0 : LkP (OkP 425) [(0, o_new 13 6 dv13), (3, o_dup), (4, o_aload 0 1), (5, o_get 69), (8, o_aload 0 1), (9, o_get 70), (12, o_ci 424 2), (15, o_astore 1 1), (16, o_aload 1 1), (17, o_aload 0 1), (18, o_get 71), (21, o_put 71 1), (24, o_aload 1 1), (25, o_aload 0 1), (26, o_get 72), (29, o_put 72 1), (32, o_aload 1 1), (33, o_aload 0 1), (34, o_get 73), (37, o_put 73 1), (40, o_aload 1 1), (41, o_aload 0 1), (42, o_get 74), (45, o_put 74 1), (48, o_aload 1 1), (49, o_ret 0)] := lkp_c (P := OkP 425) ⟨ok_new (ci := 13) (r := CLr 13) rfl dvok_13 q2990 q1493 q145 dX9_copy_0, m_new⟩ (
  lkp_c (P := OkP 425) ⟨(PuOK.ok (ok_dup dX9_copy_3)), m_dup⟩ (
  lkp_c (P := OkP 425) ⟨(PuOK.ok (ok_aload_n dX9_copy_4 rfl)), m_aload⟩ (
  lkp_c (P := OkP 425) ⟨ok_get ⟨"TollRoad$Vehicle", q1498, Or.inl rfl⟩ dX9_copy_5, m_get⟩ (
  lkp_c (P := OkP 425) ⟨(PuOK.ok (ok_aload_n dX9_copy_8 rfl)), m_aload⟩ (
  lkp_c (P := OkP 425) ⟨ok_get ⟨"TollRoad$Vehicle", q1502, Or.inl rfl⟩ dX9_copy_9, m_get⟩ (
  lkp_c (P := OkP 425) ⟨ok_ci (tg_I (rt := none) ⟨rfl, by decide⟩ rfl q2991 q1495 q145 q1496 ⟨cn_52.1, cn_52.2, pd_5⟩ dX9_copy_12) hd_no, m_ci⟩ (
  lkp_c (P := OkP 425) ⟨(PuOK.ok (ok_astore_n dX9_copy_15 rfl)), m_astore⟩ (
  lkp_c (P := OkP 425) ⟨(PuOK.ok (ok_aload_n dX9_copy_16 rfl)), m_aload⟩ (
  lkp_c (P := OkP 425) ⟨(PuOK.ok (ok_aload_n dX9_copy_17 rfl)), m_aload⟩ (
  lkp_c (P := OkP 425) ⟨ok_get ⟨"TollRoad$Vehicle", q1505, Or.inl rfl⟩ dX9_copy_18, m_get⟩ (
  lkp_c (P := OkP 425) ⟨ok_put ⟨"TollRoad$Vehicle", q1505, Or.inl rfl⟩ rfl fd_71 rfl dX9_copy_21, m_put⟩ (
  lkp_c (P := OkP 425) ⟨(PuOK.ok (ok_aload_n dX9_copy_24 rfl)), m_aload⟩ (
  lkp_c (P := OkP 425) ⟨(PuOK.ok (ok_aload_n dX9_copy_25 rfl)), m_aload⟩ (
  lkp_c (P := OkP 425) ⟨ok_get ⟨"TollRoad$Vehicle", q1508, Or.inl rfl⟩ dX9_copy_26, m_get⟩ (
  lkp_c (P := OkP 425) ⟨ok_put ⟨"TollRoad$Vehicle", q1508, Or.inl rfl⟩ rfl fd_72 rfl dX9_copy_29, m_put⟩ (
  lkp_c (P := OkP 425) ⟨(PuOK.ok (ok_aload_n dX9_copy_32 rfl)), m_aload⟩ (
  lkp_c (P := OkP 425) ⟨(PuOK.ok (ok_aload_n dX9_copy_33 rfl)), m_aload⟩ (
  lkp_c (P := OkP 425) ⟨ok_get ⟨"TollRoad$Vehicle", q1511, Or.inl rfl⟩ dX9_copy_34, m_get⟩ (
  lkp_c (P := OkP 425) ⟨ok_put ⟨"TollRoad$Vehicle", q1511, Or.inl rfl⟩ rfl fd_73 rfl dX9_copy_37, m_put⟩ (
  lkp_c (P := OkP 425) ⟨(PuOK.ok (ok_aload_n dX9_copy_40 rfl)), m_aload⟩ (
  lkp_c (P := OkP 425) ⟨(PuOK.ok (ok_aload_n dX9_copy_41 rfl)), m_aload⟩ (
  lkp_c (P := OkP 425) ⟨ok_get ⟨"TollRoad$Vehicle", q1514, Or.inl rfl⟩ dX9_copy_42, m_get⟩ (
  lkp_c (P := OkP 425) ⟨ok_put ⟨"TollRoad$Vehicle", q1514, Or.inl rfl⟩ rfl fd_74 rfl dX9_copy_45, m_put⟩ (
  lkp_c (P := OkP 425) ⟨(PuOK.ok (ok_aload_n dX9_copy_48 rfl)), m_aload⟩ (
  lkp_c (P := OkP 425) ⟨ok_aret rfl (Or.inl ⟨_, rfl⟩) dX9_copy_49, m_ret⟩ (
  trivial))))))))))))))))))))))))))
theorem mt_425 : MtOK TB NT IT 425 := ⟨by decide +kernel, rfl, (fun h => by cases h), Or.inl ⟨rfl, rfl⟩, rfl, by decide, lk2_all (P := OkP 425) ⟨c_425_0, trivial⟩⟩
