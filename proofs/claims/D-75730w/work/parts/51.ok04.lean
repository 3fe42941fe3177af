set_option maxRecDepth 100000
/-! each op is what its instruction does -/
def dkwX2_marked_1 : List UInt8 := [3, 167, 0, 7, 45, 182, 0, 219, 172]
abbrev dktX2_marked_1 : List UInt8 := dkwX2_marked_1 ++ []
def dkwX2_marked_0 : List UInt8 := [42, 180, 0, 46, 187, 0, 111, 89, 27, 28, 183, 0, 213, 182, 0, 216, 192, 0, 116, 78, 45, 199, 0, 7]
abbrev dktX2_marked_0 : List UInt8 := dkwX2_marked_0 ++ dktX2_marked_1
theorem dksX2_marked_0 : cX2_marked.data.toList.drop 0 = dktX2_marked_0 := by decide +kernel
theorem dksX2_marked_1 : cX2_marked.data.toList.drop 24 = dktX2_marked_1 := dk_seg dksX2_marked_0 24 rfl rfl
theorem dX2_marked_0 : decode cX2_marked 0 = .ok (.aload_n 0, 1) := dk_42 (dk_at dksX2_marked_0 0 rfl rfl)
theorem dX2_marked_1 : decode cX2_marked 1 = .ok (.getfield 46, 3) := dk_180 0 46 (dk_at dksX2_marked_0 1 rfl rfl)
theorem dX2_marked_4 : decode cX2_marked 4 = .ok (.new 111, 3) := dk_187 0 111 (dk_at dksX2_marked_0 4 rfl rfl)
theorem dX2_marked_7 : decode cX2_marked 7 = .ok (.dup, 1) := dk_89 (dk_at dksX2_marked_0 7 rfl rfl)
theorem dX2_marked_8 : decode cX2_marked 8 = .ok (.iload_n 1, 1) := dk_27 (dk_at dksX2_marked_0 8 rfl rfl)
theorem dX2_marked_9 : decode cX2_marked 9 = .ok (.iload_n 2, 1) := dk_28 (dk_at dksX2_marked_0 9 rfl rfl)
theorem dX2_marked_10 : decode cX2_marked 10 = .ok (.invokespecial 213, 3) := dk_183 0 213 (dk_at dksX2_marked_0 10 rfl rfl)
theorem dX2_marked_13 : decode cX2_marked 13 = .ok (.invokevirtual 216, 3) := dk_182 0 216 (dk_at dksX2_marked_0 13 rfl rfl)
theorem dX2_marked_16 : decode cX2_marked 16 = .ok (.checkcast 116, 3) := dk_192 0 116 (dk_at dksX2_marked_0 16 rfl rfl)
theorem dX2_marked_19 : decode cX2_marked 19 = .ok (.astore_n 3, 1) := dk_78 (dk_at dksX2_marked_0 19 rfl rfl)
theorem dX2_marked_20 : decode cX2_marked 20 = .ok (.aload_n 3, 1) := dk_45 (dk_at dksX2_marked_0 20 rfl rfl)
theorem dX2_marked_21 : decode cX2_marked 21 = .ok (.ifnonnull 7, 3) := dk_199 0 7 (dk_at dksX2_marked_0 21 rfl rfl)
theorem dX2_marked_24 : decode cX2_marked 24 = .ok (.iconst 0, 1) := dk_3 (dk_at dksX2_marked_1 0 rfl rfl)
theorem dX2_marked_25 : decode cX2_marked 25 = .ok (.goto 7, 3) := dk_167 0 7 (dk_at dksX2_marked_1 1 rfl rfl)
theorem dX2_marked_28 : decode cX2_marked 28 = .ok (.aload_n 3, 1) := dk_45 (dk_at dksX2_marked_1 4 rfl rfl)
theorem dX2_marked_29 : decode cX2_marked 29 = .ok (.invokevirtual 219, 3) := dk_182 0 219 (dk_at dksX2_marked_1 5 rfl rfl)
theorem dX2_marked_32 : decode cX2_marked 32 = .ok (.ireturn, 1) := dk_172 (dk_at dksX2_marked_1 8 rfl rfl)
theorem c_257_0 : LkP (OkP 257) [(0, o_aload 0 1), (1, o_get 13), (4, o_new 8 2 dv8), (7, o_dup), (8, o_iload 1 1), (9, o_iload 2 1), (10, o_ci 279 2), (13, o_cv [(6, 29)] 1 3 false none), (16, o_cast [21]), (19, o_astore 3 1), (20, o_aload 3 1), (21, o_ifnonnull 28), (24, o_push 1 (.int 0)), (25, o_goto 32), (28, o_aload 3 1), (29, o_cvs [(21, 21)] 0 3 false), (32, o_ret 1)] := lkp_c (P := OkP 257) ⟨(PuOK.ok (ok_aload_n dX2_marked_0 rfl)), m_aload⟩ (
  lkp_c (P := OkP 257) ⟨ok_get ⟨"TollRoad$World", q645, Or.inl rfl⟩ dX2_marked_1, m_get⟩ (
  lkp_c (P := OkP 257) ⟨ok_new (ci := 8) (r := CLr 8) rfl dvok_8 q813 q814 q176 dX2_marked_4, m_new⟩ (
  lkp_c (P := OkP 257) ⟨(PuOK.ok (ok_dup dX2_marked_7)), m_dup⟩ (
  lkp_c (P := OkP 257) ⟨(PuOK.ok (ok_iload_n dX2_marked_8 rfl)), m_iload⟩ (
  lkp_c (P := OkP 257) ⟨(PuOK.ok (ok_iload_n dX2_marked_9 rfl)), m_iload⟩ (
  lkp_c (P := OkP 257) ⟨ok_ci (tg_I (rt := none) ⟨rfl, by decide⟩ rfl q815 q816 q176 q817 ⟨cn_50.1, cn_50.2, pd_104⟩ dX2_marked_10) hd_no, m_ci⟩ (
  lkp_c (P := OkP 257) ⟨ok_cv (List.forall_mem_cons.mpr ⟨tg_V (ci := 6) (r := CLr 6) (y := 29) rfl ⟨rfl, by decide⟩ rfl q826 q827 q828 q138 q829 ⟨cn_9.1, cn_9.2, pd_31⟩ dX2_marked_13, (List.forall_mem_nil _)⟩) hd_no, m_cv⟩ (
  lkp_c (P := OkP 257) ⟨ok_cast q1244 cst_1 dX2_marked_16, m_cast⟩ (
  lkp_c (P := OkP 257) ⟨(PuOK.ok (ok_astore_n dX2_marked_19 rfl)), m_astore⟩ (
  lkp_c (P := OkP 257) ⟨(PuOK.ok (ok_aload_n dX2_marked_20 rfl)), m_aload⟩ (
  lkp_c (P := OkP 257) ⟨(PuOK.ok (ok_ifnonnull dX2_marked_21 rfl)), m_ifnonnull⟩ (
  lkp_c (P := OkP 257) ⟨(PuOK.ok (ok_iconst dX2_marked_24 rfl)), m_push⟩ (
  lkp_c (P := OkP 257) ⟨(PuOK.ok (ok_goto dX2_marked_25 rfl)), m_goto⟩ (
  lkp_c (P := OkP 257) ⟨(PuOK.ok (ok_aload_n dX2_marked_28 rfl)), m_aload⟩ (
  lkp_c (P := OkP 257) ⟨ok_cvs (List.forall_mem_cons.mpr ⟨tg_V (ci := 21) (r := CLr 21) (y := 21) rfl ⟨rfl, by decide⟩ rfl q1245 q968 q969 q136 q970 ⟨cn_6.1, cn_6.2, pd_13⟩ dX2_marked_29, (List.forall_mem_nil _)⟩) hd_no, m_cvs⟩ (
  lkp_c (P := OkP 257) ⟨ok_iret rfl rfl (by decide) dX2_marked_32, m_ret⟩ (
  trivial)))))))))))))))))
theorem mt_257 : MtOK TB NT IT 257 := ⟨by decide +kernel, rfl, (fun h => by cases h), Or.inl ⟨rfl, rfl⟩, rfl, by decide, lk2_all (P := OkP 257) ⟨c_257_0, trivial⟩⟩
def dkwX2_addAccount_1 : List UInt8 := [4, 96, 181, 0, 60, 42, 180, 0, 60, 4, 100, 172]
abbrev dktX2_addAccount_1 : List UInt8 := dkwX2_addAccount_1 ++ []
def dkwX2_addAccount_0 : List UInt8 := [42, 180, 0, 24, 42, 180, 0, 60, 187, 0, 22, 89, 27, 28, 29, 183, 0, 122, 83, 42, 89, 180, 0, 60]
abbrev dktX2_addAccount_0 : List UInt8 := dkwX2_addAccount_0 ++ dktX2_addAccount_1
theorem dksX2_addAccount_0 : cX2_addAccount.data.toList.drop 0 = dktX2_addAccount_0 := by decide +kernel
theorem dksX2_addAccount_1 : cX2_addAccount.data.toList.drop 24 = dktX2_addAccount_1 := dk_seg dksX2_addAccount_0 24 rfl rfl
theorem dX2_addAccount_0 : decode cX2_addAccount 0 = .ok (.aload_n 0, 1) := dk_42 (dk_at dksX2_addAccount_0 0 rfl rfl)
theorem dX2_addAccount_1 : decode cX2_addAccount 1 = .ok (.getfield 24, 3) := dk_180 0 24 (dk_at dksX2_addAccount_0 1 rfl rfl)
theorem dX2_addAccount_4 : decode cX2_addAccount 4 = .ok (.aload_n 0, 1) := dk_42 (dk_at dksX2_addAccount_0 4 rfl rfl)
theorem dX2_addAccount_5 : decode cX2_addAccount 5 = .ok (.getfield 60, 3) := dk_180 0 60 (dk_at dksX2_addAccount_0 5 rfl rfl)
theorem dX2_addAccount_8 : decode cX2_addAccount 8 = .ok (.new 22, 3) := dk_187 0 22 (dk_at dksX2_addAccount_0 8 rfl rfl)
theorem dX2_addAccount_11 : decode cX2_addAccount 11 = .ok (.dup, 1) := dk_89 (dk_at dksX2_addAccount_0 11 rfl rfl)
theorem dX2_addAccount_12 : decode cX2_addAccount 12 = .ok (.iload_n 1, 1) := dk_27 (dk_at dksX2_addAccount_0 12 rfl rfl)
theorem dX2_addAccount_13 : decode cX2_addAccount 13 = .ok (.iload_n 2, 1) := dk_28 (dk_at dksX2_addAccount_0 13 rfl rfl)
theorem dX2_addAccount_14 : decode cX2_addAccount 14 = .ok (.iload_n 3, 1) := dk_29 (dk_at dksX2_addAccount_0 14 rfl rfl)
theorem dX2_addAccount_15 : decode cX2_addAccount 15 = .ok (.invokespecial 122, 3) := dk_183 0 122 (dk_at dksX2_addAccount_0 15 rfl rfl)
theorem dX2_addAccount_18 : decode cX2_addAccount 18 = .ok (.aastore, 1) := dk_83 (dk_at dksX2_addAccount_0 18 rfl rfl)
theorem dX2_addAccount_19 : decode cX2_addAccount 19 = .ok (.aload_n 0, 1) := dk_42 (dk_at dksX2_addAccount_0 19 rfl rfl)
theorem dX2_addAccount_20 : decode cX2_addAccount 20 = .ok (.dup, 1) := dk_89 (dk_at dksX2_addAccount_0 20 rfl rfl)
theorem dX2_addAccount_21 : decode cX2_addAccount 21 = .ok (.getfield 60, 3) := dk_180 0 60 (dk_at dksX2_addAccount_0 21 rfl rfl)
theorem dX2_addAccount_24 : decode cX2_addAccount 24 = .ok (.iconst 1, 1) := dk_4 (dk_at dksX2_addAccount_1 0 rfl rfl)
theorem dX2_addAccount_25 : decode cX2_addAccount 25 = .ok (.iadd, 1) := dk_96 (dk_at dksX2_addAccount_1 1 rfl rfl)
theorem dX2_addAccount_26 : decode cX2_addAccount 26 = .ok (.putfield 60, 3) := dk_181 0 60 (dk_at dksX2_addAccount_1 2 rfl rfl)
theorem dX2_addAccount_29 : decode cX2_addAccount 29 = .ok (.aload_n 0, 1) := dk_42 (dk_at dksX2_addAccount_1 5 rfl rfl)
theorem dX2_addAccount_30 : decode cX2_addAccount 30 = .ok (.getfield 60, 3) := dk_180 0 60 (dk_at dksX2_addAccount_1 6 rfl rfl)
theorem dX2_addAccount_33 : decode cX2_addAccount 33 = .ok (.iconst 1, 1) := dk_4 (dk_at dksX2_addAccount_1 9 rfl rfl)
theorem dX2_addAccount_34 : decode cX2_addAccount 34 = .ok (.isub, 1) := dk_100 (dk_at dksX2_addAccount_1 10 rfl rfl)
theorem dX2_addAccount_35 : decode cX2_addAccount 35 = .ok (.ireturn, 1) := dk_172 (dk_at dksX2_addAccount_1 11 rfl rfl)
theorem c_258_0 : LkP (OkP 258) [(0, o_aload 0 1), (1, o_get 8), (4, o_aload 0 1), (5, o_get 9), (8, o_new 12 6 dv12), (11, o_dup), (12, o_iload 1 1), (13, o_iload 2 1), (14, o_iload 3 1), (15, o_ci 419 3), (18, o_wrQ 7 [12]), (19, o_aload 0 1), (20, o_dup), (21, o_get 9), (24, o_push 1 (.int 1)), (25, o_iop (fun x y => x + y)), (26, o_put 9 1), (29, o_aload 0 1), (30, o_get 9), (33, o_push 1 (.int 1)), (34, o_iop (fun x y => x - y)), (35, o_ret 1)] := lkp_c (P := OkP 258) ⟨(PuOK.ok (ok_aload_n dX2_addAccount_0 rfl)), m_aload⟩ (
  lkp_c (P := OkP 258) ⟨ok_get ⟨"TollRoad$World", q632, Or.inl rfl⟩ dX2_addAccount_1, m_get⟩ (
  lkp_c (P := OkP 258) ⟨(PuOK.ok (ok_aload_n dX2_addAccount_4 rfl)), m_aload⟩ (
  lkp_c (P := OkP 258) ⟨ok_get ⟨"TollRoad$World", q634, Or.inl rfl⟩ dX2_addAccount_5, m_get⟩ (
  lkp_c (P := OkP 258) ⟨ok_new (ci := 12) (r := CLr 12) rfl dvok_12 q225 q1453 q144 dX2_addAccount_8, m_new⟩ (
  lkp_c (P := OkP 258) ⟨(PuOK.ok (ok_dup dX2_addAccount_11)), m_dup⟩ (
  lkp_c (P := OkP 258) ⟨(PuOK.ok (ok_iload_n dX2_addAccount_12 rfl)), m_iload⟩ (
  lkp_c (P := OkP 258) ⟨(PuOK.ok (ok_iload_n dX2_addAccount_13 rfl)), m_iload⟩ (
  lkp_c (P := OkP 258) ⟨(PuOK.ok (ok_iload_n dX2_addAccount_14 rfl)), m_iload⟩ (
  lkp_c (P := OkP 258) ⟨ok_ci (tg_I (rt := none) ⟨rfl, by decide⟩ rfl q1454 q1455 q144 q1456 ⟨cn_51.1, cn_51.2, pd_105⟩ dX2_addAccount_15) hd_no, m_ci⟩ (
  lkp_c (P := OkP 258) ⟨ok_aast rfl cst_10 dX2_addAccount_18, m_wrQ⟩ (
  lkp_c (P := OkP 258) ⟨(PuOK.ok (ok_aload_n dX2_addAccount_19 rfl)), m_aload⟩ (
  lkp_c (P := OkP 258) ⟨(PuOK.ok (ok_dup dX2_addAccount_20)), m_dup⟩ (
  lkp_c (P := OkP 258) ⟨ok_get ⟨"TollRoad$World", q634, Or.inl rfl⟩ dX2_addAccount_21, m_get⟩ (
  lkp_c (P := OkP 258) ⟨(PuOK.ok (ok_iconst dX2_addAccount_24 rfl)), m_push⟩ (
  lkp_c (P := OkP 258) ⟨(PuOK.ok (ok_iadd dX2_addAccount_25)), m_iop⟩ (
  lkp_c (P := OkP 258) ⟨ok_put ⟨"TollRoad$World", q634, Or.inl rfl⟩ rfl fd_9 rfl dX2_addAccount_26, m_put⟩ (
  lkp_c (P := OkP 258) ⟨(PuOK.ok (ok_aload_n dX2_addAccount_29 rfl)), m_aload⟩ (
  lkp_c (P := OkP 258) ⟨ok_get ⟨"TollRoad$World", q634, Or.inl rfl⟩ dX2_addAccount_30, m_get⟩ (
  lkp_c (P := OkP 258) ⟨(PuOK.ok (ok_iconst dX2_addAccount_33 rfl)), m_push⟩ (
  lkp_c (P := OkP 258) ⟨(PuOK.ok (ok_isub dX2_addAccount_34)), m_iop⟩ (
  lkp_c (P := OkP 258) ⟨ok_iret rfl rfl (by decide) dX2_addAccount_35, m_ret⟩ (
  trivial))))))))))))))))))))))
theorem mt_258 : MtOK TB NT IT 258 := ⟨by decide +kernel, rfl, (fun h => by cases h), Or.inl ⟨rfl, rfl⟩, rfl, by decide, lk2_all (P := OkP 258) ⟨c_258_0, trivial⟩⟩
def dkwX2_addVehicle_1 : List UInt8 := [4, 100, 172]
abbrev dktX2_addVehicle_1 : List UInt8 := dkwX2_addVehicle_1 ++ []
def dkwX2_addVehicle_0 : List UInt8 := [42, 180, 0, 33, 187, 0, 80, 89, 27, 28, 183, 0, 125, 182, 0, 85, 87, 42, 180, 0, 33, 182, 0, 128]
abbrev dktX2_addVehicle_0 : List UInt8 := dkwX2_addVehicle_0 ++ dktX2_addVehicle_1
theorem dksX2_addVehicle_0 : cX2_addVehicle.data.toList.drop 0 = dktX2_addVehicle_0 := by decide +kernel
theorem dksX2_addVehicle_1 : cX2_addVehicle.data.toList.drop 24 = dktX2_addVehicle_1 := dk_seg dksX2_addVehicle_0 24 rfl rfl
theorem dX2_addVehicle_0 : decode cX2_addVehicle 0 = .ok (.aload_n 0, 1) := dk_42 (dk_at dksX2_addVehicle_0 0 rfl rfl)
theorem dX2_addVehicle_1 : decode cX2_addVehicle 1 = .ok (.getfield 33, 3) := dk_180 0 33 (dk_at dksX2_addVehicle_0 1 rfl rfl)
theorem dX2_addVehicle_4 : decode cX2_addVehicle 4 = .ok (.new 80, 3) := dk_187 0 80 (dk_at dksX2_addVehicle_0 4 rfl rfl)
theorem dX2_addVehicle_7 : decode cX2_addVehicle 7 = .ok (.dup, 1) := dk_89 (dk_at dksX2_addVehicle_0 7 rfl rfl)
theorem dX2_addVehicle_8 : decode cX2_addVehicle 8 = .ok (.iload_n 1, 1) := dk_27 (dk_at dksX2_addVehicle_0 8 rfl rfl)
theorem dX2_addVehicle_9 : decode cX2_addVehicle 9 = .ok (.iload_n 2, 1) := dk_28 (dk_at dksX2_addVehicle_0 9 rfl rfl)
theorem dX2_addVehicle_10 : decode cX2_addVehicle 10 = .ok (.invokespecial 125, 3) := dk_183 0 125 (dk_at dksX2_addVehicle_0 10 rfl rfl)
theorem dX2_addVehicle_13 : decode cX2_addVehicle 13 = .ok (.invokevirtual 85, 3) := dk_182 0 85 (dk_at dksX2_addVehicle_0 13 rfl rfl)
theorem dX2_addVehicle_16 : decode cX2_addVehicle 16 = .ok (.pop, 1) := dk_87 (dk_at dksX2_addVehicle_0 16 rfl rfl)
theorem dX2_addVehicle_17 : decode cX2_addVehicle 17 = .ok (.aload_n 0, 1) := dk_42 (dk_at dksX2_addVehicle_0 17 rfl rfl)
theorem dX2_addVehicle_18 : decode cX2_addVehicle 18 = .ok (.getfield 33, 3) := dk_180 0 33 (dk_at dksX2_addVehicle_0 18 rfl rfl)
theorem dX2_addVehicle_21 : decode cX2_addVehicle 21 = .ok (.invokevirtual 128, 3) := dk_182 0 128 (dk_at dksX2_addVehicle_0 21 rfl rfl)
theorem dX2_addVehicle_24 : decode cX2_addVehicle 24 = .ok (.iconst 1, 1) := dk_4 (dk_at dksX2_addVehicle_1 0 rfl rfl)
theorem dX2_addVehicle_25 : decode cX2_addVehicle 25 = .ok (.isub, 1) := dk_100 (dk_at dksX2_addVehicle_1 1 rfl rfl)
theorem dX2_addVehicle_26 : decode cX2_addVehicle 26 = .ok (.ireturn, 1) := dk_172 (dk_at dksX2_addVehicle_1 2 rfl rfl)
theorem c_259_0 : LkP (OkP 259) [(0, o_aload 0 1), (1, o_get 10), (4, o_new 13 6 dv13), (7, o_dup), (8, o_iload 1 1), (9, o_iload 2 1), (10, o_ci 424 2), (13, o_cv [(3, 43)] 1 3 false none), (16, o_pop), (17, o_aload 0 1), (18, o_get 10), (21, o_cv [(3, 42)] 0 3 false none), (24, o_push 1 (.int 1)), (25, o_iop (fun x y => x - y)), (26, o_ret 1)] := lkp_c (P := OkP 259) ⟨(PuOK.ok (ok_aload_n dX2_addVehicle_0 rfl)), m_aload⟩ (
  lkp_c (P := OkP 259) ⟨ok_get ⟨"TollRoad$World", q637, Or.inl rfl⟩ dX2_addVehicle_1, m_get⟩ (
  lkp_c (P := OkP 259) ⟨ok_new (ci := 13) (r := CLr 13) rfl dvok_13 q1492 q1493 q145 dX2_addVehicle_4, m_new⟩ (
  lkp_c (P := OkP 259) ⟨(PuOK.ok (ok_dup dX2_addVehicle_7)), m_dup⟩ (
  lkp_c (P := OkP 259) ⟨(PuOK.ok (ok_iload_n dX2_addVehicle_8 rfl)), m_iload⟩ (
  lkp_c (P := OkP 259) ⟨(PuOK.ok (ok_iload_n dX2_addVehicle_9 rfl)), m_iload⟩ (
  lkp_c (P := OkP 259) ⟨ok_ci (tg_I (rt := none) ⟨rfl, by decide⟩ rfl q1494 q1495 q145 q1496 ⟨cn_52.1, cn_52.2, pd_5⟩ dX2_addVehicle_10) hd_no, m_ci⟩ (
  lkp_c (P := OkP 259) ⟨ok_cv (List.forall_mem_cons.mpr ⟨tg_V (ci := 3) (r := CLr 3) (y := 43) rfl ⟨rfl, by decide⟩ rfl q1530 q1531 q1532 q120 q1533 ⟨cn_15.1, cn_15.2, pd_12⟩ dX2_addVehicle_13, (List.forall_mem_nil _)⟩) hd_no, m_cv⟩ (
  lkp_c (P := OkP 259) ⟨(PuOK.ok (ok_pop dX2_addVehicle_16)), m_pop⟩ (
  lkp_c (P := OkP 259) ⟨(PuOK.ok (ok_aload_n dX2_addVehicle_17 rfl)), m_aload⟩ (
  lkp_c (P := OkP 259) ⟨ok_get ⟨"TollRoad$World", q637, Or.inl rfl⟩ dX2_addVehicle_18, m_get⟩ (
  lkp_c (P := OkP 259) ⟨ok_cv (List.forall_mem_cons.mpr ⟨tg_V (ci := 3) (r := CLr 3) (y := 42) rfl ⟨rfl, by decide⟩ rfl q1559 q1257 q1258 q120 q1259 ⟨cn_15.1, cn_15.2, pd_13⟩ dX2_addVehicle_21, (List.forall_mem_nil _)⟩) hd_no, m_cv⟩ (
  lkp_c (P := OkP 259) ⟨(PuOK.ok (ok_iconst dX2_addVehicle_24 rfl)), m_push⟩ (
  lkp_c (P := OkP 259) ⟨(PuOK.ok (ok_isub dX2_addVehicle_25)), m_iop⟩ (
  lkp_c (P := OkP 259) ⟨ok_iret rfl rfl (by decide) dX2_addVehicle_26, m_ret⟩ (
  trivial)))))))))))))))
theorem mt_259 : MtOK TB NT IT 259 := ⟨by decide +kernel, rfl, (fun h => by cases h), Or.inl ⟨rfl, rfl⟩, rfl, by decide, lk2_all (P := OkP 259) ⟨c_259_0, trivial⟩⟩
def dkwX2_readsWith_2 : List UInt8 := [180, 0, 151, 28, 160, 0, 7, 4, 167, 0, 4, 3, 96, 62, 167, 255, 208, 29, 172]
abbrev dktX2_readsWith_2 : List UInt8 := dkwX2_readsWith_2 ++ []
def dkwX2_readsWith_1 : List UInt8 := [185, 0, 77, 1, 0, 192, 0, 89, 58, 5, 29, 25, 5, 180, 0, 138, 27, 160, 0, 16, 25, 5]
abbrev dktX2_readsWith_1 : List UInt8 := dkwX2_readsWith_1 ++ dktX2_readsWith_2
def dkwX2_readsWith_0 : List UInt8 := [3, 62, 42, 180, 0, 37, 182, 0, 67, 58, 4, 25, 4, 185, 0, 71, 1, 0, 153, 0, 44, 25, 4]
abbrev dktX2_readsWith_0 : List UInt8 := dkwX2_readsWith_0 ++ dktX2_readsWith_1
theorem dksX2_readsWith_0 : cX2_readsWith.data.toList.drop 0 = dktX2_readsWith_0 := by decide +kernel
theorem dksX2_readsWith_1 : cX2_readsWith.data.toList.drop 23 = dktX2_readsWith_1 := dk_seg dksX2_readsWith_0 23 rfl rfl
theorem dksX2_readsWith_2 : cX2_readsWith.data.toList.drop 45 = dktX2_readsWith_2 := dk_seg dksX2_readsWith_1 22 rfl rfl
theorem dX2_readsWith_0 : decode cX2_readsWith 0 = .ok (.iconst 0, 1) := dk_3 (dk_at dksX2_readsWith_0 0 rfl rfl)
theorem dX2_readsWith_1 : decode cX2_readsWith 1 = .ok (.istore_n 3, 1) := dk_62 (dk_at dksX2_readsWith_0 1 rfl rfl)
theorem dX2_readsWith_2 : decode cX2_readsWith 2 = .ok (.aload_n 0, 1) := dk_42 (dk_at dksX2_readsWith_0 2 rfl rfl)
theorem dX2_readsWith_3 : decode cX2_readsWith 3 = .ok (.getfield 37, 3) := dk_180 0 37 (dk_at dksX2_readsWith_0 3 rfl rfl)
theorem dX2_readsWith_6 : decode cX2_readsWith 6 = .ok (.invokevirtual 67, 3) := dk_182 0 67 (dk_at dksX2_readsWith_0 6 rfl rfl)
theorem dX2_readsWith_9 : decode cX2_readsWith 9 = .ok (.astore 4, 2) := dk_58 4 (dk_at dksX2_readsWith_0 9 rfl rfl)
theorem dX2_readsWith_11 : decode cX2_readsWith 11 = .ok (.aload 4, 2) := dk_25 4 (dk_at dksX2_readsWith_0 11 rfl rfl)
theorem dX2_readsWith_13 : decode cX2_readsWith 13 = .ok (.invokeinterface 71 1, 5) := by decide +kernel
theorem dX2_readsWith_18 : decode cX2_readsWith 18 = .ok (.ifCond .eq 44, 3) := dk_153 0 44 (dk_at dksX2_readsWith_0 18 rfl rfl)
theorem dX2_readsWith_21 : decode cX2_readsWith 21 = .ok (.aload 4, 2) := dk_25 4 (dk_at dksX2_readsWith_0 21 rfl rfl)
theorem dX2_readsWith_23 : decode cX2_readsWith 23 = .ok (.invokeinterface 77 1, 5) := by decide +kernel
theorem dX2_readsWith_28 : decode cX2_readsWith 28 = .ok (.checkcast 89, 3) := dk_192 0 89 (dk_at dksX2_readsWith_1 5 rfl rfl)
theorem dX2_readsWith_31 : decode cX2_readsWith 31 = .ok (.astore 5, 2) := dk_58 5 (dk_at dksX2_readsWith_1 8 rfl rfl)
theorem dX2_readsWith_33 : decode cX2_readsWith 33 = .ok (.iload_n 3, 1) := dk_29 (dk_at dksX2_readsWith_1 10 rfl rfl)
theorem dX2_readsWith_34 : decode cX2_readsWith 34 = .ok (.aload 5, 2) := dk_25 5 (dk_at dksX2_readsWith_1 11 rfl rfl)
theorem dX2_readsWith_36 : decode cX2_readsWith 36 = .ok (.getfield 138, 3) := dk_180 0 138 (dk_at dksX2_readsWith_1 13 rfl rfl)
theorem dX2_readsWith_39 : decode cX2_readsWith 39 = .ok (.iload_n 1, 1) := dk_27 (dk_at dksX2_readsWith_1 16 rfl rfl)
theorem dX2_readsWith_40 : decode cX2_readsWith 40 = .ok (.if_icmp .ne 16, 3) := dk_160 0 16 (dk_at dksX2_readsWith_1 17 rfl rfl)
theorem dX2_readsWith_43 : decode cX2_readsWith 43 = .ok (.aload 5, 2) := dk_25 5 (dk_at dksX2_readsWith_1 20 rfl rfl)
theorem dX2_readsWith_45 : decode cX2_readsWith 45 = .ok (.getfield 151, 3) := dk_180 0 151 (dk_at dksX2_readsWith_2 0 rfl rfl)
theorem dX2_readsWith_48 : decode cX2_readsWith 48 = .ok (.iload_n 2, 1) := dk_28 (dk_at dksX2_readsWith_2 3 rfl rfl)
theorem dX2_readsWith_49 : decode cX2_readsWith 49 = .ok (.if_icmp .ne 7, 3) := dk_160 0 7 (dk_at dksX2_readsWith_2 4 rfl rfl)
theorem dX2_readsWith_52 : decode cX2_readsWith 52 = .ok (.iconst 1, 1) := dk_4 (dk_at dksX2_readsWith_2 7 rfl rfl)
theorem dX2_readsWith_53 : decode cX2_readsWith 53 = .ok (.goto 4, 3) := dk_167 0 4 (dk_at dksX2_readsWith_2 8 rfl rfl)
theorem dX2_readsWith_56 : decode cX2_readsWith 56 = .ok (.iconst 0, 1) := dk_3 (dk_at dksX2_readsWith_2 11 rfl rfl)
theorem dX2_readsWith_57 : decode cX2_readsWith 57 = .ok (.iadd, 1) := dk_96 (dk_at dksX2_readsWith_2 12 rfl rfl)
theorem dX2_readsWith_58 : decode cX2_readsWith 58 = .ok (.istore_n 3, 1) := dk_62 (dk_at dksX2_readsWith_2 13 rfl rfl)
theorem dX2_readsWith_59 : decode cX2_readsWith 59 = .ok (.goto (-48), 3) := dk_167 255 208 (dk_at dksX2_readsWith_2 14 rfl rfl)
theorem dX2_readsWith_62 : decode cX2_readsWith 62 = .ok (.iload_n 3, 1) := dk_29 (dk_at dksX2_readsWith_2 17 rfl rfl)
theorem dX2_readsWith_63 : decode cX2_readsWith 63 = .ok (.ireturn, 1) := dk_172 (dk_at dksX2_readsWith_2 18 rfl rfl)
theorem c_260_0 : LkP (OkP 260) [(0, o_push 1 (.int 0)), (1, o_istore 3 1), (2, o_aload 0 1), (3, o_get 11), (6, o_cv [(3, 40)] 0 3 false none), (9, o_astore 4 2), (11, o_aload 4 2), (13, o_cv [(7, 50), (24, 86), (25, 92)] 0 5 false none), (18, o_if (fun x => decide (x = 0)) 62), (21, o_aload 4 2), (23, o_cv [(7, 51), (24, 89), (25, 95)] 0 5 false none), (28, o_cast [17]), (31, o_astore 5 2), (33, o_iload 3 1), (34, o_aload 5 2), (36, o_get 93), (39, o_iload 1 1), (40, o_icmp (fun x y => decide (¬ x = y)) 56), (43, o_aload 5 2), (45, o_get 95), (48, o_iload 2 1), (49, o_icmp (fun x y => decide (¬ x = y)) 56), (52, o_push 1 (.int 1)), (53, o_goto 57), (56, o_push 1 (.int 0)), (57, o_iop (fun x y => x + y)), (58, o_istore 3 1), (59, o_goto 11), (62, o_iload 3 1), (63, o_ret 1)] := lkp_c (P := OkP 260) ⟨(PuOK.ok (ok_iconst dX2_readsWith_0 rfl)), m_push⟩ (
  lkp_c (P := OkP 260) ⟨(PuOK.ok (ok_istore_n dX2_readsWith_1 rfl)), m_istore⟩ (
  lkp_c (P := OkP 260) ⟨(PuOK.ok (ok_aload_n dX2_readsWith_2 rfl)), m_aload⟩ (
  lkp_c (P := OkP 260) ⟨ok_get ⟨"TollRoad$World", q641, Or.inl rfl⟩ dX2_readsWith_3, m_get⟩ (
  lkp_c (P := OkP 260) ⟨ok_cv (List.forall_mem_cons.mpr ⟨tg_V (ci := 3) (r := CLr 3) (y := 40) rfl ⟨rfl, by decide⟩ rfl q1824 q689 q690 q120 q691 ⟨cn_15.1, cn_15.2, pd_70⟩ dX2_readsWith_6, (List.forall_mem_nil _)⟩) hd_no, m_cv⟩ (
  lkp_c (P := OkP 260) ⟨(PuOK.ok (ok_astore dX2_readsWith_9)), m_astore⟩ (
  lkp_c (P := OkP 260) ⟨(PuOK.ok (ok_aload dX2_readsWith_11)), m_aload⟩ (
  lkp_c (P := OkP 260) ⟨ok_cv (List.forall_mem_cons.mpr ⟨tg_F (ci := 7) (r := CLr 7) (y := 50) rfl ⟨rfl, by decide⟩ q1826 q716 q718 q150 q720 q714 q713 q719 q717 q715 ⟨cn_37.1, cn_37.2, pd_50⟩ dX2_readsWith_13, (List.forall_mem_cons.mpr ⟨tg_F (ci := 24) (r := CLr 24) (y := 86) rfl ⟨rfl, by decide⟩ q1826 q722 q724 q168 q726 q714 q713 q725 q723 q721 ⟨cn_37.1, cn_37.2, pd_50⟩ dX2_readsWith_13, (List.forall_mem_cons.mpr ⟨tg_F (ci := 25) (r := CLr 25) (y := 92) rfl ⟨rfl, by decide⟩ q1826 q738 q740 q171 q742 q714 q713 q741 q739 q737 ⟨cn_37.1, cn_37.2, pd_50⟩ dX2_readsWith_13, (List.forall_mem_nil _)⟩)⟩)⟩) hd_no, m_cv⟩ (
  lkp_c (P := OkP 260) ⟨(PuOK.ok (ok_if_eq dX2_readsWith_18 rfl)), m_if⟩ (
  lkp_c (P := OkP 260) ⟨(PuOK.ok (ok_aload dX2_readsWith_21)), m_aload⟩ (
  lkp_c (P := OkP 260) ⟨ok_cv (List.forall_mem_cons.mpr ⟨tg_F (ci := 7) (r := CLr 7) (y := 51) rfl ⟨rfl, by decide⟩ q1828 q747 q749 q150 q751 q746 q745 q750 q748 q715 ⟨cn_37.1, cn_37.2, pd_71⟩ dX2_readsWith_23, (List.forall_mem_cons.mpr ⟨tg_F (ci := 24) (r := CLr 24) (y := 89) rfl ⟨rfl, by decide⟩ q1828 q756 q758 q169 q760 q746 q745 q759 q757 q721 ⟨cn_37.1, cn_37.2, pd_71⟩ dX2_readsWith_23, (List.forall_mem_cons.mpr ⟨tg_F (ci := 25) (r := CLr 25) (y := 95) rfl ⟨rfl, by decide⟩ q1828 q790 q792 q172 q794 q746 q745 q793 q791 q737 ⟨cn_37.1, cn_37.2, pd_71⟩ dX2_readsWith_23, (List.forall_mem_nil _)⟩)⟩)⟩) hd_no, m_cv⟩ (
  lkp_c (P := OkP 260) ⟨ok_cast q1829 cst_6 dX2_readsWith_28, m_cast⟩ (
  lkp_c (P := OkP 260) ⟨(PuOK.ok (ok_astore dX2_readsWith_31)), m_astore⟩ (
  lkp_c (P := OkP 260) ⟨(PuOK.ok (ok_iload_n dX2_readsWith_33 rfl)), m_iload⟩ (
  lkp_c (P := OkP 260) ⟨(PuOK.ok (ok_aload dX2_readsWith_34)), m_aload⟩ (
  lkp_c (P := OkP 260) ⟨ok_getN ⟨"TollRoad$Read", "TollRoad", q2009, Or.inl rfl⟩ dX2_readsWith_36, m_get⟩ (
  lkp_c (P := OkP 260) ⟨(PuOK.ok (ok_iload_n dX2_readsWith_39 rfl)), m_iload⟩ (
  lkp_c (P := OkP 260) ⟨(PuOK.ok (ok_icmp_ne dX2_readsWith_40 rfl)), m_icmp⟩ (
  lkp_c (P := OkP 260) ⟨(PuOK.ok (ok_aload dX2_readsWith_43)), m_aload⟩ (
  lkp_c (P := OkP 260) ⟨ok_getN ⟨"TollRoad$Read", "TollRoad", q2015, Or.inl rfl⟩ dX2_readsWith_45, m_get⟩ (
  lkp_c (P := OkP 260) ⟨(PuOK.ok (ok_iload_n dX2_readsWith_48 rfl)), m_iload⟩ (
  lkp_c (P := OkP 260) ⟨(PuOK.ok (ok_icmp_ne dX2_readsWith_49 rfl)), m_icmp⟩ (
  lkp_c (P := OkP 260) ⟨(PuOK.ok (ok_iconst dX2_readsWith_52 rfl)), m_push⟩ (
  lkp_c (P := OkP 260) ⟨(PuOK.ok (ok_goto dX2_readsWith_53 rfl)), m_goto⟩ (
  lkp_c (P := OkP 260) ⟨(PuOK.ok (ok_iconst dX2_readsWith_56 rfl)), m_push⟩ (
  lkp_c (P := OkP 260) ⟨(PuOK.ok (ok_iadd dX2_readsWith_57)), m_iop⟩ (
  lkp_c (P := OkP 260) ⟨(PuOK.ok (ok_istore_n dX2_readsWith_58 rfl)), m_istore⟩ (
  lkp_c (P := OkP 260) ⟨(PuOK.ok (ok_goto dX2_readsWith_59 rfl)), m_goto⟩ (
  lkp_c (P := OkP 260) ⟨(PuOK.ok (ok_iload_n dX2_readsWith_62 rfl)), m_iload⟩ (
  lkp_c (P := OkP 260) ⟨ok_iret rfl rfl (by decide) dX2_readsWith_63, m_ret⟩ (
  trivial))))))))))))))))))))))))))))))
theorem mt_260 : MtOK TB NT IT 260 := ⟨by decide +kernel, rfl, (fun h => by cases h), Or.inl ⟨rfl, rfl⟩, rfl, by decide, lk2_all (P := OkP 260) ⟨c_260_0, trivial⟩⟩
def dkwX2_leastToll_1 : List UInt8 := [182, 1, 31, 182, 1, 35, 153, 0, 10, 45, 180, 1, 40, 167, 0, 4, 2, 172]
abbrev dktX2_leastToll_1 : List UInt8 := dkwX2_leastToll_1 ++ []
def dkwX2_leastToll_0 : List UInt8 := [27, 28, 160, 0, 5, 3, 172, 187, 1, 26, 89, 42, 180, 0, 12, 27, 28, 183, 1, 28, 78, 45]
abbrev dktX2_leastToll_0 : List UInt8 := dkwX2_leastToll_0 ++ dktX2_leastToll_1
theorem dksX2_leastToll_0 : cX2_leastToll.data.toList.drop 0 = dktX2_leastToll_0 := by decide +kernel
theorem dksX2_leastToll_1 : cX2_leastToll.data.toList.drop 22 = dktX2_leastToll_1 := dk_seg dksX2_leastToll_0 22 rfl rfl
theorem dX2_leastToll_0 : decode cX2_leastToll 0 = .ok (.iload_n 1, 1) := dk_27 (dk_at dksX2_leastToll_0 0 rfl rfl)
theorem dX2_leastToll_1 : decode cX2_leastToll 1 = .ok (.iload_n 2, 1) := dk_28 (dk_at dksX2_leastToll_0 1 rfl rfl)
theorem dX2_leastToll_2 : decode cX2_leastToll 2 = .ok (.if_icmp .ne 5, 3) := dk_160 0 5 (dk_at dksX2_leastToll_0 2 rfl rfl)
theorem dX2_leastToll_5 : decode cX2_leastToll 5 = .ok (.iconst 0, 1) := dk_3 (dk_at dksX2_leastToll_0 5 rfl rfl)
theorem dX2_leastToll_6 : decode cX2_leastToll 6 = .ok (.ireturn, 1) := dk_172 (dk_at dksX2_leastToll_0 6 rfl rfl)
theorem dX2_leastToll_7 : decode cX2_leastToll 7 = .ok (.new 282, 3) := dk_187 1 26 (dk_at dksX2_leastToll_0 7 rfl rfl)
theorem dX2_leastToll_10 : decode cX2_leastToll 10 = .ok (.dup, 1) := dk_89 (dk_at dksX2_leastToll_0 10 rfl rfl)
theorem dX2_leastToll_11 : decode cX2_leastToll 11 = .ok (.aload_n 0, 1) := dk_42 (dk_at dksX2_leastToll_0 11 rfl rfl)
theorem dX2_leastToll_12 : decode cX2_leastToll 12 = .ok (.getfield 12, 3) := dk_180 0 12 (dk_at dksX2_leastToll_0 12 rfl rfl)
theorem dX2_leastToll_15 : decode cX2_leastToll 15 = .ok (.iload_n 1, 1) := dk_27 (dk_at dksX2_leastToll_0 15 rfl rfl)
theorem dX2_leastToll_16 : decode cX2_leastToll 16 = .ok (.iload_n 2, 1) := dk_28 (dk_at dksX2_leastToll_0 16 rfl rfl)
theorem dX2_leastToll_17 : decode cX2_leastToll 17 = .ok (.invokespecial 284, 3) := dk_183 1 28 (dk_at dksX2_leastToll_0 17 rfl rfl)
theorem dX2_leastToll_20 : decode cX2_leastToll 20 = .ok (.astore_n 3, 1) := dk_78 (dk_at dksX2_leastToll_0 20 rfl rfl)
theorem dX2_leastToll_21 : decode cX2_leastToll 21 = .ok (.aload_n 3, 1) := dk_45 (dk_at dksX2_leastToll_0 21 rfl rfl)
theorem dX2_leastToll_22 : decode cX2_leastToll 22 = .ok (.invokevirtual 287, 3) := dk_182 1 31 (dk_at dksX2_leastToll_1 0 rfl rfl)
theorem dX2_leastToll_25 : decode cX2_leastToll 25 = .ok (.invokevirtual 291, 3) := dk_182 1 35 (dk_at dksX2_leastToll_1 3 rfl rfl)
theorem dX2_leastToll_28 : decode cX2_leastToll 28 = .ok (.ifCond .eq 10, 3) := dk_153 0 10 (dk_at dksX2_leastToll_1 6 rfl rfl)
theorem dX2_leastToll_31 : decode cX2_leastToll 31 = .ok (.aload_n 3, 1) := dk_45 (dk_at dksX2_leastToll_1 9 rfl rfl)
theorem dX2_leastToll_32 : decode cX2_leastToll 32 = .ok (.getfield 296, 3) := dk_180 1 40 (dk_at dksX2_leastToll_1 10 rfl rfl)
theorem dX2_leastToll_35 : decode cX2_leastToll 35 = .ok (.goto 4, 3) := dk_167 0 4 (dk_at dksX2_leastToll_1 13 rfl rfl)
theorem dX2_leastToll_38 : decode cX2_leastToll 38 = .ok (.iconst (-1), 1) := dk_2 (dk_at dksX2_leastToll_1 16 rfl rfl)
theorem dX2_leastToll_39 : decode cX2_leastToll 39 = .ok (.ireturn, 1) := dk_172 (dk_at dksX2_leastToll_1 17 rfl rfl)
theorem c_261_0 : LkP (OkP 261) [(0, o_iload 1 1), (1, o_iload 2 1), (2, o_icmp (fun x y => decide (¬ x = y)) 7), (5, o_push 1 (.int 0)), (6, o_ret 1), (7, o_new 16 6 dv16), (10, o_dup), (11, o_aload 0 1), (12, o_get 6), (15, o_iload 1 1), (16, o_iload 2 1), (17, o_ci 234 3), (20, o_astore 3 1), (21, o_aload 3 1), (22, o_cv [(16, 228)] 0 3 false none), (25, o_cv [(16, 230), (15, 230)] 0 3 false none), (28, o_if (fun x => decide (x = 0)) 38), (31, o_aload 3 1), (32, o_get 88), (35, o_goto 39), (38, o_push 1 (.int (-1))), (39, o_ret 1)] := lkp_c (P := OkP 261) ⟨(PuOK.ok (ok_iload_n dX2_leastToll_0 rfl)), m_iload⟩ (
  lkp_c (P := OkP 261) ⟨(PuOK.ok (ok_iload_n dX2_leastToll_1 rfl)), m_iload⟩ (
  lkp_c (P := OkP 261) ⟨(PuOK.ok (ok_icmp_ne dX2_leastToll_2 rfl)), m_icmp⟩ (
  lkp_c (P := OkP 261) ⟨(PuOK.ok (ok_iconst dX2_leastToll_5 rfl)), m_push⟩ (
  lkp_c (P := OkP 261) ⟨ok_iret rfl rfl (by decide) dX2_leastToll_6, m_ret⟩ (
  lkp_c (P := OkP 261) ⟨ok_new (ci := 16) (r := CLr 16) rfl dvok_16 q1961 q1962 q156 dX2_leastToll_7, m_new⟩ (
  lkp_c (P := OkP 261) ⟨(PuOK.ok (ok_dup dX2_leastToll_10)), m_dup⟩ (
  lkp_c (P := OkP 261) ⟨(PuOK.ok (ok_aload_n dX2_leastToll_11 rfl)), m_aload⟩ (
  lkp_c (P := OkP 261) ⟨ok_get ⟨"TollRoad$World", q626, Or.inl rfl⟩ dX2_leastToll_12, m_get⟩ (
  lkp_c (P := OkP 261) ⟨(PuOK.ok (ok_iload_n dX2_leastToll_15 rfl)), m_iload⟩ (
  lkp_c (P := OkP 261) ⟨(PuOK.ok (ok_iload_n dX2_leastToll_16 rfl)), m_iload⟩ (
  lkp_c (P := OkP 261) ⟨ok_ci (tg_I (rt := none) ⟨rfl, by decide⟩ rfl q1963 q1964 q156 q1965 ⟨cn_53.1, cn_53.2, pd_98⟩ dX2_leastToll_17) hd_no, m_ci⟩ (
  lkp_c (P := OkP 261) ⟨(PuOK.ok (ok_astore_n dX2_leastToll_20 rfl)), m_astore⟩ (
  lkp_c (P := OkP 261) ⟨(PuOK.ok (ok_aload_n dX2_leastToll_21 rfl)), m_aload⟩ (
  lkp_c (P := OkP 261) ⟨ok_cv (List.forall_mem_cons.mpr ⟨tg_U (ci := 16) (r := CLr 16) (y := 228) rfl (owner := "TollRoad$Search") ⟨rfl, by decide⟩ q1977 q1978 q1979 q1911 q154 q1912 ⟨cn_43.1, cn_43.2, pd_83⟩ rfl dX2_leastToll_22, (List.forall_mem_nil _)⟩) hd_no, m_cv⟩ (
  lkp_c (P := OkP 261) ⟨ok_cv (List.forall_mem_cons.mpr ⟨tg_U (ci := 16) (r := CLr 16) (y := 230) rfl (owner := "TollRoad$Search") ⟨rfl, by decide⟩ q1980 q3709 q3710 q1929 q154 q1930 ⟨cn_43.1, cn_43.2, pd_50⟩ rfl dX2_leastToll_25, (List.forall_mem_cons.mpr ⟨tg_U (ci := 15) (r := CLr 15) (y := 230) rfl (owner := "TollRoad$Search") ⟨rfl, by decide⟩ q1980 q3709 q3711 q1929 q154 q1930 ⟨cn_43.1, cn_43.2, pd_50⟩ rfl dX2_leastToll_25, (List.forall_mem_nil _)⟩)⟩) hd_no, m_cv⟩ (
  lkp_c (P := OkP 261) ⟨(PuOK.ok (ok_if_eq dX2_leastToll_28 rfl)), m_if⟩ (
  lkp_c (P := OkP 261) ⟨(PuOK.ok (ok_aload_n dX2_leastToll_31 rfl)), m_aload⟩ (
  lkp_c (P := OkP 261) ⟨ok_getN ⟨"TollRoad$Cheapest", "TollRoad", q1968, Or.inl rfl⟩ dX2_leastToll_32, m_get⟩ (
  lkp_c (P := OkP 261) ⟨(PuOK.ok (ok_goto dX2_leastToll_35 rfl)), m_goto⟩ (
  lkp_c (P := OkP 261) ⟨(PuOK.ok (ok_iconst dX2_leastToll_38 rfl)), m_push⟩ (
  lkp_c (P := OkP 261) ⟨ok_iret rfl rfl (by decide) dX2_leastToll_39, m_ret⟩ (
  trivial))))))))))))))))))))))
theorem mt_261 : MtOK TB NT IT 261 := ⟨by decide +kernel, rfl, (fun h => by cases h), Or.inl ⟨rfl, rfl⟩, rfl, by decide, lk2_all (P := OkP 261) ⟨c_261_0, trivial⟩⟩
def dkwX2_add_2 : List UInt8 := [182, 0, 85, 87, 43, 180, 0, 165, 172]
abbrev dktX2_add_2 : List UInt8 := dkwX2_add_2 ++ []
def dkwX2_add_1 : List UInt8 := [181, 0, 138, 43, 3, 181, 0, 151, 167, 0, 9, 42, 43, 28, 182, 0, 161, 42, 180, 0, 37, 43]
abbrev dktX2_add_1 : List UInt8 := dkwX2_add_1 ++ dktX2_add_2
def dkwX2_add_0 : List UInt8 := [43, 29, 181, 0, 154, 43, 180, 0, 157, 153, 0, 26, 29, 42, 180, 0, 18, 7, 46, 162, 0, 16, 43, 28]
abbrev dktX2_add_0 : List UInt8 := dkwX2_add_0 ++ dktX2_add_1
theorem dksX2_add_0 : cX2_add.data.toList.drop 0 = dktX2_add_0 := by decide +kernel
theorem dksX2_add_1 : cX2_add.data.toList.drop 24 = dktX2_add_1 := dk_seg dksX2_add_0 24 rfl rfl
theorem dksX2_add_2 : cX2_add.data.toList.drop 46 = dktX2_add_2 := dk_seg dksX2_add_1 22 rfl rfl
theorem dX2_add_0 : decode cX2_add 0 = .ok (.aload_n 1, 1) := dk_43 (dk_at dksX2_add_0 0 rfl rfl)
theorem dX2_add_1 : decode cX2_add 1 = .ok (.iload_n 3, 1) := dk_29 (dk_at dksX2_add_0 1 rfl rfl)
theorem dX2_add_2 : decode cX2_add 2 = .ok (.putfield 154, 3) := dk_181 0 154 (dk_at dksX2_add_0 2 rfl rfl)
theorem dX2_add_5 : decode cX2_add 5 = .ok (.aload_n 1, 1) := dk_43 (dk_at dksX2_add_0 5 rfl rfl)
theorem dX2_add_6 : decode cX2_add 6 = .ok (.getfield 157, 3) := dk_180 0 157 (dk_at dksX2_add_0 6 rfl rfl)
theorem dX2_add_9 : decode cX2_add 9 = .ok (.ifCond .eq 26, 3) := dk_153 0 26 (dk_at dksX2_add_0 9 rfl rfl)
theorem dX2_add_12 : decode cX2_add 12 = .ok (.iload_n 3, 1) := dk_29 (dk_at dksX2_add_0 12 rfl rfl)
theorem dX2_add_13 : decode cX2_add 13 = .ok (.aload_n 0, 1) := dk_42 (dk_at dksX2_add_0 13 rfl rfl)
theorem dX2_add_14 : decode cX2_add 14 = .ok (.getfield 18, 3) := dk_180 0 18 (dk_at dksX2_add_0 14 rfl rfl)
theorem dX2_add_17 : decode cX2_add 17 = .ok (.iconst 4, 1) := dk_7 (dk_at dksX2_add_0 17 rfl rfl)
theorem dX2_add_18 : decode cX2_add 18 = .ok (.iaload, 1) := dk_46 (dk_at dksX2_add_0 18 rfl rfl)
theorem dX2_add_19 : decode cX2_add 19 = .ok (.if_icmp .ge 16, 3) := dk_162 0 16 (dk_at dksX2_add_0 19 rfl rfl)
theorem dX2_add_22 : decode cX2_add 22 = .ok (.aload_n 1, 1) := dk_43 (dk_at dksX2_add_0 22 rfl rfl)
theorem dX2_add_23 : decode cX2_add 23 = .ok (.iload_n 2, 1) := dk_28 (dk_at dksX2_add_0 23 rfl rfl)
theorem dX2_add_24 : decode cX2_add 24 = .ok (.putfield 138, 3) := dk_181 0 138 (dk_at dksX2_add_1 0 rfl rfl)
theorem dX2_add_27 : decode cX2_add 27 = .ok (.aload_n 1, 1) := dk_43 (dk_at dksX2_add_1 3 rfl rfl)
theorem dX2_add_28 : decode cX2_add 28 = .ok (.iconst 0, 1) := dk_3 (dk_at dksX2_add_1 4 rfl rfl)
theorem dX2_add_29 : decode cX2_add 29 = .ok (.putfield 151, 3) := dk_181 0 151 (dk_at dksX2_add_1 5 rfl rfl)
theorem dX2_add_32 : decode cX2_add 32 = .ok (.goto 9, 3) := dk_167 0 9 (dk_at dksX2_add_1 8 rfl rfl)
theorem dX2_add_35 : decode cX2_add 35 = .ok (.aload_n 0, 1) := dk_42 (dk_at dksX2_add_1 11 rfl rfl)
theorem dX2_add_36 : decode cX2_add 36 = .ok (.aload_n 1, 1) := dk_43 (dk_at dksX2_add_1 12 rfl rfl)
theorem dX2_add_37 : decode cX2_add 37 = .ok (.iload_n 2, 1) := dk_28 (dk_at dksX2_add_1 13 rfl rfl)
theorem dX2_add_38 : decode cX2_add 38 = .ok (.invokevirtual 161, 3) := dk_182 0 161 (dk_at dksX2_add_1 14 rfl rfl)
theorem dX2_add_41 : decode cX2_add 41 = .ok (.aload_n 0, 1) := dk_42 (dk_at dksX2_add_1 17 rfl rfl)
theorem dX2_add_42 : decode cX2_add 42 = .ok (.getfield 37, 3) := dk_180 0 37 (dk_at dksX2_add_1 18 rfl rfl)
theorem dX2_add_45 : decode cX2_add 45 = .ok (.aload_n 1, 1) := dk_43 (dk_at dksX2_add_1 21 rfl rfl)
theorem dX2_add_46 : decode cX2_add 46 = .ok (.invokevirtual 85, 3) := dk_182 0 85 (dk_at dksX2_add_2 0 rfl rfl)
theorem dX2_add_49 : decode cX2_add 49 = .ok (.pop, 1) := dk_87 (dk_at dksX2_add_2 3 rfl rfl)
theorem dX2_add_50 : decode cX2_add 50 = .ok (.aload_n 1, 1) := dk_43 (dk_at dksX2_add_2 4 rfl rfl)
theorem dX2_add_51 : decode cX2_add 51 = .ok (.getfield 165, 3) := dk_180 0 165 (dk_at dksX2_add_2 5 rfl rfl)
theorem dX2_add_54 : decode cX2_add 54 = .ok (.ireturn, 1) := dk_172 (dk_at dksX2_add_2 8 rfl rfl)
theorem c_262_0 : LkP (OkP 262) [(0, o_aload 1 1), (1, o_iload 3 1), (2, o_put 94 1), (5, o_aload 1 1), (6, o_get 92), (9, o_if (fun x => decide (x = 0)) 35), (12, o_iload 3 1), (13, o_aload 0 1), (14, o_get 7), (17, o_push 1 (.int 4)), (18, o_rdI 0), (19, o_icmp (fun x y => decide (y ≤ x)) 35), (22, o_aload 1 1), (23, o_iload 2 1), (24, o_put 93 1), (27, o_aload 1 1), (28, o_push 1 (.int 0)), (29, o_put 95 1), (32, o_goto 41), (35, o_aload 0 1), (36, o_aload 1 1), (37, o_iload 2 1), (38, o_cv [(1, 263)] 2 3 true none), (41, o_aload 0 1), (42, o_get 11), (45, o_aload 1 1), (46, o_cv [(3, 43)] 1 3 false none), (49, o_pop), (50, o_aload 1 1), (51, o_get 89), (54, o_ret 1)] := lkp_c (P := OkP 262) ⟨(PuOK.ok (ok_aload_n dX2_add_0 rfl)), m_aload⟩ (
  lkp_c (P := OkP 262) ⟨(PuOK.ok (ok_iload_n dX2_add_1 rfl)), m_iload⟩ (
  lkp_c (P := OkP 262) ⟨ok_putN ⟨"TollRoad$Read", "TollRoad", q2012, Or.inl rfl⟩ rfl fd_94 rfl dX2_add_2, m_put⟩ (
  lkp_c (P := OkP 262) ⟨(PuOK.ok (ok_aload_n dX2_add_5 rfl)), m_aload⟩ (
  lkp_c (P := OkP 262) ⟨ok_getN ⟨"TollRoad$Read", "TollRoad", q2006, Or.inl rfl⟩ dX2_add_6, m_get⟩ (
  lkp_c (P := OkP 262) ⟨(PuOK.ok (ok_if_eq dX2_add_9 rfl)), m_if⟩ (
  lkp_c (P := OkP 262) ⟨(PuOK.ok (ok_iload_n dX2_add_12 rfl)), m_iload⟩ (
  lkp_c (P := OkP 262) ⟨(PuOK.ok (ok_aload_n dX2_add_13 rfl)), m_aload⟩ (
  lkp_c (P := OkP 262) ⟨ok_get ⟨"TollRoad$World", q629, Or.inl rfl⟩ dX2_add_14, m_get⟩ (
  lkp_c (P := OkP 262) ⟨(PuOK.ok (ok_iconst dX2_add_17 rfl)), m_push⟩ (
  lkp_c (P := OkP 262) ⟨ok_iald dX2_add_18, m_rdI⟩ (
  lkp_c (P := OkP 262) ⟨(PuOK.ok (ok_icmp_ge dX2_add_19 rfl)), m_icmp⟩ (
  lkp_c (P := OkP 262) ⟨(PuOK.ok (ok_aload_n dX2_add_22 rfl)), m_aload⟩ (
  lkp_c (P := OkP 262) ⟨(PuOK.ok (ok_iload_n dX2_add_23 rfl)), m_iload⟩ (
  lkp_c (P := OkP 262) ⟨ok_putN ⟨"TollRoad$Read", "TollRoad", q2009, Or.inl rfl⟩ rfl fd_93 rfl dX2_add_24, m_put⟩ (
  lkp_c (P := OkP 262) ⟨(PuOK.ok (ok_aload_n dX2_add_27 rfl)), m_aload⟩ (
  lkp_c (P := OkP 262) ⟨(PuOK.ok (ok_iconst dX2_add_28 rfl)), m_push⟩ (
  lkp_c (P := OkP 262) ⟨ok_putN ⟨"TollRoad$Read", "TollRoad", q2015, Or.inl rfl⟩ rfl fd_95 rfl dX2_add_29, m_put⟩ (
  lkp_c (P := OkP 262) ⟨(PuOK.ok (ok_goto dX2_add_32 rfl)), m_goto⟩ (
  lkp_c (P := OkP 262) ⟨(PuOK.ok (ok_aload_n dX2_add_35 rfl)), m_aload⟩ (
  lkp_c (P := OkP 262) ⟨(PuOK.ok (ok_aload_n dX2_add_36 rfl)), m_aload⟩ (
  lkp_c (P := OkP 262) ⟨(PuOK.ok (ok_iload_n dX2_add_37 rfl)), m_iload⟩ (
  lkp_c (P := OkP 262) ⟨ok_cv (List.forall_mem_cons.mpr ⟨tg_V (ci := 1) (r := CLr 1) (y := 263) rfl ⟨rfl, by decide⟩ rfl q2040 q2041 q2042 q116 q2043 ⟨cn_36.1, cn_36.2, pd_90⟩ dX2_add_38, (List.forall_mem_nil _)⟩) hd_no, m_cv⟩ (
  lkp_c (P := OkP 262) ⟨(PuOK.ok (ok_aload_n dX2_add_41 rfl)), m_aload⟩ (
  lkp_c (P := OkP 262) ⟨ok_get ⟨"TollRoad$World", q641, Or.inl rfl⟩ dX2_add_42, m_get⟩ (
  lkp_c (P := OkP 262) ⟨(PuOK.ok (ok_aload_n dX2_add_45 rfl)), m_aload⟩ (
  lkp_c (P := OkP 262) ⟨ok_cv (List.forall_mem_cons.mpr ⟨tg_V (ci := 3) (r := CLr 3) (y := 43) rfl ⟨rfl, by decide⟩ rfl q1530 q1531 q1532 q120 q1533 ⟨cn_15.1, cn_15.2, pd_12⟩ dX2_add_46, (List.forall_mem_nil _)⟩) hd_no, m_cv⟩ (
  lkp_c (P := OkP 262) ⟨(PuOK.ok (ok_pop dX2_add_49)), m_pop⟩ (
  lkp_c (P := OkP 262) ⟨(PuOK.ok (ok_aload_n dX2_add_50 rfl)), m_aload⟩ (
  lkp_c (P := OkP 262) ⟨ok_getN ⟨"TollRoad$Read", "TollRoad", q1995, Or.inl rfl⟩ dX2_add_51, m_get⟩ (
  lkp_c (P := OkP 262) ⟨ok_iret rfl rfl (by decide) dX2_add_54, m_ret⟩ (
  trivial)))))))))))))))))))))))))))))))
theorem mt_262 : MtOK TB NT IT 262 := ⟨by decide +kernel, rfl, (fun h => by cases h), Or.inl ⟨rfl, rfl⟩, rfl, by decide, lk2_all (P := OkP 262) ⟨c_262_0, trivial⟩⟩
def dkwX2_count_1 : List UInt8 := [161, 0, 7, 7, 167, 0, 4, 4, 181, 0, 151, 177]
abbrev dktX2_count_1 : List UInt8 := dkwX2_count_1 ++ []
def dkwX2_count_0 : List UInt8 := [43, 28, 181, 0, 138, 43, 42, 180, 0, 33, 28, 182, 0, 141, 192, 0, 80, 180, 0, 145, 43, 180, 0, 148]
abbrev dktX2_count_0 : List UInt8 := dkwX2_count_0 ++ dktX2_count_1
theorem dksX2_count_0 : cX2_count.data.toList.drop 0 = dktX2_count_0 := by decide +kernel
theorem dksX2_count_1 : cX2_count.data.toList.drop 24 = dktX2_count_1 := dk_seg dksX2_count_0 24 rfl rfl
theorem dX2_count_0 : decode cX2_count 0 = .ok (.aload_n 1, 1) := dk_43 (dk_at dksX2_count_0 0 rfl rfl)
theorem dX2_count_1 : decode cX2_count 1 = .ok (.iload_n 2, 1) := dk_28 (dk_at dksX2_count_0 1 rfl rfl)
theorem dX2_count_2 : decode cX2_count 2 = .ok (.putfield 138, 3) := dk_181 0 138 (dk_at dksX2_count_0 2 rfl rfl)
theorem dX2_count_5 : decode cX2_count 5 = .ok (.aload_n 1, 1) := dk_43 (dk_at dksX2_count_0 5 rfl rfl)
theorem dX2_count_6 : decode cX2_count 6 = .ok (.aload_n 0, 1) := dk_42 (dk_at dksX2_count_0 6 rfl rfl)
theorem dX2_count_7 : decode cX2_count 7 = .ok (.getfield 33, 3) := dk_180 0 33 (dk_at dksX2_count_0 7 rfl rfl)
theorem dX2_count_10 : decode cX2_count 10 = .ok (.iload_n 2, 1) := dk_28 (dk_at dksX2_count_0 10 rfl rfl)
theorem dX2_count_11 : decode cX2_count 11 = .ok (.invokevirtual 141, 3) := dk_182 0 141 (dk_at dksX2_count_0 11 rfl rfl)
theorem dX2_count_14 : decode cX2_count 14 = .ok (.checkcast 80, 3) := dk_192 0 80 (dk_at dksX2_count_0 14 rfl rfl)
theorem dX2_count_17 : decode cX2_count 17 = .ok (.getfield 145, 3) := dk_180 0 145 (dk_at dksX2_count_0 17 rfl rfl)
theorem dX2_count_20 : decode cX2_count 20 = .ok (.aload_n 1, 1) := dk_43 (dk_at dksX2_count_0 20 rfl rfl)
theorem dX2_count_21 : decode cX2_count 21 = .ok (.getfield 148, 3) := dk_180 0 148 (dk_at dksX2_count_0 21 rfl rfl)
theorem dX2_count_24 : decode cX2_count 24 = .ok (.if_icmp .lt 7, 3) := dk_161 0 7 (dk_at dksX2_count_1 0 rfl rfl)
theorem dX2_count_27 : decode cX2_count 27 = .ok (.iconst 4, 1) := dk_7 (dk_at dksX2_count_1 3 rfl rfl)
theorem dX2_count_28 : decode cX2_count 28 = .ok (.goto 4, 3) := dk_167 0 4 (dk_at dksX2_count_1 4 rfl rfl)
theorem dX2_count_31 : decode cX2_count 31 = .ok (.iconst 1, 1) := dk_4 (dk_at dksX2_count_1 7 rfl rfl)
theorem dX2_count_32 : decode cX2_count 32 = .ok (.putfield 151, 3) := dk_181 0 151 (dk_at dksX2_count_1 8 rfl rfl)
theorem dX2_count_35 : decode cX2_count 35 = .ok (.return_, 1) := dk_177 (dk_at dksX2_count_1 11 rfl rfl)
theorem c_263_0 : LkP (OkP 263) [(0, o_aload 1 1), (1, o_iload 2 1), (2, o_put 93 1), (5, o_aload 1 1), (6, o_aload 0 1), (7, o_get 10), (10, o_iload 2 1), (11, o_cv [(3, 47)] 1 3 false none), (14, o_cast [13]), (17, o_get 73), (20, o_aload 1 1), (21, o_get 91), (24, o_icmp (fun x y => decide (x < y)) 31), (27, o_push 1 (.int 4)), (28, o_goto 32), (31, o_push 1 (.int 1)), (32, o_put 95 1), (35, o_vret)] := lkp_c (P := OkP 263) ⟨(PuOK.ok (ok_aload_n dX2_count_0 rfl)), m_aload⟩ (
  lkp_c (P := OkP 263) ⟨(PuOK.ok (ok_iload_n dX2_count_1 rfl)), m_iload⟩ (
  lkp_c (P := OkP 263) ⟨ok_putN ⟨"TollRoad$Read", "TollRoad", q2009, Or.inl rfl⟩ rfl fd_93 rfl dX2_count_2, m_put⟩ (
  lkp_c (P := OkP 263) ⟨(PuOK.ok (ok_aload_n dX2_count_5 rfl)), m_aload⟩ (
  lkp_c (P := OkP 263) ⟨(PuOK.ok (ok_aload_n dX2_count_6 rfl)), m_aload⟩ (
  lkp_c (P := OkP 263) ⟨ok_get ⟨"TollRoad$World", q637, Or.inl rfl⟩ dX2_count_7, m_get⟩ (
  lkp_c (P := OkP 263) ⟨(PuOK.ok (ok_iload_n dX2_count_10 rfl)), m_iload⟩ (
  lkp_c (P := OkP 263) ⟨ok_cv (List.forall_mem_cons.mpr ⟨tg_V (ci := 3) (r := CLr 3) (y := 47) rfl ⟨rfl, by decide⟩ rfl q2044 q1807 q1808 q120 q1809 ⟨cn_15.1, cn_15.2, pd_27⟩ dX2_count_11, (List.forall_mem_nil _)⟩) hd_no, m_cv⟩ (
  lkp_c (P := OkP 263) ⟨ok_cast q1492 cst_7 dX2_count_14, m_cast⟩ (
  lkp_c (P := OkP 263) ⟨ok_getN ⟨"TollRoad$Vehicle", "TollRoad", q1512, Or.inl rfl⟩ dX2_count_17, m_get⟩ (
  lkp_c (P := OkP 263) ⟨(PuOK.ok (ok_aload_n dX2_count_20 rfl)), m_aload⟩ (
  lkp_c (P := OkP 263) ⟨ok_getN ⟨"TollRoad$Read", "TollRoad", q2003, Or.inl rfl⟩ dX2_count_21, m_get⟩ (
  lkp_c (P := OkP 263) ⟨(PuOK.ok (ok_icmp_lt dX2_count_24 rfl)), m_icmp⟩ (
  lkp_c (P := OkP 263) ⟨(PuOK.ok (ok_iconst dX2_count_27 rfl)), m_push⟩ (
  lkp_c (P := OkP 263) ⟨(PuOK.ok (ok_goto dX2_count_28 rfl)), m_goto⟩ (
  lkp_c (P := OkP 263) ⟨(PuOK.ok (ok_iconst dX2_count_31 rfl)), m_push⟩ (
  lkp_c (P := OkP 263) ⟨ok_putN ⟨"TollRoad$Read", "TollRoad", q2015, Or.inl rfl⟩ rfl fd_95 rfl dX2_count_32, m_put⟩ (
  lkp_c (P := OkP 263) ⟨ok_vret rfl dX2_count_35, m_vret⟩ (
  trivial))))))))))))))))))
theorem mt_263 : MtOK TB NT IT 263 := ⟨by decide +kernel, rfl, (fun h => by cases h), Or.inl ⟨rfl, rfl⟩, rfl, by decide, lk2_all (P := OkP 263) ⟨c_263_0, trivial⟩⟩
def dkwX2_trips_7 : List UInt8 := [192, 0, 80, 180, 0, 189, 183, 0, 191, 58, 4, 45, 25, 4, 182, 0, 85, 87, 167, 255, 179, 45, 176]
abbrev dktX2_trips_7 : List UInt8 := dkwX2_trips_7 ++ []
def dkwX2_trips_6 : List UInt8 := [180, 0, 18, 182, 0, 183, 154, 0, 35, 187, 0, 184, 89, 25, 6, 42, 180, 0, 33, 27, 182, 0, 141]
abbrev dktX2_trips_6 : List UInt8 := dkwX2_trips_6 ++ dktX2_trips_7
def dkwX2_trips_5 : List UInt8 := [185, 0, 77, 1, 0, 192, 0, 89, 58, 6, 25, 4, 198, 0, 21, 25, 4, 25, 6, 42, 180, 0, 12, 42]
abbrev dktX2_trips_5 : List UInt8 := dkwX2_trips_5 ++ dktX2_trips_6
def dkwX2_trips_4 : List UInt8 := [44, 182, 0, 176, 185, 0, 180, 1, 0, 58, 5, 25, 5, 185, 0, 71, 1, 0, 153, 0, 73, 25, 5]
abbrev dktX2_trips_4 : List UInt8 := dkwX2_trips_4 ++ dktX2_trips_5
def dkwX2_trips_3 : List UInt8 := [184, 0, 171, 25, 4, 182, 0, 175, 87, 167, 255, 194, 187, 0, 28, 89, 7, 183, 0, 30, 78, 1, 58, 4]
abbrev dktX2_trips_3 : List UInt8 := dkwX2_trips_3 ++ dktX2_trips_4
def dkwX2_trips_2 : List UInt8 := [25, 4, 180, 0, 151, 4, 160, 0, 27, 44, 16, 120, 25, 4, 180, 0, 148, 104, 25, 4, 180, 0, 165, 96]
abbrev dktX2_trips_2 : List UInt8 := dkwX2_trips_2 ++ dktX2_trips_3
def dkwX2_trips_1 : List UInt8 := [153, 0, 59, 45, 185, 0, 77, 1, 0, 192, 0, 89, 58, 4, 25, 4, 180, 0, 138, 27, 160, 0, 36]
abbrev dktX2_trips_1 : List UInt8 := dkwX2_trips_1 ++ dktX2_trips_2
def dkwX2_trips_0 : List UInt8 := [187, 0, 168, 89, 183, 0, 170, 77, 42, 180, 0, 37, 182, 0, 67, 78, 45, 185, 0, 71, 1, 0]
abbrev dktX2_trips_0 : List UInt8 := dkwX2_trips_0 ++ dktX2_trips_1
theorem dksX2_trips_0 : cX2_trips.data.toList.drop 0 = dktX2_trips_0 := by decide +kernel
theorem dksX2_trips_1 : cX2_trips.data.toList.drop 22 = dktX2_trips_1 := dk_seg dksX2_trips_0 22 rfl rfl
theorem dksX2_trips_2 : cX2_trips.data.toList.drop 45 = dktX2_trips_2 := dk_seg dksX2_trips_1 23 rfl rfl
theorem dksX2_trips_3 : cX2_trips.data.toList.drop 69 = dktX2_trips_3 := dk_seg dksX2_trips_2 24 rfl rfl
theorem dksX2_trips_4 : cX2_trips.data.toList.drop 93 = dktX2_trips_4 := dk_seg dksX2_trips_3 24 rfl rfl
theorem dksX2_trips_5 : cX2_trips.data.toList.drop 116 = dktX2_trips_5 := dk_seg dksX2_trips_4 23 rfl rfl
theorem dksX2_trips_6 : cX2_trips.data.toList.drop 140 = dktX2_trips_6 := dk_seg dksX2_trips_5 24 rfl rfl
theorem dksX2_trips_7 : cX2_trips.data.toList.drop 163 = dktX2_trips_7 := dk_seg dksX2_trips_6 23 rfl rfl
theorem dX2_trips_0 : decode cX2_trips 0 = .ok (.new 168, 3) := dk_187 0 168 (dk_at dksX2_trips_0 0 rfl rfl)
theorem dX2_trips_3 : decode cX2_trips 3 = .ok (.dup, 1) := dk_89 (dk_at dksX2_trips_0 3 rfl rfl)
theorem dX2_trips_4 : decode cX2_trips 4 = .ok (.invokespecial 170, 3) := dk_183 0 170 (dk_at dksX2_trips_0 4 rfl rfl)
theorem dX2_trips_7 : decode cX2_trips 7 = .ok (.astore_n 2, 1) := dk_77 (dk_at dksX2_trips_0 7 rfl rfl)
theorem dX2_trips_8 : decode cX2_trips 8 = .ok (.aload_n 0, 1) := dk_42 (dk_at dksX2_trips_0 8 rfl rfl)
theorem dX2_trips_9 : decode cX2_trips 9 = .ok (.getfield 37, 3) := dk_180 0 37 (dk_at dksX2_trips_0 9 rfl rfl)
theorem dX2_trips_12 : decode cX2_trips 12 = .ok (.invokevirtual 67, 3) := dk_182 0 67 (dk_at dksX2_trips_0 12 rfl rfl)
theorem dX2_trips_15 : decode cX2_trips 15 = .ok (.astore_n 3, 1) := dk_78 (dk_at dksX2_trips_0 15 rfl rfl)
theorem dX2_trips_16 : decode cX2_trips 16 = .ok (.aload_n 3, 1) := dk_45 (dk_at dksX2_trips_0 16 rfl rfl)
theorem dX2_trips_17 : decode cX2_trips 17 = .ok (.invokeinterface 71 1, 5) := by decide +kernel
theorem dX2_trips_22 : decode cX2_trips 22 = .ok (.ifCond .eq 59, 3) := dk_153 0 59 (dk_at dksX2_trips_1 0 rfl rfl)
theorem dX2_trips_25 : decode cX2_trips 25 = .ok (.aload_n 3, 1) := dk_45 (dk_at dksX2_trips_1 3 rfl rfl)
theorem dX2_trips_26 : decode cX2_trips 26 = .ok (.invokeinterface 77 1, 5) := by decide +kernel
theorem dX2_trips_31 : decode cX2_trips 31 = .ok (.checkcast 89, 3) := dk_192 0 89 (dk_at dksX2_trips_1 9 rfl rfl)
theorem dX2_trips_34 : decode cX2_trips 34 = .ok (.astore 4, 2) := dk_58 4 (dk_at dksX2_trips_1 12 rfl rfl)
theorem dX2_trips_36 : decode cX2_trips 36 = .ok (.aload 4, 2) := dk_25 4 (dk_at dksX2_trips_1 14 rfl rfl)
theorem dX2_trips_38 : decode cX2_trips 38 = .ok (.getfield 138, 3) := dk_180 0 138 (dk_at dksX2_trips_1 16 rfl rfl)
theorem dX2_trips_41 : decode cX2_trips 41 = .ok (.iload_n 1, 1) := dk_27 (dk_at dksX2_trips_1 19 rfl rfl)
theorem dX2_trips_42 : decode cX2_trips 42 = .ok (.if_icmp .ne 36, 3) := dk_160 0 36 (dk_at dksX2_trips_1 20 rfl rfl)
theorem dX2_trips_45 : decode cX2_trips 45 = .ok (.aload 4, 2) := dk_25 4 (dk_at dksX2_trips_2 0 rfl rfl)
theorem dX2_trips_47 : decode cX2_trips 47 = .ok (.getfield 151, 3) := dk_180 0 151 (dk_at dksX2_trips_2 2 rfl rfl)
theorem dX2_trips_50 : decode cX2_trips 50 = .ok (.iconst 1, 1) := dk_4 (dk_at dksX2_trips_2 5 rfl rfl)
theorem dX2_trips_51 : decode cX2_trips 51 = .ok (.if_icmp .ne 27, 3) := dk_160 0 27 (dk_at dksX2_trips_2 6 rfl rfl)
theorem dX2_trips_54 : decode cX2_trips 54 = .ok (.aload_n 2, 1) := dk_44 (dk_at dksX2_trips_2 9 rfl rfl)
theorem dX2_trips_55 : decode cX2_trips 55 = .ok (.bipush 120, 2) := dk_16 120 (dk_at dksX2_trips_2 10 rfl rfl)
theorem dX2_trips_57 : decode cX2_trips 57 = .ok (.aload 4, 2) := dk_25 4 (dk_at dksX2_trips_2 12 rfl rfl)
theorem dX2_trips_59 : decode cX2_trips 59 = .ok (.getfield 148, 3) := dk_180 0 148 (dk_at dksX2_trips_2 14 rfl rfl)
theorem dX2_trips_62 : decode cX2_trips 62 = .ok (.imul, 1) := dk_104 (dk_at dksX2_trips_2 17 rfl rfl)
theorem dX2_trips_63 : decode cX2_trips 63 = .ok (.aload 4, 2) := dk_25 4 (dk_at dksX2_trips_2 18 rfl rfl)
theorem dX2_trips_65 : decode cX2_trips 65 = .ok (.getfield 165, 3) := dk_180 0 165 (dk_at dksX2_trips_2 20 rfl rfl)
theorem dX2_trips_68 : decode cX2_trips 68 = .ok (.iadd, 1) := dk_96 (dk_at dksX2_trips_2 23 rfl rfl)
theorem dX2_trips_69 : decode cX2_trips 69 = .ok (.invokestatic 171, 3) := dk_184 0 171 (dk_at dksX2_trips_3 0 rfl rfl)
theorem dX2_trips_72 : decode cX2_trips 72 = .ok (.aload 4, 2) := dk_25 4 (dk_at dksX2_trips_3 3 rfl rfl)
theorem dX2_trips_74 : decode cX2_trips 74 = .ok (.invokevirtual 175, 3) := dk_182 0 175 (dk_at dksX2_trips_3 5 rfl rfl)
theorem dX2_trips_77 : decode cX2_trips 77 = .ok (.pop, 1) := dk_87 (dk_at dksX2_trips_3 8 rfl rfl)
theorem dX2_trips_78 : decode cX2_trips 78 = .ok (.goto (-62), 3) := dk_167 255 194 (dk_at dksX2_trips_3 9 rfl rfl)
theorem dX2_trips_81 : decode cX2_trips 81 = .ok (.new 28, 3) := dk_187 0 28 (dk_at dksX2_trips_3 12 rfl rfl)
theorem dX2_trips_84 : decode cX2_trips 84 = .ok (.dup, 1) := dk_89 (dk_at dksX2_trips_3 15 rfl rfl)
theorem dX2_trips_85 : decode cX2_trips 85 = .ok (.iconst 4, 1) := dk_7 (dk_at dksX2_trips_3 16 rfl rfl)
theorem dX2_trips_86 : decode cX2_trips 86 = .ok (.invokespecial 30, 3) := dk_183 0 30 (dk_at dksX2_trips_3 17 rfl rfl)
theorem dX2_trips_89 : decode cX2_trips 89 = .ok (.astore_n 3, 1) := dk_78 (dk_at dksX2_trips_3 20 rfl rfl)
theorem dX2_trips_90 : decode cX2_trips 90 = .ok (.aconst_null, 1) := dk_1 (dk_at dksX2_trips_3 21 rfl rfl)
theorem dX2_trips_91 : decode cX2_trips 91 = .ok (.astore 4, 2) := dk_58 4 (dk_at dksX2_trips_3 22 rfl rfl)
theorem dX2_trips_93 : decode cX2_trips 93 = .ok (.aload_n 2, 1) := dk_44 (dk_at dksX2_trips_4 0 rfl rfl)
theorem dX2_trips_94 : decode cX2_trips 94 = .ok (.invokevirtual 176, 3) := dk_182 0 176 (dk_at dksX2_trips_4 1 rfl rfl)
theorem dX2_trips_97 : decode cX2_trips 97 = .ok (.invokeinterface 180 1, 5) := by decide +kernel
theorem dX2_trips_102 : decode cX2_trips 102 = .ok (.astore 5, 2) := dk_58 5 (dk_at dksX2_trips_4 9 rfl rfl)
theorem dX2_trips_104 : decode cX2_trips 104 = .ok (.aload 5, 2) := dk_25 5 (dk_at dksX2_trips_4 11 rfl rfl)
theorem dX2_trips_106 : decode cX2_trips 106 = .ok (.invokeinterface 71 1, 5) := by decide +kernel
theorem dX2_trips_111 : decode cX2_trips 111 = .ok (.ifCond .eq 73, 3) := dk_153 0 73 (dk_at dksX2_trips_4 18 rfl rfl)
theorem dX2_trips_114 : decode cX2_trips 114 = .ok (.aload 5, 2) := dk_25 5 (dk_at dksX2_trips_4 21 rfl rfl)
theorem dX2_trips_116 : decode cX2_trips 116 = .ok (.invokeinterface 77 1, 5) := by decide +kernel
theorem dX2_trips_121 : decode cX2_trips 121 = .ok (.checkcast 89, 3) := dk_192 0 89 (dk_at dksX2_trips_5 5 rfl rfl)
theorem dX2_trips_124 : decode cX2_trips 124 = .ok (.astore 6, 2) := dk_58 6 (dk_at dksX2_trips_5 8 rfl rfl)
theorem dX2_trips_126 : decode cX2_trips 126 = .ok (.aload 4, 2) := dk_25 4 (dk_at dksX2_trips_5 10 rfl rfl)
theorem dX2_trips_128 : decode cX2_trips 128 = .ok (.ifnull 21, 3) := dk_198 0 21 (dk_at dksX2_trips_5 12 rfl rfl)
theorem dX2_trips_131 : decode cX2_trips 131 = .ok (.aload 4, 2) := dk_25 4 (dk_at dksX2_trips_5 15 rfl rfl)
theorem dX2_trips_133 : decode cX2_trips 133 = .ok (.aload 6, 2) := dk_25 6 (dk_at dksX2_trips_5 17 rfl rfl)
theorem dX2_trips_135 : decode cX2_trips 135 = .ok (.aload_n 0, 1) := dk_42 (dk_at dksX2_trips_5 19 rfl rfl)
theorem dX2_trips_136 : decode cX2_trips 136 = .ok (.getfield 12, 3) := dk_180 0 12 (dk_at dksX2_trips_5 20 rfl rfl)
theorem dX2_trips_139 : decode cX2_trips 139 = .ok (.aload_n 0, 1) := dk_42 (dk_at dksX2_trips_5 23 rfl rfl)
theorem dX2_trips_140 : decode cX2_trips 140 = .ok (.getfield 18, 3) := dk_180 0 18 (dk_at dksX2_trips_6 0 rfl rfl)
theorem dX2_trips_143 : decode cX2_trips 143 = .ok (.invokevirtual 183, 3) := dk_182 0 183 (dk_at dksX2_trips_6 3 rfl rfl)
theorem dX2_trips_146 : decode cX2_trips 146 = .ok (.ifCond .ne 35, 3) := dk_154 0 35 (dk_at dksX2_trips_6 6 rfl rfl)
theorem dX2_trips_149 : decode cX2_trips 149 = .ok (.new 184, 3) := dk_187 0 184 (dk_at dksX2_trips_6 9 rfl rfl)
theorem dX2_trips_152 : decode cX2_trips 152 = .ok (.dup, 1) := dk_89 (dk_at dksX2_trips_6 12 rfl rfl)
theorem dX2_trips_153 : decode cX2_trips 153 = .ok (.aload 6, 2) := dk_25 6 (dk_at dksX2_trips_6 13 rfl rfl)
theorem dX2_trips_155 : decode cX2_trips 155 = .ok (.aload_n 0, 1) := dk_42 (dk_at dksX2_trips_6 15 rfl rfl)
theorem dX2_trips_156 : decode cX2_trips 156 = .ok (.getfield 33, 3) := dk_180 0 33 (dk_at dksX2_trips_6 16 rfl rfl)
theorem dX2_trips_159 : decode cX2_trips 159 = .ok (.iload_n 1, 1) := dk_27 (dk_at dksX2_trips_6 19 rfl rfl)
theorem dX2_trips_160 : decode cX2_trips 160 = .ok (.invokevirtual 141, 3) := dk_182 0 141 (dk_at dksX2_trips_6 20 rfl rfl)
theorem dX2_trips_163 : decode cX2_trips 163 = .ok (.checkcast 80, 3) := dk_192 0 80 (dk_at dksX2_trips_7 0 rfl rfl)
theorem dX2_trips_166 : decode cX2_trips 166 = .ok (.getfield 189, 3) := dk_180 0 189 (dk_at dksX2_trips_7 3 rfl rfl)
theorem dX2_trips_169 : decode cX2_trips 169 = .ok (.invokespecial 191, 3) := dk_183 0 191 (dk_at dksX2_trips_7 6 rfl rfl)
theorem dX2_trips_172 : decode cX2_trips 172 = .ok (.astore 4, 2) := dk_58 4 (dk_at dksX2_trips_7 9 rfl rfl)
theorem dX2_trips_174 : decode cX2_trips 174 = .ok (.aload_n 3, 1) := dk_45 (dk_at dksX2_trips_7 11 rfl rfl)
theorem dX2_trips_175 : decode cX2_trips 175 = .ok (.aload 4, 2) := dk_25 4 (dk_at dksX2_trips_7 12 rfl rfl)
theorem dX2_trips_177 : decode cX2_trips 177 = .ok (.invokevirtual 85, 3) := dk_182 0 85 (dk_at dksX2_trips_7 14 rfl rfl)
theorem dX2_trips_180 : decode cX2_trips 180 = .ok (.pop, 1) := dk_87 (dk_at dksX2_trips_7 17 rfl rfl)
theorem dX2_trips_181 : decode cX2_trips 181 = .ok (.goto (-77), 3) := dk_167 255 179 (dk_at dksX2_trips_7 18 rfl rfl)
theorem dX2_trips_184 : decode cX2_trips 184 = .ok (.aload_n 3, 1) := dk_45 (dk_at dksX2_trips_7 21 rfl rfl)
theorem dX2_trips_185 : decode cX2_trips 185 = .ok (.areturn, 1) := dk_176 (dk_at dksX2_trips_7 22 rfl rfl)
theorem c_264_0 : LkP (OkP 264) [(0, o_new 20 9 dv20), (3, o_dup), (4, o_ci 54 0), (7, o_astore 2 1), (8, o_aload 0 1), (9, o_get 11), (12, o_cv [(3, 40)] 0 3 false none), (15, o_astore 3 1), (16, o_aload 3 1), (17, o_cv [(7, 50), (24, 86), (25, 92)] 0 5 false none), (22, o_if (fun x => decide (x = 0)) 81), (25, o_aload 3 1), (26, o_cv [(7, 51), (24, 89), (25, 95)] 0 5 false none), (31, o_cast [17]), (34, o_astore 4 2), (36, o_aload 4 2), (38, o_get 93), (41, o_iload 1 1), (42, o_icmp (fun x y => decide (¬ x = y)) 78), (45, o_aload 4 2), (47, o_get 95), (50, o_push 1 (.int 1)), (51, o_icmp (fun x y => decide (¬ x = y)) 78), (54, o_aload 2 1), (55, o_push 2 (.int 120)), (57, o_aload 4 2), (59, o_get 91), (62, o_iop (fun x y => x * y)), (63, o_aload 4 2)] := lkp_c (P := OkP 264) ⟨ok_new (ci := 20) (r := CLr 20) rfl dvok_20 q2224 q2225 q152 dX2_trips_0, m_new⟩ (
  lkp_c (P := OkP 264) ⟨(PuOK.ok (ok_dup dX2_trips_3)), m_dup⟩ (
  lkp_c (P := OkP 264) ⟨ok_ci (tg_I (rt := none) ⟨rfl, by decide⟩ rfl q2226 q2227 q152 q2228 ⟨cn_17.1, cn_17.2, pd_0⟩ dX2_trips_4) hd_no, m_ci⟩ (
  lkp_c (P := OkP 264) ⟨(PuOK.ok (ok_astore_n dX2_trips_7 rfl)), m_astore⟩ (
  lkp_c (P := OkP 264) ⟨(PuOK.ok (ok_aload_n dX2_trips_8 rfl)), m_aload⟩ (
  lkp_c (P := OkP 264) ⟨ok_get ⟨"TollRoad$World", q641, Or.inl rfl⟩ dX2_trips_9, m_get⟩ (
  lkp_c (P := OkP 264) ⟨ok_cv (List.forall_mem_cons.mpr ⟨tg_V (ci := 3) (r := CLr 3) (y := 40) rfl ⟨rfl, by decide⟩ rfl q1824 q689 q690 q120 q691 ⟨cn_15.1, cn_15.2, pd_70⟩ dX2_trips_12, (List.forall_mem_nil _)⟩) hd_no, m_cv⟩ (
  lkp_c (P := OkP 264) ⟨(PuOK.ok (ok_astore_n dX2_trips_15 rfl)), m_astore⟩ (
  lkp_c (P := OkP 264) ⟨(PuOK.ok (ok_aload_n dX2_trips_16 rfl)), m_aload⟩ (
  lkp_c (P := OkP 264) ⟨ok_cv (List.forall_mem_cons.mpr ⟨tg_F (ci := 7) (r := CLr 7) (y := 50) rfl ⟨rfl, by decide⟩ q1826 q716 q718 q150 q720 q714 q713 q719 q717 q715 ⟨cn_37.1, cn_37.2, pd_50⟩ dX2_trips_17, (List.forall_mem_cons.mpr ⟨tg_F (ci := 24) (r := CLr 24) (y := 86) rfl ⟨rfl, by decide⟩ q1826 q722 q724 q168 q726 q714 q713 q725 q723 q721 ⟨cn_37.1, cn_37.2, pd_50⟩ dX2_trips_17, (List.forall_mem_cons.mpr ⟨tg_F (ci := 25) (r := CLr 25) (y := 92) rfl ⟨rfl, by decide⟩ q1826 q738 q740 q171 q742 q714 q713 q741 q739 q737 ⟨cn_37.1, cn_37.2, pd_50⟩ dX2_trips_17, (List.forall_mem_nil _)⟩)⟩)⟩) hd_no, m_cv⟩ (
  lkp_c (P := OkP 264) ⟨(PuOK.ok (ok_if_eq dX2_trips_22 rfl)), m_if⟩ (
  lkp_c (P := OkP 264) ⟨(PuOK.ok (ok_aload_n dX2_trips_25 rfl)), m_aload⟩ (
  lkp_c (P := OkP 264) ⟨ok_cv (List.forall_mem_cons.mpr ⟨tg_F (ci := 7) (r := CLr 7) (y := 51) rfl ⟨rfl, by decide⟩ q1828 q747 q749 q150 q751 q746 q745 q750 q748 q715 ⟨cn_37.1, cn_37.2, pd_71⟩ dX2_trips_26, (List.forall_mem_cons.mpr ⟨tg_F (ci := 24) (r := CLr 24) (y := 89) rfl ⟨rfl, by decide⟩ q1828 q756 q758 q169 q760 q746 q745 q759 q757 q721 ⟨cn_37.1, cn_37.2, pd_71⟩ dX2_trips_26, (List.forall_mem_cons.mpr ⟨tg_F (ci := 25) (r := CLr 25) (y := 95) rfl ⟨rfl, by decide⟩ q1828 q790 q792 q172 q794 q746 q745 q793 q791 q737 ⟨cn_37.1, cn_37.2, pd_71⟩ dX2_trips_26, (List.forall_mem_nil _)⟩)⟩)⟩) hd_no, m_cv⟩ (
  lkp_c (P := OkP 264) ⟨ok_cast q1829 cst_6 dX2_trips_31, m_cast⟩ (
  lkp_c (P := OkP 264) ⟨(PuOK.ok (ok_astore dX2_trips_34)), m_astore⟩ (
  lkp_c (P := OkP 264) ⟨(PuOK.ok (ok_aload dX2_trips_36)), m_aload⟩ (
  lkp_c (P := OkP 264) ⟨ok_getN ⟨"TollRoad$Read", "TollRoad", q2009, Or.inl rfl⟩ dX2_trips_38, m_get⟩ (
  lkp_c (P := OkP 264) ⟨(PuOK.ok (ok_iload_n dX2_trips_41 rfl)), m_iload⟩ (
  lkp_c (P := OkP 264) ⟨(PuOK.ok (ok_icmp_ne dX2_trips_42 rfl)), m_icmp⟩ (
  lkp_c (P := OkP 264) ⟨(PuOK.ok (ok_aload dX2_trips_45)), m_aload⟩ (
  lkp_c (P := OkP 264) ⟨ok_getN ⟨"TollRoad$Read", "TollRoad", q2015, Or.inl rfl⟩ dX2_trips_47, m_get⟩ (
  lkp_c (P := OkP 264) ⟨(PuOK.ok (ok_iconst dX2_trips_50 rfl)), m_push⟩ (
  lkp_c (P := OkP 264) ⟨(PuOK.ok (ok_icmp_ne dX2_trips_51 rfl)), m_icmp⟩ (
  lkp_c (P := OkP 264) ⟨(PuOK.ok (ok_aload_n dX2_trips_54 rfl)), m_aload⟩ (
  lkp_c (P := OkP 264) ⟨(PuOK.ok (ok_bipush dX2_trips_55 rfl)), m_push⟩ (
  lkp_c (P := OkP 264) ⟨(PuOK.ok (ok_aload dX2_trips_57)), m_aload⟩ (
  lkp_c (P := OkP 264) ⟨ok_getN ⟨"TollRoad$Read", "TollRoad", q2003, Or.inl rfl⟩ dX2_trips_59, m_get⟩ (
  lkp_c (P := OkP 264) ⟨(PuOK.ok (ok_imul dX2_trips_62)), m_iop⟩ (
  lkp_c (P := OkP 264) ⟨(PuOK.ok (ok_aload dX2_trips_63)), m_aload⟩ (
  trivial)))))))))))))))))))))))))))))
theorem c_264_1 : LkP (OkP 264) [(65, o_get 89), (68, o_iop (fun x y => x + y)), (69, o_cs 25 1 false none), (72, o_aload 4 2), (74, o_cv [(20, 55)] 2 3 false none), (77, o_pop), (78, o_goto 16), (81, o_new 3 3 dv3), (84, o_dup), (85, o_push 1 (.int 4)), (86, o_ci 39 1), (89, o_astore 3 1), (90, o_push 1 .null), (91, o_astore 4 2), (93, o_aload 2 1), (94, o_cv [(20, 68)] 0 3 false none), (97, o_cv [(23, 85)] 0 5 false none), (102, o_astore 5 2), (104, o_aload 5 2), (106, o_cv [(7, 50), (24, 86), (25, 92)] 0 5 false none), (111, o_if (fun x => decide (x = 0)) 184), (114, o_aload 5 2), (116, o_cv [(7, 51), (24, 89), (25, 95)] 0 5 false none), (121, o_cast [17]), (124, o_astore 6 2), (126, o_aload 4 2)] := lkp_c (P := OkP 264) ⟨ok_getN ⟨"TollRoad$Read", "TollRoad", q1995, Or.inl rfl⟩ dX2_trips_65, m_get⟩ (
  lkp_c (P := OkP 264) ⟨(PuOK.ok (ok_iadd dX2_trips_68)), m_iop⟩ (
  lkp_c (P := OkP 264) ⟨ok_cs (tg_S ⟨rfl, by decide⟩ q2252 q2253 q136 q2254 ⟨cn_6.1, cn_6.2, pd_101⟩ dX2_trips_69) hd_no, m_cs⟩ (
  lkp_c (P := OkP 264) ⟨(PuOK.ok (ok_aload dX2_trips_72)), m_aload⟩ (
  lkp_c (P := OkP 264) ⟨ok_cv (List.forall_mem_cons.mpr ⟨tg_V (ci := 20) (r := CLr 20) (y := 55) rfl ⟨rfl, by decide⟩ rfl q2271 q2272 q2273 q152 q2274 ⟨cn_17.1, cn_17.2, pd_106⟩ dX2_trips_74, (List.forall_mem_nil _)⟩) hd_no, m_cv⟩ (
  lkp_c (P := OkP 264) ⟨(PuOK.ok (ok_pop dX2_trips_77)), m_pop⟩ (
  lkp_c (P := OkP 264) ⟨(PuOK.ok (ok_goto dX2_trips_78 rfl)), m_goto⟩ (
  lkp_c (P := OkP 264) ⟨ok_new (ci := 3) (r := CLr 3) rfl dvok_3 q227 q228 q120 dX2_trips_81, m_new⟩ (
  lkp_c (P := OkP 264) ⟨(PuOK.ok (ok_dup dX2_trips_84)), m_dup⟩ (
  lkp_c (P := OkP 264) ⟨(PuOK.ok (ok_iconst dX2_trips_85 rfl)), m_push⟩ (
  lkp_c (P := OkP 264) ⟨ok_ci (tg_I (rt := none) ⟨rfl, by decide⟩ rfl q229 q230 q120 q231 ⟨cn_15.1, cn_15.2, pd_9⟩ dX2_trips_86) hd_no, m_ci⟩ (
  lkp_c (P := OkP 264) ⟨(PuOK.ok (ok_astore_n dX2_trips_89 rfl)), m_astore⟩ (
  lkp_c (P := OkP 264) ⟨(PuOK.ok (ok_null dX2_trips_90)), m_push⟩ (
  lkp_c (P := OkP 264) ⟨(PuOK.ok (ok_astore dX2_trips_91)), m_astore⟩ (
  lkp_c (P := OkP 264) ⟨(PuOK.ok (ok_aload_n dX2_trips_93 rfl)), m_aload⟩ (
  lkp_c (P := OkP 264) ⟨ok_cv (List.forall_mem_cons.mpr ⟨tg_V (ci := 20) (r := CLr 20) (y := 68) rfl ⟨rfl, by decide⟩ rfl q2358 q2359 q2360 q152 q2361 ⟨cn_17.1, cn_17.2, pd_107⟩ dX2_trips_94, (List.forall_mem_nil _)⟩) hd_no, m_cv⟩ (
  lkp_c (P := OkP 264) ⟨ok_cv (List.forall_mem_cons.mpr ⟨tg_F (ci := 23) (r := CLr 23) (y := 85) rfl ⟨rfl, by decide⟩ q2373 q2443 q2445 q167 q2447 q2375 q2374 q2446 q2444 q2442 ⟨cn_54.1, cn_54.2, pd_70⟩ dX2_trips_97, (List.forall_mem_nil _)⟩) hd_no, m_cv⟩ (
  lkp_c (P := OkP 264) ⟨(PuOK.ok (ok_astore dX2_trips_102)), m_astore⟩ (
  lkp_c (P := OkP 264) ⟨(PuOK.ok (ok_aload dX2_trips_104)), m_aload⟩ (
  lkp_c (P := OkP 264) ⟨ok_cv (List.forall_mem_cons.mpr ⟨tg_F (ci := 7) (r := CLr 7) (y := 50) rfl ⟨rfl, by decide⟩ q1826 q716 q718 q150 q720 q714 q713 q719 q717 q715 ⟨cn_37.1, cn_37.2, pd_50⟩ dX2_trips_106, (List.forall_mem_cons.mpr ⟨tg_F (ci := 24) (r := CLr 24) (y := 86) rfl ⟨rfl, by decide⟩ q1826 q722 q724 q168 q726 q714 q713 q725 q723 q721 ⟨cn_37.1, cn_37.2, pd_50⟩ dX2_trips_106, (List.forall_mem_cons.mpr ⟨tg_F (ci := 25) (r := CLr 25) (y := 92) rfl ⟨rfl, by decide⟩ q1826 q738 q740 q171 q742 q714 q713 q741 q739 q737 ⟨cn_37.1, cn_37.2, pd_50⟩ dX2_trips_106, (List.forall_mem_nil _)⟩)⟩)⟩) hd_no, m_cv⟩ (
  lkp_c (P := OkP 264) ⟨(PuOK.ok (ok_if_eq dX2_trips_111 rfl)), m_if⟩ (
  lkp_c (P := OkP 264) ⟨(PuOK.ok (ok_aload dX2_trips_114)), m_aload⟩ (
  lkp_c (P := OkP 264) ⟨ok_cv (List.forall_mem_cons.mpr ⟨tg_F (ci := 7) (r := CLr 7) (y := 51) rfl ⟨rfl, by decide⟩ q1828 q747 q749 q150 q751 q746 q745 q750 q748 q715 ⟨cn_37.1, cn_37.2, pd_71⟩ dX2_trips_116, (List.forall_mem_cons.mpr ⟨tg_F (ci := 24) (r := CLr 24) (y := 89) rfl ⟨rfl, by decide⟩ q1828 q756 q758 q169 q760 q746 q745 q759 q757 q721 ⟨cn_37.1, cn_37.2, pd_71⟩ dX2_trips_116, (List.forall_mem_cons.mpr ⟨tg_F (ci := 25) (r := CLr 25) (y := 95) rfl ⟨rfl, by decide⟩ q1828 q790 q792 q172 q794 q746 q745 q793 q791 q737 ⟨cn_37.1, cn_37.2, pd_71⟩ dX2_trips_116, (List.forall_mem_nil _)⟩)⟩)⟩) hd_no, m_cv⟩ (
  lkp_c (P := OkP 264) ⟨ok_cast q1829 cst_6 dX2_trips_121, m_cast⟩ (
  lkp_c (P := OkP 264) ⟨(PuOK.ok (ok_astore dX2_trips_124)), m_astore⟩ (
  lkp_c (P := OkP 264) ⟨(PuOK.ok (ok_aload dX2_trips_126)), m_aload⟩ (
  trivial))))))))))))))))))))))))))
theorem c_264_2 : LkP (OkP 264) [(128, o_ifnull 149), (131, o_aload 4 2), (133, o_aload 6 2), (135, o_aload 0 1), (136, o_get 6), (139, o_aload 0 1), (140, o_get 7), (143, o_cv [(26, 242)] 3 3 false none), (146, o_if (fun x => decide (¬ x = 0)) 181), (149, o_new 26 7 dv26), (152, o_dup), (153, o_aload 6 2), (155, o_aload 0 1), (156, o_get 10), (159, o_iload 1 1), (160, o_cv [(3, 47)] 1 3 false none), (163, o_cast [13]), (166, o_get 69), (169, o_ci 243 2), (172, o_astore 4 2), (174, o_aload 3 1), (175, o_aload 4 2), (177, o_cv [(3, 43)] 1 3 false none), (180, o_pop), (181, o_goto 104), (184, o_aload 3 1), (185, o_ret 0)] := lkp_c (P := OkP 264) ⟨(PuOK.ok (ok_ifnull dX2_trips_128 rfl)), m_ifnull⟩ (
  lkp_c (P := OkP 264) ⟨(PuOK.ok (ok_aload dX2_trips_131)), m_aload⟩ (
  lkp_c (P := OkP 264) ⟨(PuOK.ok (ok_aload dX2_trips_133)), m_aload⟩ (
  lkp_c (P := OkP 264) ⟨(PuOK.ok (ok_aload_n dX2_trips_135 rfl)), m_aload⟩ (
  lkp_c (P := OkP 264) ⟨ok_get ⟨"TollRoad$World", q626, Or.inl rfl⟩ dX2_trips_136, m_get⟩ (
  lkp_c (P := OkP 264) ⟨(PuOK.ok (ok_aload_n dX2_trips_139 rfl)), m_aload⟩ (
  lkp_c (P := OkP 264) ⟨ok_get ⟨"TollRoad$World", q629, Or.inl rfl⟩ dX2_trips_140, m_get⟩ (
  lkp_c (P := OkP 264) ⟨ok_cv (List.forall_mem_cons.mpr ⟨tg_V (ci := 26) (r := CLr 26) (y := 242) rfl ⟨rfl, by decide⟩ rfl q2474 q2475 q2476 q173 q2477 ⟨cn_46.1, cn_46.2, pd_108⟩ dX2_trips_143, (List.forall_mem_nil _)⟩) hd_no, m_cv⟩ (
  lkp_c (P := OkP 264) ⟨(PuOK.ok (ok_if_ne dX2_trips_146 rfl)), m_if⟩ (
  lkp_c (P := OkP 264) ⟨ok_new (ci := 26) (r := CLr 26) rfl dvok_26 q2484 q2485 q173 dX2_trips_149, m_new⟩ (
  lkp_c (P := OkP 264) ⟨(PuOK.ok (ok_dup dX2_trips_152)), m_dup⟩ (
  lkp_c (P := OkP 264) ⟨(PuOK.ok (ok_aload dX2_trips_153)), m_aload⟩ (
  lkp_c (P := OkP 264) ⟨(PuOK.ok (ok_aload_n dX2_trips_155 rfl)), m_aload⟩ (
  lkp_c (P := OkP 264) ⟨ok_get ⟨"TollRoad$World", q637, Or.inl rfl⟩ dX2_trips_156, m_get⟩ (
  lkp_c (P := OkP 264) ⟨(PuOK.ok (ok_iload_n dX2_trips_159 rfl)), m_iload⟩ (
  lkp_c (P := OkP 264) ⟨ok_cv (List.forall_mem_cons.mpr ⟨tg_V (ci := 3) (r := CLr 3) (y := 47) rfl ⟨rfl, by decide⟩ rfl q2044 q1807 q1808 q120 q1809 ⟨cn_15.1, cn_15.2, pd_27⟩ dX2_trips_160, (List.forall_mem_nil _)⟩) hd_no, m_cv⟩ (
  lkp_c (P := OkP 264) ⟨ok_cast q1492 cst_7 dX2_trips_163, m_cast⟩ (
  lkp_c (P := OkP 264) ⟨ok_getN ⟨"TollRoad$Vehicle", "TollRoad", q1500, Or.inl rfl⟩ dX2_trips_166, m_get⟩ (
  lkp_c (P := OkP 264) ⟨ok_ci (tg_I (rt := none) ⟨rfl, by decide⟩ rfl q2486 q2487 q173 q2488 ⟨cn_46.1, cn_46.2, pd_90⟩ dX2_trips_169) hd_no, m_ci⟩ (
  lkp_c (P := OkP 264) ⟨(PuOK.ok (ok_astore dX2_trips_172)), m_astore⟩ (
  lkp_c (P := OkP 264) ⟨(PuOK.ok (ok_aload_n dX2_trips_174 rfl)), m_aload⟩ (
  lkp_c (P := OkP 264) ⟨(PuOK.ok (ok_aload dX2_trips_175)), m_aload⟩ (
  lkp_c (P := OkP 264) ⟨ok_cv (List.forall_mem_cons.mpr ⟨tg_V (ci := 3) (r := CLr 3) (y := 43) rfl ⟨rfl, by decide⟩ rfl q1530 q1531 q1532 q120 q1533 ⟨cn_15.1, cn_15.2, pd_12⟩ dX2_trips_177, (List.forall_mem_nil _)⟩) hd_no, m_cv⟩ (
  lkp_c (P := OkP 264) ⟨(PuOK.ok (ok_pop dX2_trips_180)), m_pop⟩ (
  lkp_c (P := OkP 264) ⟨(PuOK.ok (ok_goto dX2_trips_181 rfl)), m_goto⟩ (
  lkp_c (P := OkP 264) ⟨(PuOK.ok (ok_aload_n dX2_trips_184 rfl)), m_aload⟩ (
  lkp_c (P := OkP 264) ⟨ok_aret rfl (Or.inl ⟨_, rfl⟩) dX2_trips_185, m_ret⟩ (
  trivial)))))))))))))))))))))))))))
theorem mt_264 : MtOK TB NT IT 264 := ⟨by decide +kernel, rfl, (fun h => by cases h), Or.inl ⟨rfl, rfl⟩, rfl, by decide, lk2_all (P := OkP 264) ⟨c_264_0, c_264_1, c_264_2, trivial⟩⟩
def dkwX2_bill_3 : List UInt8 := [132, 4, 1, 167, 255, 196, 21, 4, 172]
abbrev dktX2_bill_3 : List UInt8 := dkwX2_bill_3 ++ []
def dkwX2_bill_2 : List UInt8 := [153, 0, 28, 42, 42, 27, 45, 21, 4, 182, 0, 141, 192, 0, 184, 3, 182, 1, 13, 182, 1, 16]
abbrev dktX2_bill_2 : List UInt8 := dkwX2_bill_2 ++ dktX2_bill_3
def dkwX2_bill_1 : List UInt8 := [182, 0, 128, 16, 60, 162, 0, 45, 42, 45, 21, 4, 182, 0, 141, 192, 0, 184, 28, 182, 1, 9]
abbrev dktX2_bill_1 : List UInt8 := dkwX2_bill_1 ++ dktX2_bill_2
def dkwX2_bill_0 : List UInt8 := [42, 27, 182, 1, 5, 78, 3, 54, 4, 21, 4, 45, 182, 0, 128, 162, 0, 57, 42, 180, 0, 40]
abbrev dktX2_bill_0 : List UInt8 := dkwX2_bill_0 ++ dktX2_bill_1
theorem dksX2_bill_0 : cX2_bill.data.toList.drop 0 = dktX2_bill_0 := by decide +kernel
theorem dksX2_bill_1 : cX2_bill.data.toList.drop 22 = dktX2_bill_1 := dk_seg dksX2_bill_0 22 rfl rfl
theorem dksX2_bill_2 : cX2_bill.data.toList.drop 44 = dktX2_bill_2 := dk_seg dksX2_bill_1 22 rfl rfl
theorem dksX2_bill_3 : cX2_bill.data.toList.drop 66 = dktX2_bill_3 := dk_seg dksX2_bill_2 22 rfl rfl
theorem dX2_bill_0 : decode cX2_bill 0 = .ok (.aload_n 0, 1) := dk_42 (dk_at dksX2_bill_0 0 rfl rfl)
theorem dX2_bill_1 : decode cX2_bill 1 = .ok (.iload_n 1, 1) := dk_27 (dk_at dksX2_bill_0 1 rfl rfl)
theorem dX2_bill_2 : decode cX2_bill 2 = .ok (.invokevirtual 261, 3) := dk_182 1 5 (dk_at dksX2_bill_0 2 rfl rfl)
theorem dX2_bill_5 : decode cX2_bill 5 = .ok (.astore_n 3, 1) := dk_78 (dk_at dksX2_bill_0 5 rfl rfl)
theorem dX2_bill_6 : decode cX2_bill 6 = .ok (.iconst 0, 1) := dk_3 (dk_at dksX2_bill_0 6 rfl rfl)
theorem dX2_bill_7 : decode cX2_bill 7 = .ok (.istore 4, 2) := dk_54 4 (dk_at dksX2_bill_0 7 rfl rfl)
theorem dX2_bill_9 : decode cX2_bill 9 = .ok (.iload 4, 2) := dk_21 4 (dk_at dksX2_bill_0 9 rfl rfl)
theorem dX2_bill_11 : decode cX2_bill 11 = .ok (.aload_n 3, 1) := dk_45 (dk_at dksX2_bill_0 11 rfl rfl)
theorem dX2_bill_12 : decode cX2_bill 12 = .ok (.invokevirtual 128, 3) := dk_182 0 128 (dk_at dksX2_bill_0 12 rfl rfl)
theorem dX2_bill_15 : decode cX2_bill 15 = .ok (.if_icmp .ge 57, 3) := dk_162 0 57 (dk_at dksX2_bill_0 15 rfl rfl)
theorem dX2_bill_18 : decode cX2_bill 18 = .ok (.aload_n 0, 1) := dk_42 (dk_at dksX2_bill_0 18 rfl rfl)
theorem dX2_bill_19 : decode cX2_bill 19 = .ok (.getfield 40, 3) := dk_180 0 40 (dk_at dksX2_bill_0 19 rfl rfl)
theorem dX2_bill_22 : decode cX2_bill 22 = .ok (.invokevirtual 128, 3) := dk_182 0 128 (dk_at dksX2_bill_1 0 rfl rfl)
theorem dX2_bill_25 : decode cX2_bill 25 = .ok (.bipush 60, 2) := dk_16 60 (dk_at dksX2_bill_1 3 rfl rfl)
theorem dX2_bill_27 : decode cX2_bill 27 = .ok (.if_icmp .ge 45, 3) := dk_162 0 45 (dk_at dksX2_bill_1 5 rfl rfl)
theorem dX2_bill_30 : decode cX2_bill 30 = .ok (.aload_n 0, 1) := dk_42 (dk_at dksX2_bill_1 8 rfl rfl)
theorem dX2_bill_31 : decode cX2_bill 31 = .ok (.aload_n 3, 1) := dk_45 (dk_at dksX2_bill_1 9 rfl rfl)
theorem dX2_bill_32 : decode cX2_bill 32 = .ok (.iload 4, 2) := dk_21 4 (dk_at dksX2_bill_1 10 rfl rfl)
theorem dX2_bill_34 : decode cX2_bill 34 = .ok (.invokevirtual 141, 3) := dk_182 0 141 (dk_at dksX2_bill_1 12 rfl rfl)
theorem dX2_bill_37 : decode cX2_bill 37 = .ok (.checkcast 184, 3) := dk_192 0 184 (dk_at dksX2_bill_1 15 rfl rfl)
theorem dX2_bill_40 : decode cX2_bill 40 = .ok (.iload_n 2, 1) := dk_28 (dk_at dksX2_bill_1 18 rfl rfl)
theorem dX2_bill_41 : decode cX2_bill 41 = .ok (.invokevirtual 265, 3) := dk_182 1 9 (dk_at dksX2_bill_1 19 rfl rfl)
theorem dX2_bill_44 : decode cX2_bill 44 = .ok (.ifCond .eq 28, 3) := dk_153 0 28 (dk_at dksX2_bill_2 0 rfl rfl)
theorem dX2_bill_47 : decode cX2_bill 47 = .ok (.aload_n 0, 1) := dk_42 (dk_at dksX2_bill_2 3 rfl rfl)
theorem dX2_bill_48 : decode cX2_bill 48 = .ok (.aload_n 0, 1) := dk_42 (dk_at dksX2_bill_2 4 rfl rfl)
theorem dX2_bill_49 : decode cX2_bill 49 = .ok (.iload_n 1, 1) := dk_27 (dk_at dksX2_bill_2 5 rfl rfl)
theorem dX2_bill_50 : decode cX2_bill 50 = .ok (.aload_n 3, 1) := dk_45 (dk_at dksX2_bill_2 6 rfl rfl)
theorem dX2_bill_51 : decode cX2_bill 51 = .ok (.iload 4, 2) := dk_21 4 (dk_at dksX2_bill_2 7 rfl rfl)
theorem dX2_bill_53 : decode cX2_bill 53 = .ok (.invokevirtual 141, 3) := dk_182 0 141 (dk_at dksX2_bill_2 9 rfl rfl)
theorem dX2_bill_56 : decode cX2_bill 56 = .ok (.checkcast 184, 3) := dk_192 0 184 (dk_at dksX2_bill_2 12 rfl rfl)
theorem dX2_bill_59 : decode cX2_bill 59 = .ok (.iconst 0, 1) := dk_3 (dk_at dksX2_bill_2 15 rfl rfl)
theorem dX2_bill_60 : decode cX2_bill 60 = .ok (.invokevirtual 269, 3) := dk_182 1 13 (dk_at dksX2_bill_2 16 rfl rfl)
theorem dX2_bill_63 : decode cX2_bill 63 = .ok (.invokevirtual 272, 3) := dk_182 1 16 (dk_at dksX2_bill_2 19 rfl rfl)
theorem dX2_bill_66 : decode cX2_bill 66 = .ok (.iinc 4 1, 3) := dk_132 4 1 (dk_at dksX2_bill_3 0 rfl rfl)
theorem dX2_bill_69 : decode cX2_bill 69 = .ok (.goto (-60), 3) := dk_167 255 196 (dk_at dksX2_bill_3 3 rfl rfl)
theorem dX2_bill_72 : decode cX2_bill 72 = .ok (.iload 4, 2) := dk_21 4 (dk_at dksX2_bill_3 6 rfl rfl)
theorem dX2_bill_74 : decode cX2_bill 74 = .ok (.ireturn, 1) := dk_172 (dk_at dksX2_bill_3 8 rfl rfl)
theorem c_265_0 : LkP (OkP 265) [(0, o_aload 0 1), (1, o_iload 1 1), (2, o_cv [(1, 264)] 1 3 false none), (5, o_astore 3 1), (6, o_push 1 (.int 0)), (7, o_istore 4 2), (9, o_iload 4 2), (11, o_aload 3 1), (12, o_cv [(3, 42)] 0 3 false none), (15, o_icmp (fun x y => decide (y ≤ x)) 72), (18, o_aload 0 1), (19, o_get 12), (22, o_cv [(3, 42)] 0 3 false none), (25, o_push 2 (.int 60)), (27, o_icmp (fun x y => decide (y ≤ x)) 72), (30, o_aload 0 1), (31, o_aload 3 1), (32, o_iload 4 2), (34, o_cv [(3, 47)] 1 3 false none), (37, o_cast [26]), (40, o_iload 2 1), (41, o_cv [(1, 266)] 2 3 false none), (44, o_if (fun x => decide (x = 0)) 72), (47, o_aload 0 1), (48, o_aload 0 1), (49, o_iload 1 1), (50, o_aload 3 1), (51, o_iload 4 2), (53, o_cv [(3, 47)] 1 3 false none), (56, o_cast [26]), (59, o_push 1 (.int 0)), (60, o_cv [(1, 267)] 3 3 false none), (63, o_cv [(1, 270)] 1 3 true none)] := lkp_c (P := OkP 265) ⟨(PuOK.ok (ok_aload_n dX2_bill_0 rfl)), m_aload⟩ (
  lkp_c (P := OkP 265) ⟨(PuOK.ok (ok_iload_n dX2_bill_1 rfl)), m_iload⟩ (
  lkp_c (P := OkP 265) ⟨ok_cv (List.forall_mem_cons.mpr ⟨tg_V (ci := 1) (r := CLr 1) (y := 264) rfl ⟨rfl, by decide⟩ rfl q2577 q2221 q2222 q116 q2223 ⟨cn_36.1, cn_36.2, pd_91⟩ dX2_bill_2, (List.forall_mem_nil _)⟩) hd_no, m_cv⟩ (
  lkp_c (P := OkP 265) ⟨(PuOK.ok (ok_astore_n dX2_bill_5 rfl)), m_astore⟩ (
  lkp_c (P := OkP 265) ⟨(PuOK.ok (ok_iconst dX2_bill_6 rfl)), m_push⟩ (
  lkp_c (P := OkP 265) ⟨(PuOK.ok (ok_istore dX2_bill_7)), m_istore⟩ (
  lkp_c (P := OkP 265) ⟨(PuOK.ok (ok_iload dX2_bill_9)), m_iload⟩ (
  lkp_c (P := OkP 265) ⟨(PuOK.ok (ok_aload_n dX2_bill_11 rfl)), m_aload⟩ (
  lkp_c (P := OkP 265) ⟨ok_cv (List.forall_mem_cons.mpr ⟨tg_V (ci := 3) (r := CLr 3) (y := 42) rfl ⟨rfl, by decide⟩ rfl q1559 q1257 q1258 q120 q1259 ⟨cn_15.1, cn_15.2, pd_13⟩ dX2_bill_12, (List.forall_mem_nil _)⟩) hd_no, m_cv⟩ (
  lkp_c (P := OkP 265) ⟨(PuOK.ok (ok_icmp_ge dX2_bill_15 rfl)), m_icmp⟩ (
  lkp_c (P := OkP 265) ⟨(PuOK.ok (ok_aload_n dX2_bill_18 rfl)), m_aload⟩ (
  lkp_c (P := OkP 265) ⟨ok_get ⟨"TollRoad$World", q643, Or.inl rfl⟩ dX2_bill_19, m_get⟩ (
  lkp_c (P := OkP 265) ⟨ok_cv (List.forall_mem_cons.mpr ⟨tg_V (ci := 3) (r := CLr 3) (y := 42) rfl ⟨rfl, by decide⟩ rfl q1559 q1257 q1258 q120 q1259 ⟨cn_15.1, cn_15.2, pd_13⟩ dX2_bill_22, (List.forall_mem_nil _)⟩) hd_no, m_cv⟩ (
  lkp_c (P := OkP 265) ⟨(PuOK.ok (ok_bipush dX2_bill_25 rfl)), m_push⟩ (
  lkp_c (P := OkP 265) ⟨(PuOK.ok (ok_icmp_ge dX2_bill_27 rfl)), m_icmp⟩ (
  lkp_c (P := OkP 265) ⟨(PuOK.ok (ok_aload_n dX2_bill_30 rfl)), m_aload⟩ (
  lkp_c (P := OkP 265) ⟨(PuOK.ok (ok_aload_n dX2_bill_31 rfl)), m_aload⟩ (
  lkp_c (P := OkP 265) ⟨(PuOK.ok (ok_iload dX2_bill_32)), m_iload⟩ (
  lkp_c (P := OkP 265) ⟨ok_cv (List.forall_mem_cons.mpr ⟨tg_V (ci := 3) (r := CLr 3) (y := 47) rfl ⟨rfl, by decide⟩ rfl q2044 q1807 q1808 q120 q1809 ⟨cn_15.1, cn_15.2, pd_27⟩ dX2_bill_34, (List.forall_mem_nil _)⟩) hd_no, m_cv⟩ (
  lkp_c (P := OkP 265) ⟨ok_cast q2484 cst_8 dX2_bill_37, m_cast⟩ (
  lkp_c (P := OkP 265) ⟨(PuOK.ok (ok_iload_n dX2_bill_40 rfl)), m_iload⟩ (
  lkp_c (P := OkP 265) ⟨ok_cv (List.forall_mem_cons.mpr ⟨tg_V (ci := 1) (r := CLr 1) (y := 266) rfl ⟨rfl, by decide⟩ rfl q2578 q2579 q2580 q116 q2581 ⟨cn_36.1, cn_36.2, pd_109⟩ dX2_bill_41, (List.forall_mem_nil _)⟩) hd_no, m_cv⟩ (
  lkp_c (P := OkP 265) ⟨(PuOK.ok (ok_if_eq dX2_bill_44 rfl)), m_if⟩ (
  lkp_c (P := OkP 265) ⟨(PuOK.ok (ok_aload_n dX2_bill_47 rfl)), m_aload⟩ (
  lkp_c (P := OkP 265) ⟨(PuOK.ok (ok_aload_n dX2_bill_48 rfl)), m_aload⟩ (
  lkp_c (P := OkP 265) ⟨(PuOK.ok (ok_iload_n dX2_bill_49 rfl)), m_iload⟩ (
  lkp_c (P := OkP 265) ⟨(PuOK.ok (ok_aload_n dX2_bill_50 rfl)), m_aload⟩ (
  lkp_c (P := OkP 265) ⟨(PuOK.ok (ok_iload dX2_bill_51)), m_iload⟩ (
  lkp_c (P := OkP 265) ⟨ok_cv (List.forall_mem_cons.mpr ⟨tg_V (ci := 3) (r := CLr 3) (y := 47) rfl ⟨rfl, by decide⟩ rfl q2044 q1807 q1808 q120 q1809 ⟨cn_15.1, cn_15.2, pd_27⟩ dX2_bill_53, (List.forall_mem_nil _)⟩) hd_no, m_cv⟩ (
  lkp_c (P := OkP 265) ⟨ok_cast q2484 cst_8 dX2_bill_56, m_cast⟩ (
  lkp_c (P := OkP 265) ⟨(PuOK.ok (ok_iconst dX2_bill_59 rfl)), m_push⟩ (
  lkp_c (P := OkP 265) ⟨ok_cv (List.forall_mem_cons.mpr ⟨tg_V (ci := 1) (r := CLr 1) (y := 267) rfl ⟨rfl, by decide⟩ rfl q2583 q2584 q2585 q116 q2586 ⟨cn_36.1, cn_36.2, pd_110⟩ dX2_bill_60, (List.forall_mem_nil _)⟩) hd_no, m_cv⟩ (
  lkp_c (P := OkP 265) ⟨ok_cv (List.forall_mem_cons.mpr ⟨tg_VW (ci := 1) (r := CLr 1) (y := 270) rfl ⟨rfl, by decide⟩ rfl q2675 q2677 qs33 q116 q2678 ⟨cn_36.1, cn_36.2, pd_111⟩ dX2_bill_63, (List.forall_mem_nil _)⟩) hd_no, m_cv⟩ (
  trivial)))))))))))))))))))))))))))))))))
theorem c_265_1 : LkP (OkP 265) [(66, o_iinc 4 1), (69, o_goto 9), (72, o_iload 4 2), (74, o_ret 1)] := lkp_c (P := OkP 265) ⟨(PuOK.ok (ok_iinc dX2_bill_66 rfl)), m_iinc⟩ (
  lkp_c (P := OkP 265) ⟨(PuOK.ok (ok_goto dX2_bill_69 rfl)), m_goto⟩ (
  lkp_c (P := OkP 265) ⟨(PuOK.ok (ok_iload dX2_bill_72)), m_iload⟩ (
  lkp_c (P := OkP 265) ⟨ok_iret rfl rfl (by decide) dX2_bill_74, m_ret⟩ (
  trivial))))
theorem mt_265 : MtOK TB NT IT 265 := ⟨by decide +kernel, rfl, (fun h => by cases h), Or.inl ⟨rfl, rfl⟩, rfl, by decide, lk2_all (P := OkP 265) ⟨c_265_0, c_265_1, trivial⟩⟩
def dkwX2_isEarly_0 : List UInt8 := [43, 182, 0, 193, 42, 180, 0, 18, 3, 46, 96, 28, 162, 0, 7, 4, 167, 0, 4, 3, 172]
abbrev dktX2_isEarly_0 : List UInt8 := dkwX2_isEarly_0 ++ []
theorem dksX2_isEarly_0 : cX2_isEarly.data.toList.drop 0 = dktX2_isEarly_0 := by decide +kernel
theorem dX2_isEarly_0 : decode cX2_isEarly 0 = .ok (.aload_n 1, 1) := dk_43 (dk_at dksX2_isEarly_0 0 rfl rfl)
theorem dX2_isEarly_1 : decode cX2_isEarly 1 = .ok (.invokevirtual 193, 3) := dk_182 0 193 (dk_at dksX2_isEarly_0 1 rfl rfl)
theorem dX2_isEarly_4 : decode cX2_isEarly 4 = .ok (.aload_n 0, 1) := dk_42 (dk_at dksX2_isEarly_0 4 rfl rfl)
theorem dX2_isEarly_5 : decode cX2_isEarly 5 = .ok (.getfield 18, 3) := dk_180 0 18 (dk_at dksX2_isEarly_0 5 rfl rfl)
theorem dX2_isEarly_8 : decode cX2_isEarly 8 = .ok (.iconst 0, 1) := dk_3 (dk_at dksX2_isEarly_0 8 rfl rfl)
theorem dX2_isEarly_9 : decode cX2_isEarly 9 = .ok (.iaload, 1) := dk_46 (dk_at dksX2_isEarly_0 9 rfl rfl)
theorem dX2_isEarly_10 : decode cX2_isEarly 10 = .ok (.iadd, 1) := dk_96 (dk_at dksX2_isEarly_0 10 rfl rfl)
theorem dX2_isEarly_11 : decode cX2_isEarly 11 = .ok (.iload_n 2, 1) := dk_28 (dk_at dksX2_isEarly_0 11 rfl rfl)
theorem dX2_isEarly_12 : decode cX2_isEarly 12 = .ok (.if_icmp .ge 7, 3) := dk_162 0 7 (dk_at dksX2_isEarly_0 12 rfl rfl)
theorem dX2_isEarly_15 : decode cX2_isEarly 15 = .ok (.iconst 1, 1) := dk_4 (dk_at dksX2_isEarly_0 15 rfl rfl)
theorem dX2_isEarly_16 : decode cX2_isEarly 16 = .ok (.goto 4, 3) := dk_167 0 4 (dk_at dksX2_isEarly_0 16 rfl rfl)
theorem dX2_isEarly_19 : decode cX2_isEarly 19 = .ok (.iconst 0, 1) := dk_3 (dk_at dksX2_isEarly_0 19 rfl rfl)
theorem dX2_isEarly_20 : decode cX2_isEarly 20 = .ok (.ireturn, 1) := dk_172 (dk_at dksX2_isEarly_0 20 rfl rfl)
theorem c_266_0 : LkP (OkP 266) [(0, o_aload 1 1), (1, o_cv [(26, 245)] 0 3 false none), (4, o_aload 0 1), (5, o_get 7), (8, o_push 1 (.int 0)), (9, o_rdI 0), (10, o_iop (fun x y => x + y)), (11, o_iload 2 1), (12, o_icmp (fun x y => decide (y ≤ x)) 19), (15, o_push 1 (.int 1)), (16, o_goto 20), (19, o_push 1 (.int 0)), (20, o_ret 5)] := lkp_c (P := OkP 266) ⟨(PuOK.ok (ok_aload_n dX2_isEarly_0 rfl)), m_aload⟩ (
  lkp_c (P := OkP 266) ⟨ok_cv (List.forall_mem_cons.mpr ⟨tg_V (ci := 26) (r := CLr 26) (y := 245) rfl ⟨rfl, by decide⟩ rfl q2582 q2541 q2542 q173 q2543 ⟨cn_46.1, cn_46.2, pd_13⟩ dX2_isEarly_1, (List.forall_mem_nil _)⟩) hd_no, m_cv⟩ (
  lkp_c (P := OkP 266) ⟨(PuOK.ok (ok_aload_n dX2_isEarly_4 rfl)), m_aload⟩ (
  lkp_c (P := OkP 266) ⟨ok_get ⟨"TollRoad$World", q629, Or.inl rfl⟩ dX2_isEarly_5, m_get⟩ (
  lkp_c (P := OkP 266) ⟨(PuOK.ok (ok_iconst dX2_isEarly_8 rfl)), m_push⟩ (
  lkp_c (P := OkP 266) ⟨ok_iald dX2_isEarly_9, m_rdI⟩ (
  lkp_c (P := OkP 266) ⟨(PuOK.ok (ok_iadd dX2_isEarly_10)), m_iop⟩ (
  lkp_c (P := OkP 266) ⟨(PuOK.ok (ok_iload_n dX2_isEarly_11 rfl)), m_iload⟩ (
  lkp_c (P := OkP 266) ⟨(PuOK.ok (ok_icmp_ge dX2_isEarly_12 rfl)), m_icmp⟩ (
  lkp_c (P := OkP 266) ⟨(PuOK.ok (ok_iconst dX2_isEarly_15 rfl)), m_push⟩ (
  lkp_c (P := OkP 266) ⟨(PuOK.ok (ok_goto dX2_isEarly_16 rfl)), m_goto⟩ (
  lkp_c (P := OkP 266) ⟨(PuOK.ok (ok_iconst dX2_isEarly_19 rfl)), m_push⟩ (
  lkp_c (P := OkP 266) ⟨ok_iret rfl rfl (by decide) dX2_isEarly_20, m_ret⟩ (
  trivial)))))))))))))
theorem mt_266 : MtOK TB NT IT 266 := ⟨by decide +kernel, rfl, (fun h => by cases h), Or.inl ⟨rfl, rfl⟩, rfl, by decide, lk2_all (P := OkP 266) ⟨c_266_0, trivial⟩⟩
def dkwX2_bill_2_3 : List UInt8 := [183, 0, 210, 176]
abbrev dktX2_bill_2_3 : List UInt8 := dkwX2_bill_2_3 ++ []
def dkwX2_bill_2_2 : List UInt8 := [21, 4, 44, 21, 6, 21, 5, 21, 4, 2, 160, 0, 13, 42, 180, 0, 18, 16, 7, 46, 167, 0, 4, 3]
abbrev dktX2_bill_2_2 : List UInt8 := dkwX2_bill_2_2 ++ dktX2_bill_2_3
def dkwX2_bill_2_1 : List UInt8 := [182, 0, 199, 104, 54, 5, 42, 42, 21, 4, 182, 0, 202, 29, 182, 0, 206, 54, 6, 187, 0, 94, 89, 27]
abbrev dktX2_bill_2_1 : List UInt8 := dkwX2_bill_2_1 ++ dktX2_bill_2_2
def dkwX2_bill_2_0 : List UInt8 := [42, 180, 0, 33, 27, 182, 0, 141, 192, 0, 80, 180, 0, 196, 54, 4, 42, 180, 0, 18, 16, 6, 46, 44]
abbrev dktX2_bill_2_0 : List UInt8 := dkwX2_bill_2_0 ++ dktX2_bill_2_1
theorem dksX2_bill_2_0 : cX2_bill_2.data.toList.drop 0 = dktX2_bill_2_0 := by decide +kernel
theorem dksX2_bill_2_1 : cX2_bill_2.data.toList.drop 24 = dktX2_bill_2_1 := dk_seg dksX2_bill_2_0 24 rfl rfl
theorem dksX2_bill_2_2 : cX2_bill_2.data.toList.drop 48 = dktX2_bill_2_2 := dk_seg dksX2_bill_2_1 24 rfl rfl
theorem dksX2_bill_2_3 : cX2_bill_2.data.toList.drop 72 = dktX2_bill_2_3 := dk_seg dksX2_bill_2_2 24 rfl rfl
theorem dX2_bill_2_0 : decode cX2_bill_2 0 = .ok (.aload_n 0, 1) := dk_42 (dk_at dksX2_bill_2_0 0 rfl rfl)
theorem dX2_bill_2_1 : decode cX2_bill_2 1 = .ok (.getfield 33, 3) := dk_180 0 33 (dk_at dksX2_bill_2_0 1 rfl rfl)
theorem dX2_bill_2_4 : decode cX2_bill_2 4 = .ok (.iload_n 1, 1) := dk_27 (dk_at dksX2_bill_2_0 4 rfl rfl)
theorem dX2_bill_2_5 : decode cX2_bill_2 5 = .ok (.invokevirtual 141, 3) := dk_182 0 141 (dk_at dksX2_bill_2_0 5 rfl rfl)
theorem dX2_bill_2_8 : decode cX2_bill_2 8 = .ok (.checkcast 80, 3) := dk_192 0 80 (dk_at dksX2_bill_2_0 8 rfl rfl)
theorem dX2_bill_2_11 : decode cX2_bill_2 11 = .ok (.getfield 196, 3) := dk_180 0 196 (dk_at dksX2_bill_2_0 11 rfl rfl)
theorem dX2_bill_2_14 : decode cX2_bill_2 14 = .ok (.istore 4, 2) := dk_54 4 (dk_at dksX2_bill_2_0 14 rfl rfl)
theorem dX2_bill_2_16 : decode cX2_bill_2 16 = .ok (.aload_n 0, 1) := dk_42 (dk_at dksX2_bill_2_0 16 rfl rfl)
theorem dX2_bill_2_17 : decode cX2_bill_2 17 = .ok (.getfield 18, 3) := dk_180 0 18 (dk_at dksX2_bill_2_0 17 rfl rfl)
theorem dX2_bill_2_20 : decode cX2_bill_2 20 = .ok (.bipush 6, 2) := dk_16 6 (dk_at dksX2_bill_2_0 20 rfl rfl)
theorem dX2_bill_2_22 : decode cX2_bill_2 22 = .ok (.iaload, 1) := dk_46 (dk_at dksX2_bill_2_0 22 rfl rfl)
theorem dX2_bill_2_23 : decode cX2_bill_2 23 = .ok (.aload_n 2, 1) := dk_44 (dk_at dksX2_bill_2_0 23 rfl rfl)
theorem dX2_bill_2_24 : decode cX2_bill_2 24 = .ok (.invokevirtual 199, 3) := dk_182 0 199 (dk_at dksX2_bill_2_1 0 rfl rfl)
theorem dX2_bill_2_27 : decode cX2_bill_2 27 = .ok (.imul, 1) := dk_104 (dk_at dksX2_bill_2_1 3 rfl rfl)
theorem dX2_bill_2_28 : decode cX2_bill_2 28 = .ok (.istore 5, 2) := dk_54 5 (dk_at dksX2_bill_2_1 4 rfl rfl)
theorem dX2_bill_2_30 : decode cX2_bill_2 30 = .ok (.aload_n 0, 1) := dk_42 (dk_at dksX2_bill_2_1 6 rfl rfl)
theorem dX2_bill_2_31 : decode cX2_bill_2 31 = .ok (.aload_n 0, 1) := dk_42 (dk_at dksX2_bill_2_1 7 rfl rfl)
theorem dX2_bill_2_32 : decode cX2_bill_2 32 = .ok (.iload 4, 2) := dk_21 4 (dk_at dksX2_bill_2_1 8 rfl rfl)
theorem dX2_bill_2_34 : decode cX2_bill_2 34 = .ok (.invokevirtual 202, 3) := dk_182 0 202 (dk_at dksX2_bill_2_1 10 rfl rfl)
theorem dX2_bill_2_37 : decode cX2_bill_2 37 = .ok (.iload_n 3, 1) := dk_29 (dk_at dksX2_bill_2_1 13 rfl rfl)
theorem dX2_bill_2_38 : decode cX2_bill_2 38 = .ok (.invokevirtual 206, 3) := dk_182 0 206 (dk_at dksX2_bill_2_1 14 rfl rfl)
theorem dX2_bill_2_41 : decode cX2_bill_2 41 = .ok (.istore 6, 2) := dk_54 6 (dk_at dksX2_bill_2_1 17 rfl rfl)
theorem dX2_bill_2_43 : decode cX2_bill_2 43 = .ok (.new 94, 3) := dk_187 0 94 (dk_at dksX2_bill_2_1 19 rfl rfl)
theorem dX2_bill_2_46 : decode cX2_bill_2 46 = .ok (.dup, 1) := dk_89 (dk_at dksX2_bill_2_1 22 rfl rfl)
theorem dX2_bill_2_47 : decode cX2_bill_2 47 = .ok (.iload_n 1, 1) := dk_27 (dk_at dksX2_bill_2_1 23 rfl rfl)
theorem dX2_bill_2_48 : decode cX2_bill_2 48 = .ok (.iload 4, 2) := dk_21 4 (dk_at dksX2_bill_2_2 0 rfl rfl)
theorem dX2_bill_2_50 : decode cX2_bill_2 50 = .ok (.aload_n 2, 1) := dk_44 (dk_at dksX2_bill_2_2 2 rfl rfl)
theorem dX2_bill_2_51 : decode cX2_bill_2 51 = .ok (.iload 6, 2) := dk_21 6 (dk_at dksX2_bill_2_2 3 rfl rfl)
theorem dX2_bill_2_53 : decode cX2_bill_2 53 = .ok (.iload 5, 2) := dk_21 5 (dk_at dksX2_bill_2_2 5 rfl rfl)
theorem dX2_bill_2_55 : decode cX2_bill_2 55 = .ok (.iload 4, 2) := dk_21 4 (dk_at dksX2_bill_2_2 7 rfl rfl)
theorem dX2_bill_2_57 : decode cX2_bill_2 57 = .ok (.iconst (-1), 1) := dk_2 (dk_at dksX2_bill_2_2 9 rfl rfl)
theorem dX2_bill_2_58 : decode cX2_bill_2 58 = .ok (.if_icmp .ne 13, 3) := dk_160 0 13 (dk_at dksX2_bill_2_2 10 rfl rfl)
theorem dX2_bill_2_61 : decode cX2_bill_2 61 = .ok (.aload_n 0, 1) := dk_42 (dk_at dksX2_bill_2_2 13 rfl rfl)
theorem dX2_bill_2_62 : decode cX2_bill_2 62 = .ok (.getfield 18, 3) := dk_180 0 18 (dk_at dksX2_bill_2_2 14 rfl rfl)
theorem dX2_bill_2_65 : decode cX2_bill_2 65 = .ok (.bipush 7, 2) := dk_16 7 (dk_at dksX2_bill_2_2 17 rfl rfl)
theorem dX2_bill_2_67 : decode cX2_bill_2 67 = .ok (.iaload, 1) := dk_46 (dk_at dksX2_bill_2_2 19 rfl rfl)
theorem dX2_bill_2_68 : decode cX2_bill_2 68 = .ok (.goto 4, 3) := dk_167 0 4 (dk_at dksX2_bill_2_2 20 rfl rfl)
theorem dX2_bill_2_71 : decode cX2_bill_2 71 = .ok (.iconst 0, 1) := dk_3 (dk_at dksX2_bill_2_2 23 rfl rfl)
theorem dX2_bill_2_72 : decode cX2_bill_2 72 = .ok (.invokespecial 210, 3) := dk_183 0 210 (dk_at dksX2_bill_2_3 0 rfl rfl)
theorem dX2_bill_2_75 : decode cX2_bill_2 75 = .ok (.areturn, 1) := dk_176 (dk_at dksX2_bill_2_3 3 rfl rfl)
theorem c_267_0 : LkP (OkP 267) [(0, o_aload 0 1), (1, o_get 10), (4, o_iload 1 1), (5, o_cv [(3, 47)] 1 3 false none), (8, o_cast [13]), (11, o_get 70), (14, o_istore 4 2), (16, o_aload 0 1), (17, o_get 7), (20, o_push 2 (.int 6)), (22, o_rdI 0), (23, o_aload 2 1), (24, o_cv [(26, 247)] 0 3 false none), (27, o_iop (fun x y => x * y)), (28, o_istore 5 2), (30, o_aload 0 1), (31, o_aload 0 1), (32, o_iload 4 2), (34, o_cv [(1, 268)] 1 3 false none), (37, o_iload 3 1), (38, o_cv [(1, 269)] 2 3 false none), (41, o_istore 6 2), (43, o_new 27 10 dv27), (46, o_dup), (47, o_iload 1 1), (48, o_iload 4 2), (50, o_aload 2 1), (51, o_iload 6 2), (53, o_iload 5 2), (55, o_iload 4 2), (57, o_push 1 (.int (-1))), (58, o_icmp (fun x y => decide (¬ x = y)) 71), (61, o_aload 0 1), (62, o_get 7)] := lkp_c (P := OkP 267) ⟨(PuOK.ok (ok_aload_n dX2_bill_2_0 rfl)), m_aload⟩ (
  lkp_c (P := OkP 267) ⟨ok_get ⟨"TollRoad$World", q637, Or.inl rfl⟩ dX2_bill_2_1, m_get⟩ (
  lkp_c (P := OkP 267) ⟨(PuOK.ok (ok_iload_n dX2_bill_2_4 rfl)), m_iload⟩ (
  lkp_c (P := OkP 267) ⟨ok_cv (List.forall_mem_cons.mpr ⟨tg_V (ci := 3) (r := CLr 3) (y := 47) rfl ⟨rfl, by decide⟩ rfl q2044 q1807 q1808 q120 q1809 ⟨cn_15.1, cn_15.2, pd_27⟩ dX2_bill_2_5, (List.forall_mem_nil _)⟩) hd_no, m_cv⟩ (
  lkp_c (P := OkP 267) ⟨ok_cast q1492 cst_7 dX2_bill_2_8, m_cast⟩ (
  lkp_c (P := OkP 267) ⟨ok_getN ⟨"TollRoad$Vehicle", "TollRoad", q1503, Or.inl rfl⟩ dX2_bill_2_11, m_get⟩ (
  lkp_c (P := OkP 267) ⟨(PuOK.ok (ok_istore dX2_bill_2_14)), m_istore⟩ (
  lkp_c (P := OkP 267) ⟨(PuOK.ok (ok_aload_n dX2_bill_2_16 rfl)), m_aload⟩ (
  lkp_c (P := OkP 267) ⟨ok_get ⟨"TollRoad$World", q629, Or.inl rfl⟩ dX2_bill_2_17, m_get⟩ (
  lkp_c (P := OkP 267) ⟨(PuOK.ok (ok_bipush dX2_bill_2_20 rfl)), m_push⟩ (
  lkp_c (P := OkP 267) ⟨ok_iald dX2_bill_2_22, m_rdI⟩ (
  lkp_c (P := OkP 267) ⟨(PuOK.ok (ok_aload_n dX2_bill_2_23 rfl)), m_aload⟩ (
  lkp_c (P := OkP 267) ⟨ok_cv (List.forall_mem_cons.mpr ⟨tg_V (ci := 26) (r := CLr 26) (y := 247) rfl ⟨rfl, by decide⟩ rfl q2587 q2550 q2551 q173 q2552 ⟨cn_46.1, cn_46.2, pd_13⟩ dX2_bill_2_24, (List.forall_mem_nil _)⟩) hd_no, m_cv⟩ (
  lkp_c (P := OkP 267) ⟨(PuOK.ok (ok_imul dX2_bill_2_27)), m_iop⟩ (
  lkp_c (P := OkP 267) ⟨(PuOK.ok (ok_istore dX2_bill_2_28)), m_istore⟩ (
  lkp_c (P := OkP 267) ⟨(PuOK.ok (ok_aload_n dX2_bill_2_30 rfl)), m_aload⟩ (
  lkp_c (P := OkP 267) ⟨(PuOK.ok (ok_aload_n dX2_bill_2_31 rfl)), m_aload⟩ (
  lkp_c (P := OkP 267) ⟨(PuOK.ok (ok_iload dX2_bill_2_32)), m_iload⟩ (
  lkp_c (P := OkP 267) ⟨ok_cv (List.forall_mem_cons.mpr ⟨tg_V (ci := 1) (r := CLr 1) (y := 268) rfl ⟨rfl, by decide⟩ rfl q2588 q2589 q2590 q116 q2591 ⟨cn_36.1, cn_36.2, pd_79⟩ dX2_bill_2_34, (List.forall_mem_nil _)⟩) hd_no, m_cv⟩ (
  lkp_c (P := OkP 267) ⟨(PuOK.ok (ok_iload_n dX2_bill_2_37 rfl)), m_iload⟩ (
  lkp_c (P := OkP 267) ⟨ok_cv (List.forall_mem_cons.mpr ⟨tg_VW (ci := 1) (r := CLr 1) (y := 269) rfl ⟨rfl, by decide⟩ rfl q2592 q2593 q2594 q116 q2595 ⟨cn_36.1, cn_36.2, pd_112⟩ dX2_bill_2_38, (List.forall_mem_nil _)⟩) hd_no, m_cv⟩ (
  lkp_c (P := OkP 267) ⟨(PuOK.ok (ok_istore dX2_bill_2_41)), m_istore⟩ (
  lkp_c (P := OkP 267) ⟨ok_new (ci := 27) (r := CLr 27) rfl dvok_27 q2602 q2603 q174 dX2_bill_2_43, m_new⟩ (
  lkp_c (P := OkP 267) ⟨(PuOK.ok (ok_dup dX2_bill_2_46)), m_dup⟩ (
  lkp_c (P := OkP 267) ⟨(PuOK.ok (ok_iload_n dX2_bill_2_47 rfl)), m_iload⟩ (
  lkp_c (P := OkP 267) ⟨(PuOK.ok (ok_iload dX2_bill_2_48)), m_iload⟩ (
  lkp_c (P := OkP 267) ⟨(PuOK.ok (ok_aload_n dX2_bill_2_50 rfl)), m_aload⟩ (
  lkp_c (P := OkP 267) ⟨(PuOK.ok (ok_iload dX2_bill_2_51)), m_iload⟩ (
  lkp_c (P := OkP 267) ⟨(PuOK.ok (ok_iload dX2_bill_2_53)), m_iload⟩ (
  lkp_c (P := OkP 267) ⟨(PuOK.ok (ok_iload dX2_bill_2_55)), m_iload⟩ (
  lkp_c (P := OkP 267) ⟨(PuOK.ok (ok_iconst dX2_bill_2_57 rfl)), m_push⟩ (
  lkp_c (P := OkP 267) ⟨(PuOK.ok (ok_icmp_ne dX2_bill_2_58 rfl)), m_icmp⟩ (
  lkp_c (P := OkP 267) ⟨(PuOK.ok (ok_aload_n dX2_bill_2_61 rfl)), m_aload⟩ (
  lkp_c (P := OkP 267) ⟨ok_get ⟨"TollRoad$World", q629, Or.inl rfl⟩ dX2_bill_2_62, m_get⟩ (
  trivial))))))))))))))))))))))))))))))))))
theorem c_267_1 : LkP (OkP 267) [(65, o_push 2 (.int 7)), (67, o_rdI 0), (68, o_goto 72), (71, o_push 1 (.int 0)), (72, o_ci 249 6), (75, o_ret 0)] := lkp_c (P := OkP 267) ⟨(PuOK.ok (ok_bipush dX2_bill_2_65 rfl)), m_push⟩ (
  lkp_c (P := OkP 267) ⟨ok_iald dX2_bill_2_67, m_rdI⟩ (
  lkp_c (P := OkP 267) ⟨(PuOK.ok (ok_goto dX2_bill_2_68 rfl)), m_goto⟩ (
  lkp_c (P := OkP 267) ⟨(PuOK.ok (ok_iconst dX2_bill_2_71 rfl)), m_push⟩ (
  lkp_c (P := OkP 267) ⟨ok_ci (tg_I (rt := none) ⟨rfl, by decide⟩ rfl q2604 q2605 q174 q2606 ⟨cn_47.1, cn_47.2, pd_103⟩ dX2_bill_2_72) hd_no, m_ci⟩ (
  lkp_c (P := OkP 267) ⟨ok_aret rfl (Or.inl ⟨_, rfl⟩) dX2_bill_2_75, m_ret⟩ (
  trivial))))))
theorem mt_267 : MtOK TB NT IT 267 := ⟨by decide +kernel, rfl, (fun h => by cases h), Or.inl ⟨rfl, rfl⟩, rfl, by decide, lk2_all (P := OkP 267) ⟨c_267_0, c_267_1, trivial⟩⟩
def dkwX2_accountOf_0 : List UInt8 := [27, 2, 160, 0, 7, 1, 167, 0, 9, 42, 180, 0, 24, 27, 50, 176]
abbrev dktX2_accountOf_0 : List UInt8 := dkwX2_accountOf_0 ++ []
theorem dksX2_accountOf_0 : cX2_accountOf.data.toList.drop 0 = dktX2_accountOf_0 := by decide +kernel
theorem dX2_accountOf_0 : decode cX2_accountOf 0 = .ok (.iload_n 1, 1) := dk_27 (dk_at dksX2_accountOf_0 0 rfl rfl)
theorem dX2_accountOf_1 : decode cX2_accountOf 1 = .ok (.iconst (-1), 1) := dk_2 (dk_at dksX2_accountOf_0 1 rfl rfl)
theorem dX2_accountOf_2 : decode cX2_accountOf 2 = .ok (.if_icmp .ne 7, 3) := dk_160 0 7 (dk_at dksX2_accountOf_0 2 rfl rfl)
theorem dX2_accountOf_5 : decode cX2_accountOf 5 = .ok (.aconst_null, 1) := dk_1 (dk_at dksX2_accountOf_0 5 rfl rfl)
theorem dX2_accountOf_6 : decode cX2_accountOf 6 = .ok (.goto 9, 3) := dk_167 0 9 (dk_at dksX2_accountOf_0 6 rfl rfl)
theorem dX2_accountOf_9 : decode cX2_accountOf 9 = .ok (.aload_n 0, 1) := dk_42 (dk_at dksX2_accountOf_0 9 rfl rfl)
theorem dX2_accountOf_10 : decode cX2_accountOf 10 = .ok (.getfield 24, 3) := dk_180 0 24 (dk_at dksX2_accountOf_0 10 rfl rfl)
theorem dX2_accountOf_13 : decode cX2_accountOf 13 = .ok (.iload_n 1, 1) := dk_27 (dk_at dksX2_accountOf_0 13 rfl rfl)
theorem dX2_accountOf_14 : decode cX2_accountOf 14 = .ok (.aaload, 1) := dk_50 (dk_at dksX2_accountOf_0 14 rfl rfl)
theorem dX2_accountOf_15 : decode cX2_accountOf 15 = .ok (.areturn, 1) := dk_176 (dk_at dksX2_accountOf_0 15 rfl rfl)
theorem c_268_0 : LkP (OkP 268) [(0, o_iload 1 1), (1, o_push 1 (.int (-1))), (2, o_icmp (fun x y => decide (¬ x = y)) 9), (5, o_push 1 .null), (6, o_goto 15), (9, o_aload 0 1), (10, o_get 8), (13, o_iload 1 1), (14, o_rdQ), (15, o_ret 0)] := lkp_c (P := OkP 268) ⟨(PuOK.ok (ok_iload_n dX2_accountOf_0 rfl)), m_iload⟩ (
  lkp_c (P := OkP 268) ⟨(PuOK.ok (ok_iconst dX2_accountOf_1 rfl)), m_push⟩ (
  lkp_c (P := OkP 268) ⟨(PuOK.ok (ok_icmp_ne dX2_accountOf_2 rfl)), m_icmp⟩ (
  lkp_c (P := OkP 268) ⟨(PuOK.ok (ok_null dX2_accountOf_5)), m_push⟩ (
  lkp_c (P := OkP 268) ⟨(PuOK.ok (ok_goto dX2_accountOf_6 rfl)), m_goto⟩ (
  lkp_c (P := OkP 268) ⟨(PuOK.ok (ok_aload_n dX2_accountOf_9 rfl)), m_aload⟩ (
  lkp_c (P := OkP 268) ⟨ok_get ⟨"TollRoad$World", q632, Or.inl rfl⟩ dX2_accountOf_10, m_get⟩ (
  lkp_c (P := OkP 268) ⟨(PuOK.ok (ok_iload_n dX2_accountOf_13 rfl)), m_iload⟩ (
  lkp_c (P := OkP 268) ⟨ok_aald dX2_accountOf_14, m_rdQ⟩ (
  lkp_c (P := OkP 268) ⟨ok_aret rfl (Or.inl ⟨_, rfl⟩) dX2_accountOf_15, m_ret⟩ (
  trivial))))))))))
theorem mt_268 : MtOK TB NT IT 268 := ⟨by decide +kernel, rfl, (fun h => by cases h), Or.inl ⟨rfl, rfl⟩, rfl, by decide, lk2_all (P := OkP 268) ⟨c_268_0, trivial⟩⟩
def dkwX2_reductionOf_0 : List UInt8 := [43, 28, 182, 0, 132, 172, 78, 3, 172]
abbrev dktX2_reductionOf_0 : List UInt8 := dkwX2_reductionOf_0 ++ []
theorem dksX2_reductionOf_0 : cX2_reductionOf.data.toList.drop 0 = dktX2_reductionOf_0 := by decide +kernel
theorem dX2_reductionOf_0 : decode cX2_reductionOf 0 = .ok (.aload_n 1, 1) := dk_43 (dk_at dksX2_reductionOf_0 0 rfl rfl)
theorem dX2_reductionOf_1 : decode cX2_reductionOf 1 = .ok (.iload_n 2, 1) := dk_28 (dk_at dksX2_reductionOf_0 1 rfl rfl)
theorem dX2_reductionOf_2 : decode cX2_reductionOf 2 = .ok (.invokevirtual 132, 3) := dk_182 0 132 (dk_at dksX2_reductionOf_0 2 rfl rfl)
theorem dX2_reductionOf_5 : decode cX2_reductionOf 5 = .ok (.ireturn, 1) := dk_172 (dk_at dksX2_reductionOf_0 5 rfl rfl)
theorem dX2_reductionOf_6 : decode cX2_reductionOf 6 = .ok (.astore_n 3, 1) := dk_78 (dk_at dksX2_reductionOf_0 6 rfl rfl)
theorem dX2_reductionOf_7 : decode cX2_reductionOf 7 = .ok (.iconst 0, 1) := dk_3 (dk_at dksX2_reductionOf_0 7 rfl rfl)
theorem dX2_reductionOf_8 : decode cX2_reductionOf 8 = .ok (.ireturn, 1) := dk_172 (dk_at dksX2_reductionOf_0 8 rfl rfl)
theorem c_269_0 : LkP (OkP 269) [(0, o_aload 1 1), (1, o_iload 2 1), (2, o_cvN [(12, 420)] 1 false 34 8 6), (5, o_ret 1), (6, o_astore 3 1), (7, o_push 1 (.int 0)), (8, o_ret 1)] := lkp_c (P := OkP 269) ⟨(PuOK.ok (ok_aload_n dX2_reductionOf_0 rfl)), m_aload⟩ (
  lkp_c (P := OkP 269) ⟨(PuOK.ok (ok_iload_n dX2_reductionOf_1 rfl)), m_iload⟩ (
  lkp_c (P := OkP 269) ⟨ok_cvN (ik := 0) (E := 34) (h0 := 6) (r := CLr 34) (C := "TollRoad$Account") (List.forall_mem_cons.mpr ⟨tg_V (ci := 12) (r := CLr 12) (y := 420) rfl ⟨rfl, by decide⟩ rfl q2598 q2599 q2600 q144 q2601 ⟨cn_51.1, cn_51.2, pd_48⟩ dX2_reductionOf_2, (List.forall_mem_nil _)⟩) rfl rfl rfl (hd_cons (r := CLr 34) (k := 0) (x := ⟨0, 5, 6, 136⟩) rfl rfl (List.forall_mem_nil _) (by decide +kernel) (by decide) q2596 q2126 rfl hd_nil) q2598 q2599 q2601 q2600 ⟨cn_51.1, cn_51.2, pd_48⟩ npe5 npe6 npe7 dX2_reductionOf_2, m_cvN⟩ (
  lkp_c (P := OkP 269) ⟨ok_iret rfl rfl (by decide) dX2_reductionOf_5, m_ret⟩ (
  lkp_c (P := OkP 269) ⟨(PuOK.ok (ok_astore_n dX2_reductionOf_6 rfl)), m_astore⟩ (
  lkp_c (P := OkP 269) ⟨(PuOK.ok (ok_iconst dX2_reductionOf_7 rfl)), m_push⟩ (
  lkp_c (P := OkP 269) ⟨ok_iret rfl rfl (by decide) dX2_reductionOf_8, m_ret⟩ (
  trivial)))))))
theorem mt_269 : MtOK TB NT IT 269 := ⟨by decide +kernel, rfl, (fun h => by cases h), Or.inr rfl, rfl, by decide, lk2_all (P := OkP 269) ⟨c_269_0, trivial⟩⟩
def dkwX2_close_9 : List UInt8 := [182, 0, 85, 87, 177]
abbrev dktX2_close_9 : List UInt8 := dkwX2_close_9 ++ []
def dkwX2_close_8 : List UInt8 := [182, 1, 0, 132, 6, 1, 167, 255, 212, 44, 89, 180, 1, 3, 4, 96, 181, 1, 3, 42, 180, 0, 40, 43]
abbrev dktX2_close_8 : List UInt8 := dkwX2_close_8 ++ dktX2_close_9
def dkwX2_close_7 : List UInt8 := [182, 0, 141, 192, 0, 116, 182, 0, 219, 25, 5, 21, 6, 51, 154, 0, 7, 4, 167, 0, 4, 3]
abbrev dktX2_close_7 : List UInt8 := dkwX2_close_7 ++ dktX2_close_8
def dkwX2_close_6 : List UInt8 := [182, 0, 250, 58, 5, 3, 54, 6, 21, 6, 25, 5, 190, 162, 0, 42, 42, 25, 4, 180, 0, 253, 21, 6]
abbrev dktX2_close_6 : List UInt8 := dkwX2_close_6 ++ dktX2_close_7
def dkwX2_close_5 : List UInt8 := [184, 0, 241, 181, 0, 145, 44, 89, 180, 0, 247, 4, 96, 181, 0, 247, 132, 5, 1, 167, 255, 181, 25, 4]
abbrev dktX2_close_5 : List UInt8 := dkwX2_close_5 ++ dktX2_close_6
def dkwX2_close_4 : List UInt8 := [25, 6, 42, 180, 0, 40, 182, 0, 128, 181, 0, 238, 44, 44, 180, 0, 145, 25, 6, 180, 0, 148]
abbrev dktX2_close_4 : List UInt8 := dkwX2_close_4 ++ dktX2_close_5
def dkwX2_close_3 : List UInt8 := [162, 0, 68, 25, 4, 180, 0, 237, 21, 5, 182, 0, 141, 192, 0, 89, 58, 6, 25, 6, 6, 181, 0, 151]
abbrev dktX2_close_3 : List UInt8 := dkwX2_close_3 ++ dktX2_close_4
def dkwX2_close_2 : List UInt8 := [181, 0, 230, 43, 180, 0, 233, 58, 4, 3, 54, 5, 21, 5, 25, 4, 180, 0, 237, 182, 0, 128]
abbrev dktX2_close_2 : List UInt8 := dkwX2_close_2 ++ dktX2_close_3
def dkwX2_close_1 : List UInt8 := [45, 43, 180, 0, 224, 182, 0, 227, 167, 0, 18, 58, 4, 44, 89, 180, 0, 230, 43, 180, 0, 224, 96]
abbrev dktX2_close_1 : List UInt8 := dkwX2_close_1 ++ dktX2_close_2
def dkwX2_close_0 : List UInt8 := [42, 180, 0, 33, 43, 180, 0, 222, 182, 0, 141, 192, 0, 80, 77, 42, 43, 180, 0, 223, 182, 0, 202, 78]
abbrev dktX2_close_0 : List UInt8 := dkwX2_close_0 ++ dktX2_close_1
theorem dksX2_close_0 : cX2_close.data.toList.drop 0 = dktX2_close_0 := by decide +kernel
theorem dksX2_close_1 : cX2_close.data.toList.drop 24 = dktX2_close_1 := dk_seg dksX2_close_0 24 rfl rfl
theorem dksX2_close_2 : cX2_close.data.toList.drop 47 = dktX2_close_2 := dk_seg dksX2_close_1 23 rfl rfl
theorem dksX2_close_3 : cX2_close.data.toList.drop 69 = dktX2_close_3 := dk_seg dksX2_close_2 22 rfl rfl
theorem dksX2_close_4 : cX2_close.data.toList.drop 93 = dktX2_close_4 := dk_seg dksX2_close_3 24 rfl rfl
theorem dksX2_close_5 : cX2_close.data.toList.drop 115 = dktX2_close_5 := dk_seg dksX2_close_4 22 rfl rfl
theorem dksX2_close_6 : cX2_close.data.toList.drop 139 = dktX2_close_6 := dk_seg dksX2_close_5 24 rfl rfl
theorem dksX2_close_7 : cX2_close.data.toList.drop 163 = dktX2_close_7 := dk_seg dksX2_close_6 24 rfl rfl
theorem dksX2_close_8 : cX2_close.data.toList.drop 185 = dktX2_close_8 := dk_seg dksX2_close_7 22 rfl rfl
theorem dksX2_close_9 : cX2_close.data.toList.drop 209 = dktX2_close_9 := dk_seg dksX2_close_8 24 rfl rfl
theorem dX2_close_0 : decode cX2_close 0 = .ok (.aload_n 0, 1) := dk_42 (dk_at dksX2_close_0 0 rfl rfl)
theorem dX2_close_1 : decode cX2_close 1 = .ok (.getfield 33, 3) := dk_180 0 33 (dk_at dksX2_close_0 1 rfl rfl)
theorem dX2_close_4 : decode cX2_close 4 = .ok (.aload_n 1, 1) := dk_43 (dk_at dksX2_close_0 4 rfl rfl)
theorem dX2_close_5 : decode cX2_close 5 = .ok (.getfield 222, 3) := dk_180 0 222 (dk_at dksX2_close_0 5 rfl rfl)
theorem dX2_close_8 : decode cX2_close 8 = .ok (.invokevirtual 141, 3) := dk_182 0 141 (dk_at dksX2_close_0 8 rfl rfl)
theorem dX2_close_11 : decode cX2_close 11 = .ok (.checkcast 80, 3) := dk_192 0 80 (dk_at dksX2_close_0 11 rfl rfl)
theorem dX2_close_14 : decode cX2_close 14 = .ok (.astore_n 2, 1) := dk_77 (dk_at dksX2_close_0 14 rfl rfl)
theorem dX2_close_15 : decode cX2_close 15 = .ok (.aload_n 0, 1) := dk_42 (dk_at dksX2_close_0 15 rfl rfl)
theorem dX2_close_16 : decode cX2_close 16 = .ok (.aload_n 1, 1) := dk_43 (dk_at dksX2_close_0 16 rfl rfl)
theorem dX2_close_17 : decode cX2_close 17 = .ok (.getfield 223, 3) := dk_180 0 223 (dk_at dksX2_close_0 17 rfl rfl)
theorem dX2_close_20 : decode cX2_close 20 = .ok (.invokevirtual 202, 3) := dk_182 0 202 (dk_at dksX2_close_0 20 rfl rfl)
theorem dX2_close_23 : decode cX2_close 23 = .ok (.astore_n 3, 1) := dk_78 (dk_at dksX2_close_0 23 rfl rfl)
theorem dX2_close_24 : decode cX2_close 24 = .ok (.aload_n 3, 1) := dk_45 (dk_at dksX2_close_1 0 rfl rfl)
theorem dX2_close_25 : decode cX2_close 25 = .ok (.aload_n 1, 1) := dk_43 (dk_at dksX2_close_1 1 rfl rfl)
theorem dX2_close_26 : decode cX2_close 26 = .ok (.getfield 224, 3) := dk_180 0 224 (dk_at dksX2_close_1 2 rfl rfl)
theorem dX2_close_29 : decode cX2_close 29 = .ok (.invokevirtual 227, 3) := dk_182 0 227 (dk_at dksX2_close_1 5 rfl rfl)
theorem dX2_close_32 : decode cX2_close 32 = .ok (.goto 18, 3) := dk_167 0 18 (dk_at dksX2_close_1 8 rfl rfl)
theorem dX2_close_35 : decode cX2_close 35 = .ok (.astore 4, 2) := dk_58 4 (dk_at dksX2_close_1 11 rfl rfl)
theorem dX2_close_37 : decode cX2_close 37 = .ok (.aload_n 2, 1) := dk_44 (dk_at dksX2_close_1 13 rfl rfl)
theorem dX2_close_38 : decode cX2_close 38 = .ok (.dup, 1) := dk_89 (dk_at dksX2_close_1 14 rfl rfl)
theorem dX2_close_39 : decode cX2_close 39 = .ok (.getfield 230, 3) := dk_180 0 230 (dk_at dksX2_close_1 15 rfl rfl)
theorem dX2_close_42 : decode cX2_close 42 = .ok (.aload_n 1, 1) := dk_43 (dk_at dksX2_close_1 18 rfl rfl)
theorem dX2_close_43 : decode cX2_close 43 = .ok (.getfield 224, 3) := dk_180 0 224 (dk_at dksX2_close_1 19 rfl rfl)
theorem dX2_close_46 : decode cX2_close 46 = .ok (.iadd, 1) := dk_96 (dk_at dksX2_close_1 22 rfl rfl)
theorem dX2_close_47 : decode cX2_close 47 = .ok (.putfield 230, 3) := dk_181 0 230 (dk_at dksX2_close_2 0 rfl rfl)
theorem dX2_close_50 : decode cX2_close 50 = .ok (.aload_n 1, 1) := dk_43 (dk_at dksX2_close_2 3 rfl rfl)
theorem dX2_close_51 : decode cX2_close 51 = .ok (.getfield 233, 3) := dk_180 0 233 (dk_at dksX2_close_2 4 rfl rfl)
theorem dX2_close_54 : decode cX2_close 54 = .ok (.astore 4, 2) := dk_58 4 (dk_at dksX2_close_2 7 rfl rfl)
theorem dX2_close_56 : decode cX2_close 56 = .ok (.iconst 0, 1) := dk_3 (dk_at dksX2_close_2 9 rfl rfl)
theorem dX2_close_57 : decode cX2_close 57 = .ok (.istore 5, 2) := dk_54 5 (dk_at dksX2_close_2 10 rfl rfl)
theorem dX2_close_59 : decode cX2_close 59 = .ok (.iload 5, 2) := dk_21 5 (dk_at dksX2_close_2 12 rfl rfl)
theorem dX2_close_61 : decode cX2_close 61 = .ok (.aload 4, 2) := dk_25 4 (dk_at dksX2_close_2 14 rfl rfl)
theorem dX2_close_63 : decode cX2_close 63 = .ok (.getfield 237, 3) := dk_180 0 237 (dk_at dksX2_close_2 16 rfl rfl)
theorem dX2_close_66 : decode cX2_close 66 = .ok (.invokevirtual 128, 3) := dk_182 0 128 (dk_at dksX2_close_2 19 rfl rfl)
theorem dX2_close_69 : decode cX2_close 69 = .ok (.if_icmp .ge 68, 3) := dk_162 0 68 (dk_at dksX2_close_3 0 rfl rfl)
theorem dX2_close_72 : decode cX2_close 72 = .ok (.aload 4, 2) := dk_25 4 (dk_at dksX2_close_3 3 rfl rfl)
theorem dX2_close_74 : decode cX2_close 74 = .ok (.getfield 237, 3) := dk_180 0 237 (dk_at dksX2_close_3 5 rfl rfl)
theorem dX2_close_77 : decode cX2_close 77 = .ok (.iload 5, 2) := dk_21 5 (dk_at dksX2_close_3 8 rfl rfl)
theorem dX2_close_79 : decode cX2_close 79 = .ok (.invokevirtual 141, 3) := dk_182 0 141 (dk_at dksX2_close_3 10 rfl rfl)
theorem dX2_close_82 : decode cX2_close 82 = .ok (.checkcast 89, 3) := dk_192 0 89 (dk_at dksX2_close_3 13 rfl rfl)
theorem dX2_close_85 : decode cX2_close 85 = .ok (.astore 6, 2) := dk_58 6 (dk_at dksX2_close_3 16 rfl rfl)
theorem dX2_close_87 : decode cX2_close 87 = .ok (.aload 6, 2) := dk_25 6 (dk_at dksX2_close_3 18 rfl rfl)
theorem dX2_close_89 : decode cX2_close 89 = .ok (.iconst 3, 1) := dk_6 (dk_at dksX2_close_3 20 rfl rfl)
theorem dX2_close_90 : decode cX2_close 90 = .ok (.putfield 151, 3) := dk_181 0 151 (dk_at dksX2_close_3 21 rfl rfl)
theorem dX2_close_93 : decode cX2_close 93 = .ok (.aload 6, 2) := dk_25 6 (dk_at dksX2_close_4 0 rfl rfl)
theorem dX2_close_95 : decode cX2_close 95 = .ok (.aload_n 0, 1) := dk_42 (dk_at dksX2_close_4 2 rfl rfl)
theorem dX2_close_96 : decode cX2_close 96 = .ok (.getfield 40, 3) := dk_180 0 40 (dk_at dksX2_close_4 3 rfl rfl)
theorem dX2_close_99 : decode cX2_close 99 = .ok (.invokevirtual 128, 3) := dk_182 0 128 (dk_at dksX2_close_4 6 rfl rfl)
theorem dX2_close_102 : decode cX2_close 102 = .ok (.putfield 238, 3) := dk_181 0 238 (dk_at dksX2_close_4 9 rfl rfl)
theorem dX2_close_105 : decode cX2_close 105 = .ok (.aload_n 2, 1) := dk_44 (dk_at dksX2_close_4 12 rfl rfl)
theorem dX2_close_106 : decode cX2_close 106 = .ok (.aload_n 2, 1) := dk_44 (dk_at dksX2_close_4 13 rfl rfl)
theorem dX2_close_107 : decode cX2_close 107 = .ok (.getfield 145, 3) := dk_180 0 145 (dk_at dksX2_close_4 14 rfl rfl)
theorem dX2_close_110 : decode cX2_close 110 = .ok (.aload 6, 2) := dk_25 6 (dk_at dksX2_close_4 17 rfl rfl)
theorem dX2_close_112 : decode cX2_close 112 = .ok (.getfield 148, 3) := dk_180 0 148 (dk_at dksX2_close_4 19 rfl rfl)
theorem dX2_close_115 : decode cX2_close 115 = .ok (.invokestatic 241, 3) := dk_184 0 241 (dk_at dksX2_close_5 0 rfl rfl)
theorem dX2_close_118 : decode cX2_close 118 = .ok (.putfield 145, 3) := dk_181 0 145 (dk_at dksX2_close_5 3 rfl rfl)
theorem dX2_close_121 : decode cX2_close 121 = .ok (.aload_n 2, 1) := dk_44 (dk_at dksX2_close_5 6 rfl rfl)
theorem dX2_close_122 : decode cX2_close 122 = .ok (.dup, 1) := dk_89 (dk_at dksX2_close_5 7 rfl rfl)
theorem dX2_close_123 : decode cX2_close 123 = .ok (.getfield 247, 3) := dk_180 0 247 (dk_at dksX2_close_5 8 rfl rfl)
theorem dX2_close_126 : decode cX2_close 126 = .ok (.iconst 1, 1) := dk_4 (dk_at dksX2_close_5 11 rfl rfl)
theorem dX2_close_127 : decode cX2_close 127 = .ok (.iadd, 1) := dk_96 (dk_at dksX2_close_5 12 rfl rfl)
theorem dX2_close_128 : decode cX2_close 128 = .ok (.putfield 247, 3) := dk_181 0 247 (dk_at dksX2_close_5 13 rfl rfl)
theorem dX2_close_131 : decode cX2_close 131 = .ok (.iinc 5 1, 3) := dk_132 5 1 (dk_at dksX2_close_5 16 rfl rfl)
theorem dX2_close_134 : decode cX2_close 134 = .ok (.goto (-75), 3) := dk_167 255 181 (dk_at dksX2_close_5 19 rfl rfl)
theorem dX2_close_137 : decode cX2_close 137 = .ok (.aload 4, 2) := dk_25 4 (dk_at dksX2_close_5 22 rfl rfl)
theorem dX2_close_139 : decode cX2_close 139 = .ok (.invokevirtual 250, 3) := dk_182 0 250 (dk_at dksX2_close_6 0 rfl rfl)
theorem dX2_close_142 : decode cX2_close 142 = .ok (.astore 5, 2) := dk_58 5 (dk_at dksX2_close_6 3 rfl rfl)
theorem dX2_close_144 : decode cX2_close 144 = .ok (.iconst 0, 1) := dk_3 (dk_at dksX2_close_6 5 rfl rfl)
theorem dX2_close_145 : decode cX2_close 145 = .ok (.istore 6, 2) := dk_54 6 (dk_at dksX2_close_6 6 rfl rfl)
theorem dX2_close_147 : decode cX2_close 147 = .ok (.iload 6, 2) := dk_21 6 (dk_at dksX2_close_6 8 rfl rfl)
theorem dX2_close_149 : decode cX2_close 149 = .ok (.aload 5, 2) := dk_25 5 (dk_at dksX2_close_6 10 rfl rfl)
theorem dX2_close_151 : decode cX2_close 151 = .ok (.arraylength, 1) := dk_190 (dk_at dksX2_close_6 12 rfl rfl)
theorem dX2_close_152 : decode cX2_close 152 = .ok (.if_icmp .ge 42, 3) := dk_162 0 42 (dk_at dksX2_close_6 13 rfl rfl)
theorem dX2_close_155 : decode cX2_close 155 = .ok (.aload_n 0, 1) := dk_42 (dk_at dksX2_close_6 16 rfl rfl)
theorem dX2_close_156 : decode cX2_close 156 = .ok (.aload 4, 2) := dk_25 4 (dk_at dksX2_close_6 17 rfl rfl)
theorem dX2_close_158 : decode cX2_close 158 = .ok (.getfield 253, 3) := dk_180 0 253 (dk_at dksX2_close_6 19 rfl rfl)
theorem dX2_close_161 : decode cX2_close 161 = .ok (.iload 6, 2) := dk_21 6 (dk_at dksX2_close_6 22 rfl rfl)
theorem dX2_close_163 : decode cX2_close 163 = .ok (.invokevirtual 141, 3) := dk_182 0 141 (dk_at dksX2_close_7 0 rfl rfl)
theorem dX2_close_166 : decode cX2_close 166 = .ok (.checkcast 116, 3) := dk_192 0 116 (dk_at dksX2_close_7 3 rfl rfl)
theorem dX2_close_169 : decode cX2_close 169 = .ok (.invokevirtual 219, 3) := dk_182 0 219 (dk_at dksX2_close_7 6 rfl rfl)
theorem dX2_close_172 : decode cX2_close 172 = .ok (.aload 5, 2) := dk_25 5 (dk_at dksX2_close_7 9 rfl rfl)
theorem dX2_close_174 : decode cX2_close 174 = .ok (.iload 6, 2) := dk_21 6 (dk_at dksX2_close_7 11 rfl rfl)
theorem dX2_close_176 : decode cX2_close 176 = .ok (.baload, 1) := dk_51 (dk_at dksX2_close_7 13 rfl rfl)
theorem dX2_close_177 : decode cX2_close 177 = .ok (.ifCond .ne 7, 3) := dk_154 0 7 (dk_at dksX2_close_7 14 rfl rfl)
theorem dX2_close_180 : decode cX2_close 180 = .ok (.iconst 1, 1) := dk_4 (dk_at dksX2_close_7 17 rfl rfl)
theorem dX2_close_181 : decode cX2_close 181 = .ok (.goto 4, 3) := dk_167 0 4 (dk_at dksX2_close_7 18 rfl rfl)
theorem dX2_close_184 : decode cX2_close 184 = .ok (.iconst 0, 1) := dk_3 (dk_at dksX2_close_7 21 rfl rfl)
theorem dX2_close_185 : decode cX2_close 185 = .ok (.invokevirtual 256, 3) := dk_182 1 0 (dk_at dksX2_close_8 0 rfl rfl)
theorem dX2_close_188 : decode cX2_close 188 = .ok (.iinc 6 1, 3) := dk_132 6 1 (dk_at dksX2_close_8 3 rfl rfl)
theorem dX2_close_191 : decode cX2_close 191 = .ok (.goto (-44), 3) := dk_167 255 212 (dk_at dksX2_close_8 6 rfl rfl)
theorem dX2_close_194 : decode cX2_close 194 = .ok (.aload_n 2, 1) := dk_44 (dk_at dksX2_close_8 9 rfl rfl)
theorem dX2_close_195 : decode cX2_close 195 = .ok (.dup, 1) := dk_89 (dk_at dksX2_close_8 10 rfl rfl)
theorem dX2_close_196 : decode cX2_close 196 = .ok (.getfield 259, 3) := dk_180 1 3 (dk_at dksX2_close_8 11 rfl rfl)
theorem dX2_close_199 : decode cX2_close 199 = .ok (.iconst 1, 1) := dk_4 (dk_at dksX2_close_8 14 rfl rfl)
theorem dX2_close_200 : decode cX2_close 200 = .ok (.iadd, 1) := dk_96 (dk_at dksX2_close_8 15 rfl rfl)
theorem dX2_close_201 : decode cX2_close 201 = .ok (.putfield 259, 3) := dk_181 1 3 (dk_at dksX2_close_8 16 rfl rfl)
theorem dX2_close_204 : decode cX2_close 204 = .ok (.aload_n 0, 1) := dk_42 (dk_at dksX2_close_8 19 rfl rfl)
theorem dX2_close_205 : decode cX2_close 205 = .ok (.getfield 40, 3) := dk_180 0 40 (dk_at dksX2_close_8 20 rfl rfl)
theorem dX2_close_208 : decode cX2_close 208 = .ok (.aload_n 1, 1) := dk_43 (dk_at dksX2_close_8 23 rfl rfl)
theorem dX2_close_209 : decode cX2_close 209 = .ok (.invokevirtual 85, 3) := dk_182 0 85 (dk_at dksX2_close_9 0 rfl rfl)
theorem dX2_close_212 : decode cX2_close 212 = .ok (.pop, 1) := dk_87 (dk_at dksX2_close_9 3 rfl rfl)
theorem dX2_close_213 : decode cX2_close 213 = .ok (.return_, 1) := dk_177 (dk_at dksX2_close_9 4 rfl rfl)
theorem c_270_0 : LkP (OkP 270) [(0, o_aload 0 1), (1, o_get 10), (4, o_aload 1 1), (5, o_get 133), (8, o_cv [(3, 47)] 1 3 false none), (11, o_cast [13]), (14, o_astore 2 1), (15, o_aload 0 1), (16, o_aload 1 1), (17, o_get 134), (20, o_cv [(1, 268)] 1 3 false none), (23, o_astore 3 1), (24, o_aload 3 1), (25, o_aload 1 1), (26, o_get 135), (29, o_cvN [(12, 421)] 1 true 34 8 35), (32, o_goto 50), (35, o_astore 4 2), (37, o_aload 2 1), (38, o_dup), (39, o_get 71), (42, o_aload 1 1), (43, o_get 135), (46, o_iop (fun x y => x + y)), (47, o_put 71 1), (50, o_aload 1 1), (51, o_get 140), (54, o_astore 4 2), (56, o_push 1 (.int 0)), (57, o_istore 5 2), (59, o_iload 5 2), (61, o_aload 4 2), (63, o_get 127)] := lkp_c (P := OkP 270) ⟨(PuOK.ok (ok_aload_n dX2_close_0 rfl)), m_aload⟩ (
  lkp_c (P := OkP 270) ⟨ok_get ⟨"TollRoad$World", q637, Or.inl rfl⟩ dX2_close_1, m_get⟩ (
  lkp_c (P := OkP 270) ⟨(PuOK.ok (ok_aload_n dX2_close_4 rfl)), m_aload⟩ (
  lkp_c (P := OkP 270) ⟨ok_getN ⟨"TollRoad$Bill", "TollRoad", q2629, Or.inl rfl⟩ dX2_close_5, m_get⟩ (
  lkp_c (P := OkP 270) ⟨ok_cv (List.forall_mem_cons.mpr ⟨tg_V (ci := 3) (r := CLr 3) (y := 47) rfl ⟨rfl, by decide⟩ rfl q2044 q1807 q1808 q120 q1809 ⟨cn_15.1, cn_15.2, pd_27⟩ dX2_close_8, (List.forall_mem_nil _)⟩) (hd_no2 (by decide +kernel)), m_cv⟩ (
  lkp_c (P := OkP 270) ⟨ok_cast q1492 cst_7 dX2_close_11, m_cast⟩ (
  lkp_c (P := OkP 270) ⟨(PuOK.ok (ok_astore_n dX2_close_14 rfl)), m_astore⟩ (
  lkp_c (P := OkP 270) ⟨(PuOK.ok (ok_aload_n dX2_close_15 rfl)), m_aload⟩ (
  lkp_c (P := OkP 270) ⟨(PuOK.ok (ok_aload_n dX2_close_16 rfl)), m_aload⟩ (
  lkp_c (P := OkP 270) ⟨ok_getN ⟨"TollRoad$Bill", "TollRoad", q2632, Or.inl rfl⟩ dX2_close_17, m_get⟩ (
  lkp_c (P := OkP 270) ⟨ok_cv (List.forall_mem_cons.mpr ⟨tg_V (ci := 1) (r := CLr 1) (y := 268) rfl ⟨rfl, by decide⟩ rfl q2588 q2589 q2590 q116 q2591 ⟨cn_36.1, cn_36.2, pd_79⟩ dX2_close_20, (List.forall_mem_nil _)⟩) (hd_no2 (by decide +kernel)), m_cv⟩ (
  lkp_c (P := OkP 270) ⟨(PuOK.ok (ok_astore_n dX2_close_23 rfl)), m_astore⟩ (
  lkp_c (P := OkP 270) ⟨(PuOK.ok (ok_aload_n dX2_close_24 rfl)), m_aload⟩ (
  lkp_c (P := OkP 270) ⟨(PuOK.ok (ok_aload_n dX2_close_25 rfl)), m_aload⟩ (
  lkp_c (P := OkP 270) ⟨ok_getN ⟨"TollRoad$Bill", "TollRoad", q2635, Or.inl rfl⟩ dX2_close_26, m_get⟩ (
  lkp_c (P := OkP 270) ⟨ok_cvN (ik := 0) (E := 34) (h0 := 35) (r := CLr 34) (C := "TollRoad$Account") (List.forall_mem_cons.mpr ⟨tg_V (ci := 12) (r := CLr 12) (y := 421) rfl ⟨rfl, by decide⟩ rfl q2679 q2680 q2681 q144 q2682 ⟨cn_51.1, cn_51.2, pd_9⟩ dX2_close_29, (List.forall_mem_nil _)⟩) rfl rfl rfl (hd_cons (r := CLr 34) (k := 0) (x := ⟨24, 32, 35, 136⟩) rfl rfl (List.forall_mem_nil _) (by decide +kernel) (by decide) q2596 q2126 rfl hd_nil) q2679 q2680 q2682 q2681 ⟨cn_51.1, cn_51.2, pd_9⟩ npe5 npe6 npe7 dX2_close_29, m_cvN⟩ (
  lkp_c (P := OkP 270) ⟨(PuOK.ok (ok_goto dX2_close_32 rfl)), m_goto⟩ (
  lkp_c (P := OkP 270) ⟨(PuOK.ok (ok_astore dX2_close_35)), m_astore⟩ (
  lkp_c (P := OkP 270) ⟨(PuOK.ok (ok_aload_n dX2_close_37 rfl)), m_aload⟩ (
  lkp_c (P := OkP 270) ⟨(PuOK.ok (ok_dup dX2_close_38)), m_dup⟩ (
  lkp_c (P := OkP 270) ⟨ok_getN ⟨"TollRoad$Vehicle", "TollRoad", q1506, Or.inl rfl⟩ dX2_close_39, m_get⟩ (
  lkp_c (P := OkP 270) ⟨(PuOK.ok (ok_aload_n dX2_close_42 rfl)), m_aload⟩ (
  lkp_c (P := OkP 270) ⟨ok_getN ⟨"TollRoad$Bill", "TollRoad", q2635, Or.inl rfl⟩ dX2_close_43, m_get⟩ (
  lkp_c (P := OkP 270) ⟨(PuOK.ok (ok_iadd dX2_close_46)), m_iop⟩ (
  lkp_c (P := OkP 270) ⟨ok_putN ⟨"TollRoad$Vehicle", "TollRoad", q1506, Or.inl rfl⟩ rfl fd_71 rfl dX2_close_47, m_put⟩ (
  lkp_c (P := OkP 270) ⟨(PuOK.ok (ok_aload_n dX2_close_50 rfl)), m_aload⟩ (
  lkp_c (P := OkP 270) ⟨ok_getN ⟨"TollRoad$Bill", "TollRoad", q2646, Or.inl rfl⟩ dX2_close_51, m_get⟩ (
  lkp_c (P := OkP 270) ⟨(PuOK.ok (ok_astore dX2_close_54)), m_astore⟩ (
  lkp_c (P := OkP 270) ⟨(PuOK.ok (ok_iconst dX2_close_56 rfl)), m_push⟩ (
  lkp_c (P := OkP 270) ⟨(PuOK.ok (ok_istore dX2_close_57)), m_istore⟩ (
  lkp_c (P := OkP 270) ⟨(PuOK.ok (ok_iload dX2_close_59)), m_iload⟩ (
  lkp_c (P := OkP 270) ⟨(PuOK.ok (ok_aload dX2_close_61)), m_aload⟩ (
  lkp_c (P := OkP 270) ⟨ok_getN ⟨"TollRoad$Trip", "TollRoad", q2495, Or.inl rfl⟩ dX2_close_63, m_get⟩ (
  trivial)))))))))))))))))))))))))))))))))
theorem c_270_1 : LkP (OkP 270) [(66, o_cv [(3, 42)] 0 3 false none), (69, o_icmp (fun x y => decide (y ≤ x)) 137), (72, o_aload 4 2), (74, o_get 127), (77, o_iload 5 2), (79, o_cv [(3, 47)] 1 3 false none), (82, o_cast [17]), (85, o_astore 6 2), (87, o_aload 6 2), (89, o_push 1 (.int 3)), (90, o_put 95 1), (93, o_aload 6 2), (95, o_aload 0 1), (96, o_get 12), (99, o_cv [(3, 42)] 0 3 false none), (102, o_put 96 1), (105, o_aload 2 1), (106, o_aload 2 1), (107, o_get 73), (110, o_aload 6 2), (112, o_get 91), (115, o_cs 6 2 false none), (118, o_put 73 1), (121, o_aload 2 1), (122, o_dup), (123, o_get 72), (126, o_push 1 (.int 1)), (127, o_iop (fun x y => x + y))] := lkp_c (P := OkP 270) ⟨ok_cv (List.forall_mem_cons.mpr ⟨tg_V (ci := 3) (r := CLr 3) (y := 42) rfl ⟨rfl, by decide⟩ rfl q1559 q1257 q1258 q120 q1259 ⟨cn_15.1, cn_15.2, pd_13⟩ dX2_close_66, (List.forall_mem_nil _)⟩) (hd_no2 (by decide +kernel)), m_cv⟩ (
  lkp_c (P := OkP 270) ⟨(PuOK.ok (ok_icmp_ge dX2_close_69 rfl)), m_icmp⟩ (
  lkp_c (P := OkP 270) ⟨(PuOK.ok (ok_aload dX2_close_72)), m_aload⟩ (
  lkp_c (P := OkP 270) ⟨ok_getN ⟨"TollRoad$Trip", "TollRoad", q2495, Or.inl rfl⟩ dX2_close_74, m_get⟩ (
  lkp_c (P := OkP 270) ⟨(PuOK.ok (ok_iload dX2_close_77)), m_iload⟩ (
  lkp_c (P := OkP 270) ⟨ok_cv (List.forall_mem_cons.mpr ⟨tg_V (ci := 3) (r := CLr 3) (y := 47) rfl ⟨rfl, by decide⟩ rfl q2044 q1807 q1808 q120 q1809 ⟨cn_15.1, cn_15.2, pd_27⟩ dX2_close_79, (List.forall_mem_nil _)⟩) (hd_no2 (by decide +kernel)), m_cv⟩ (
  lkp_c (P := OkP 270) ⟨ok_cast q1829 cst_6 dX2_close_82, m_cast⟩ (
  lkp_c (P := OkP 270) ⟨(PuOK.ok (ok_astore dX2_close_85)), m_astore⟩ (
  lkp_c (P := OkP 270) ⟨(PuOK.ok (ok_aload dX2_close_87)), m_aload⟩ (
  lkp_c (P := OkP 270) ⟨(PuOK.ok (ok_iconst dX2_close_89 rfl)), m_push⟩ (
  lkp_c (P := OkP 270) ⟨ok_putN ⟨"TollRoad$Read", "TollRoad", q2015, Or.inl rfl⟩ rfl fd_95 rfl dX2_close_90, m_put⟩ (
  lkp_c (P := OkP 270) ⟨(PuOK.ok (ok_aload dX2_close_93)), m_aload⟩ (
  lkp_c (P := OkP 270) ⟨(PuOK.ok (ok_aload_n dX2_close_95 rfl)), m_aload⟩ (
  lkp_c (P := OkP 270) ⟨ok_get ⟨"TollRoad$World", q643, Or.inl rfl⟩ dX2_close_96, m_get⟩ (
  lkp_c (P := OkP 270) ⟨ok_cv (List.forall_mem_cons.mpr ⟨tg_V (ci := 3) (r := CLr 3) (y := 42) rfl ⟨rfl, by decide⟩ rfl q1559 q1257 q1258 q120 q1259 ⟨cn_15.1, cn_15.2, pd_13⟩ dX2_close_99, (List.forall_mem_nil _)⟩) (hd_no2 (by decide +kernel)), m_cv⟩ (
  lkp_c (P := OkP 270) ⟨ok_putN ⟨"TollRoad$Read", "TollRoad", q2018, Or.inl rfl⟩ rfl fd_96 rfl dX2_close_102, m_put⟩ (
  lkp_c (P := OkP 270) ⟨(PuOK.ok (ok_aload_n dX2_close_105 rfl)), m_aload⟩ (
  lkp_c (P := OkP 270) ⟨(PuOK.ok (ok_aload_n dX2_close_106 rfl)), m_aload⟩ (
  lkp_c (P := OkP 270) ⟨ok_getN ⟨"TollRoad$Vehicle", "TollRoad", q1512, Or.inl rfl⟩ dX2_close_107, m_get⟩ (
  lkp_c (P := OkP 270) ⟨(PuOK.ok (ok_aload dX2_close_110)), m_aload⟩ (
  lkp_c (P := OkP 270) ⟨ok_getN ⟨"TollRoad$Read", "TollRoad", q2003, Or.inl rfl⟩ dX2_close_112, m_get⟩ (
  lkp_c (P := OkP 270) ⟨ok_cs (tg_S ⟨rfl, by decide⟩ q2683 q356 q130 q357 ⟨cn_1.1, cn_1.2, pd_1⟩ dX2_close_115) (hd_no2 (by decide +kernel)), m_cs⟩ (
  lkp_c (P := OkP 270) ⟨ok_putN ⟨"TollRoad$Vehicle", "TollRoad", q1512, Or.inl rfl⟩ rfl fd_73 rfl dX2_close_118, m_put⟩ (
  lkp_c (P := OkP 270) ⟨(PuOK.ok (ok_aload_n dX2_close_121 rfl)), m_aload⟩ (
  lkp_c (P := OkP 270) ⟨(PuOK.ok (ok_dup dX2_close_122)), m_dup⟩ (
  lkp_c (P := OkP 270) ⟨ok_getN ⟨"TollRoad$Vehicle", "TollRoad", q1509, Or.inl rfl⟩ dX2_close_123, m_get⟩ (
  lkp_c (P := OkP 270) ⟨(PuOK.ok (ok_iconst dX2_close_126 rfl)), m_push⟩ (
  lkp_c (P := OkP 270) ⟨(PuOK.ok (ok_iadd dX2_close_127)), m_iop⟩ (
  trivial))))))))))))))))))))))))))))
theorem c_270_2 : LkP (OkP 270) [(128, o_put 72 1), (131, o_iinc 5 1), (134, o_goto 59), (137, o_aload 4 2), (139, o_cv [(26, 248)] 0 3 false none), (142, o_astore 5 2), (144, o_push 1 (.int 0)), (145, o_istore 6 2), (147, o_iload 6 2), (149, o_aload 5 2), (151, o_alen), (152, o_icmp (fun x y => decide (y ≤ x)) 194), (155, o_aload 0 1), (156, o_aload 4 2), (158, o_get 128), (161, o_iload 6 2), (163, o_cv [(3, 47)] 1 3 false none), (166, o_cast [21]), (169, o_cvs [(21, 21)] 0 3 false), (172, o_aload 5 2), (174, o_iload 6 2), (176, o_rdI 2), (177, o_if (fun x => decide (¬ x = 0)) 184), (180, o_push 1 (.int 1)), (181, o_goto 185), (184, o_push 1 (.int 0)), (185, o_cv [(1, 271)] 2 3 true none), (188, o_iinc 6 1), (191, o_goto 147)] := lkp_c (P := OkP 270) ⟨ok_putN ⟨"TollRoad$Vehicle", "TollRoad", q1509, Or.inl rfl⟩ rfl fd_72 rfl dX2_close_128, m_put⟩ (
  lkp_c (P := OkP 270) ⟨(PuOK.ok (ok_iinc dX2_close_131 rfl)), m_iinc⟩ (
  lkp_c (P := OkP 270) ⟨(PuOK.ok (ok_goto dX2_close_134 rfl)), m_goto⟩ (
  lkp_c (P := OkP 270) ⟨(PuOK.ok (ok_aload dX2_close_137)), m_aload⟩ (
  lkp_c (P := OkP 270) ⟨ok_cv (List.forall_mem_cons.mpr ⟨tg_V (ci := 26) (r := CLr 26) (y := 248) rfl ⟨rfl, by decide⟩ rfl q2684 q2685 q2686 q173 q2687 ⟨cn_46.1, cn_46.2, pd_113⟩ dX2_close_139, (List.forall_mem_nil _)⟩) (hd_no2 (by decide +kernel)), m_cv⟩ (
  lkp_c (P := OkP 270) ⟨(PuOK.ok (ok_astore dX2_close_142)), m_astore⟩ (
  lkp_c (P := OkP 270) ⟨(PuOK.ok (ok_iconst dX2_close_144 rfl)), m_push⟩ (
  lkp_c (P := OkP 270) ⟨(PuOK.ok (ok_istore dX2_close_145)), m_istore⟩ (
  lkp_c (P := OkP 270) ⟨(PuOK.ok (ok_iload dX2_close_147)), m_iload⟩ (
  lkp_c (P := OkP 270) ⟨(PuOK.ok (ok_aload dX2_close_149)), m_aload⟩ (
  lkp_c (P := OkP 270) ⟨ok_alen dX2_close_151, m_alen⟩ (
  lkp_c (P := OkP 270) ⟨(PuOK.ok (ok_icmp_ge dX2_close_152 rfl)), m_icmp⟩ (
  lkp_c (P := OkP 270) ⟨(PuOK.ok (ok_aload_n dX2_close_155 rfl)), m_aload⟩ (
  lkp_c (P := OkP 270) ⟨(PuOK.ok (ok_aload dX2_close_156)), m_aload⟩ (
  lkp_c (P := OkP 270) ⟨ok_getN ⟨"TollRoad$Trip", "TollRoad", q2498, Or.inl rfl⟩ dX2_close_158, m_get⟩ (
  lkp_c (P := OkP 270) ⟨(PuOK.ok (ok_iload dX2_close_161)), m_iload⟩ (
  lkp_c (P := OkP 270) ⟨ok_cv (List.forall_mem_cons.mpr ⟨tg_V (ci := 3) (r := CLr 3) (y := 47) rfl ⟨rfl, by decide⟩ rfl q2044 q1807 q1808 q120 q1809 ⟨cn_15.1, cn_15.2, pd_27⟩ dX2_close_163, (List.forall_mem_nil _)⟩) (hd_no2 (by decide +kernel)), m_cv⟩ (
  lkp_c (P := OkP 270) ⟨ok_cast q1244 cst_1 dX2_close_166, m_cast⟩ (
  lkp_c (P := OkP 270) ⟨ok_cvs (List.forall_mem_cons.mpr ⟨tg_V (ci := 21) (r := CLr 21) (y := 21) rfl ⟨rfl, by decide⟩ rfl q1245 q968 q969 q136 q970 ⟨cn_6.1, cn_6.2, pd_13⟩ dX2_close_169, (List.forall_mem_nil _)⟩) (hd_no2 (by decide +kernel)), m_cvs⟩ (
  lkp_c (P := OkP 270) ⟨(PuOK.ok (ok_aload dX2_close_172)), m_aload⟩ (
  lkp_c (P := OkP 270) ⟨(PuOK.ok (ok_iload dX2_close_174)), m_iload⟩ (
  lkp_c (P := OkP 270) ⟨ok_zald dX2_close_176, m_rdI⟩ (
  lkp_c (P := OkP 270) ⟨(PuOK.ok (ok_if_ne dX2_close_177 rfl)), m_if⟩ (
  lkp_c (P := OkP 270) ⟨(PuOK.ok (ok_iconst dX2_close_180 rfl)), m_push⟩ (
  lkp_c (P := OkP 270) ⟨(PuOK.ok (ok_goto dX2_close_181 rfl)), m_goto⟩ (
  lkp_c (P := OkP 270) ⟨(PuOK.ok (ok_iconst dX2_close_184 rfl)), m_push⟩ (
  lkp_c (P := OkP 270) ⟨ok_cv (List.forall_mem_cons.mpr ⟨tg_V (ci := 1) (r := CLr 1) (y := 271) rfl ⟨rfl, by decide⟩ rfl q2690 q2692 qs34 q116 q2693 ⟨cn_36.1, cn_36.2, pd_104⟩ dX2_close_185, (List.forall_mem_nil _)⟩) (hd_no2 (by decide +kernel)), m_cv⟩ (
  lkp_c (P := OkP 270) ⟨(PuOK.ok (ok_iinc dX2_close_188 rfl)), m_iinc⟩ (
  lkp_c (P := OkP 270) ⟨(PuOK.ok (ok_goto dX2_close_191 rfl)), m_goto⟩ (
  trivial)))))))))))))))))))))))))))))
theorem c_270_3 : LkP (OkP 270) [(194, o_aload 2 1), (195, o_dup), (196, o_get 74), (199, o_push 1 (.int 1)), (200, o_iop (fun x y => x + y)), (201, o_put 74 1), (204, o_aload 0 1), (205, o_get 12), (208, o_aload 1 1), (209, o_cv [(3, 43)] 1 3 false none), (212, o_pop), (213, o_vret)] := lkp_c (P := OkP 270) ⟨(PuOK.ok (ok_aload_n dX2_close_194 rfl)), m_aload⟩ (
  lkp_c (P := OkP 270) ⟨(PuOK.ok (ok_dup dX2_close_195)), m_dup⟩ (
  lkp_c (P := OkP 270) ⟨ok_getN ⟨"TollRoad$Vehicle", "TollRoad", q1515, Or.inl rfl⟩ dX2_close_196, m_get⟩ (
  lkp_c (P := OkP 270) ⟨(PuOK.ok (ok_iconst dX2_close_199 rfl)), m_push⟩ (
  lkp_c (P := OkP 270) ⟨(PuOK.ok (ok_iadd dX2_close_200)), m_iop⟩ (
  lkp_c (P := OkP 270) ⟨ok_putN ⟨"TollRoad$Vehicle", "TollRoad", q1515, Or.inl rfl⟩ rfl fd_74 rfl dX2_close_201, m_put⟩ (
  lkp_c (P := OkP 270) ⟨(PuOK.ok (ok_aload_n dX2_close_204 rfl)), m_aload⟩ (
  lkp_c (P := OkP 270) ⟨ok_get ⟨"TollRoad$World", q643, Or.inl rfl⟩ dX2_close_205, m_get⟩ (
  lkp_c (P := OkP 270) ⟨(PuOK.ok (ok_aload_n dX2_close_208 rfl)), m_aload⟩ (
  lkp_c (P := OkP 270) ⟨ok_cv (List.forall_mem_cons.mpr ⟨tg_V (ci := 3) (r := CLr 3) (y := 43) rfl ⟨rfl, by decide⟩ rfl q1530 q1531 q1532 q120 q1533 ⟨cn_15.1, cn_15.2, pd_12⟩ dX2_close_209, (List.forall_mem_nil _)⟩) (hd_no2 (by decide +kernel)), m_cv⟩ (
  lkp_c (P := OkP 270) ⟨(PuOK.ok (ok_pop dX2_close_212)), m_pop⟩ (
  lkp_c (P := OkP 270) ⟨ok_vret rfl dX2_close_213, m_vret⟩ (
  trivial))))))))))))
theorem mt_270 : MtOK TB NT IT 270 := ⟨by decide +kernel, rfl, (fun h => by cases h), Or.inr rfl, rfl, by decide, lk2_all (P := OkP 270) ⟨c_270_0, c_270_1, c_270_2, c_270_3, trivial⟩⟩
def dkwX2_mark_2 : List UInt8 := [182, 0, 118, 87, 177]
abbrev dktX2_mark_2 : List UInt8 := dkwX2_mark_2 ++ []
def dkwX2_mark_1 : List UInt8 := [180, 0, 46, 45, 25, 4, 199, 0, 7, 4, 167, 0, 10, 25, 4, 182, 0, 219, 4, 96, 184, 0, 171]
abbrev dktX2_mark_1 : List UInt8 := dkwX2_mark_1 ++ dktX2_mark_2
def dkwX2_mark_0 : List UInt8 := [187, 0, 111, 89, 27, 28, 183, 0, 213, 78, 42, 180, 0, 46, 45, 182, 0, 216, 192, 0, 116, 58, 4, 42]
abbrev dktX2_mark_0 : List UInt8 := dkwX2_mark_0 ++ dktX2_mark_1
theorem dksX2_mark_0 : cX2_mark.data.toList.drop 0 = dktX2_mark_0 := by decide +kernel
theorem dksX2_mark_1 : cX2_mark.data.toList.drop 24 = dktX2_mark_1 := dk_seg dksX2_mark_0 24 rfl rfl
theorem dksX2_mark_2 : cX2_mark.data.toList.drop 47 = dktX2_mark_2 := dk_seg dksX2_mark_1 23 rfl rfl
theorem dX2_mark_0 : decode cX2_mark 0 = .ok (.new 111, 3) := dk_187 0 111 (dk_at dksX2_mark_0 0 rfl rfl)
theorem dX2_mark_3 : decode cX2_mark 3 = .ok (.dup, 1) := dk_89 (dk_at dksX2_mark_0 3 rfl rfl)
theorem dX2_mark_4 : decode cX2_mark 4 = .ok (.iload_n 1, 1) := dk_27 (dk_at dksX2_mark_0 4 rfl rfl)
theorem dX2_mark_5 : decode cX2_mark 5 = .ok (.iload_n 2, 1) := dk_28 (dk_at dksX2_mark_0 5 rfl rfl)
theorem dX2_mark_6 : decode cX2_mark 6 = .ok (.invokespecial 213, 3) := dk_183 0 213 (dk_at dksX2_mark_0 6 rfl rfl)
theorem dX2_mark_9 : decode cX2_mark 9 = .ok (.astore_n 3, 1) := dk_78 (dk_at dksX2_mark_0 9 rfl rfl)
theorem dX2_mark_10 : decode cX2_mark 10 = .ok (.aload_n 0, 1) := dk_42 (dk_at dksX2_mark_0 10 rfl rfl)
theorem dX2_mark_11 : decode cX2_mark 11 = .ok (.getfield 46, 3) := dk_180 0 46 (dk_at dksX2_mark_0 11 rfl rfl)
theorem dX2_mark_14 : decode cX2_mark 14 = .ok (.aload_n 3, 1) := dk_45 (dk_at dksX2_mark_0 14 rfl rfl)
theorem dX2_mark_15 : decode cX2_mark 15 = .ok (.invokevirtual 216, 3) := dk_182 0 216 (dk_at dksX2_mark_0 15 rfl rfl)
theorem dX2_mark_18 : decode cX2_mark 18 = .ok (.checkcast 116, 3) := dk_192 0 116 (dk_at dksX2_mark_0 18 rfl rfl)
theorem dX2_mark_21 : decode cX2_mark 21 = .ok (.astore 4, 2) := dk_58 4 (dk_at dksX2_mark_0 21 rfl rfl)
theorem dX2_mark_23 : decode cX2_mark 23 = .ok (.aload_n 0, 1) := dk_42 (dk_at dksX2_mark_0 23 rfl rfl)
theorem dX2_mark_24 : decode cX2_mark 24 = .ok (.getfield 46, 3) := dk_180 0 46 (dk_at dksX2_mark_1 0 rfl rfl)
theorem dX2_mark_27 : decode cX2_mark 27 = .ok (.aload_n 3, 1) := dk_45 (dk_at dksX2_mark_1 3 rfl rfl)
theorem dX2_mark_28 : decode cX2_mark 28 = .ok (.aload 4, 2) := dk_25 4 (dk_at dksX2_mark_1 4 rfl rfl)
theorem dX2_mark_30 : decode cX2_mark 30 = .ok (.ifnonnull 7, 3) := dk_199 0 7 (dk_at dksX2_mark_1 6 rfl rfl)
theorem dX2_mark_33 : decode cX2_mark 33 = .ok (.iconst 1, 1) := dk_4 (dk_at dksX2_mark_1 9 rfl rfl)
theorem dX2_mark_34 : decode cX2_mark 34 = .ok (.goto 10, 3) := dk_167 0 10 (dk_at dksX2_mark_1 10 rfl rfl)
theorem dX2_mark_37 : decode cX2_mark 37 = .ok (.aload 4, 2) := dk_25 4 (dk_at dksX2_mark_1 13 rfl rfl)
theorem dX2_mark_39 : decode cX2_mark 39 = .ok (.invokevirtual 219, 3) := dk_182 0 219 (dk_at dksX2_mark_1 15 rfl rfl)
theorem dX2_mark_42 : decode cX2_mark 42 = .ok (.iconst 1, 1) := dk_4 (dk_at dksX2_mark_1 18 rfl rfl)
theorem dX2_mark_43 : decode cX2_mark 43 = .ok (.iadd, 1) := dk_96 (dk_at dksX2_mark_1 19 rfl rfl)
theorem dX2_mark_44 : decode cX2_mark 44 = .ok (.invokestatic 171, 3) := dk_184 0 171 (dk_at dksX2_mark_1 20 rfl rfl)
theorem dX2_mark_47 : decode cX2_mark 47 = .ok (.invokevirtual 118, 3) := dk_182 0 118 (dk_at dksX2_mark_2 0 rfl rfl)
theorem dX2_mark_50 : decode cX2_mark 50 = .ok (.pop, 1) := dk_87 (dk_at dksX2_mark_2 3 rfl rfl)
theorem dX2_mark_51 : decode cX2_mark 51 = .ok (.return_, 1) := dk_177 (dk_at dksX2_mark_2 4 rfl rfl)
theorem c_271_0 : LkP (OkP 271) [(0, o_new 8 2 dv8), (3, o_dup), (4, o_iload 1 1), (5, o_iload 2 1), (6, o_ci 279 2), (9, o_astore 3 1), (10, o_aload 0 1), (11, o_get 13), (14, o_aload 3 1), (15, o_cv [(6, 29)] 1 3 false none), (18, o_cast [21]), (21, o_astore 4 2), (23, o_aload 0 1), (24, o_get 13), (27, o_aload 3 1), (28, o_aload 4 2), (30, o_ifnonnull 37), (33, o_push 1 (.int 1)), (34, o_goto 44), (37, o_aload 4 2), (39, o_cvs [(21, 21)] 0 3 false), (42, o_push 1 (.int 1)), (43, o_iop (fun x y => x + y)), (44, o_cs 25 1 false none), (47, o_cv [(6, 32)] 2 3 false none), (50, o_pop), (51, o_vret)] := lkp_c (P := OkP 271) ⟨ok_new (ci := 8) (r := CLr 8) rfl dvok_8 q813 q814 q176 dX2_mark_0, m_new⟩ (
  lkp_c (P := OkP 271) ⟨(PuOK.ok (ok_dup dX2_mark_3)), m_dup⟩ (
  lkp_c (P := OkP 271) ⟨(PuOK.ok (ok_iload_n dX2_mark_4 rfl)), m_iload⟩ (
  lkp_c (P := OkP 271) ⟨(PuOK.ok (ok_iload_n dX2_mark_5 rfl)), m_iload⟩ (
  lkp_c (P := OkP 271) ⟨ok_ci (tg_I (rt := none) ⟨rfl, by decide⟩ rfl q815 q816 q176 q817 ⟨cn_50.1, cn_50.2, pd_104⟩ dX2_mark_6) hd_no, m_ci⟩ (
  lkp_c (P := OkP 271) ⟨(PuOK.ok (ok_astore_n dX2_mark_9 rfl)), m_astore⟩ (
  lkp_c (P := OkP 271) ⟨(PuOK.ok (ok_aload_n dX2_mark_10 rfl)), m_aload⟩ (
  lkp_c (P := OkP 271) ⟨ok_get ⟨"TollRoad$World", q645, Or.inl rfl⟩ dX2_mark_11, m_get⟩ (
  lkp_c (P := OkP 271) ⟨(PuOK.ok (ok_aload_n dX2_mark_14 rfl)), m_aload⟩ (
  lkp_c (P := OkP 271) ⟨ok_cv (List.forall_mem_cons.mpr ⟨tg_V (ci := 6) (r := CLr 6) (y := 29) rfl ⟨rfl, by decide⟩ rfl q826 q827 q828 q138 q829 ⟨cn_9.1, cn_9.2, pd_31⟩ dX2_mark_15, (List.forall_mem_nil _)⟩) hd_no, m_cv⟩ (
  lkp_c (P := OkP 271) ⟨ok_cast q1244 cst_1 dX2_mark_18, m_cast⟩ (
  lkp_c (P := OkP 271) ⟨(PuOK.ok (ok_astore dX2_mark_21)), m_astore⟩ (
  lkp_c (P := OkP 271) ⟨(PuOK.ok (ok_aload_n dX2_mark_23 rfl)), m_aload⟩ (
  lkp_c (P := OkP 271) ⟨ok_get ⟨"TollRoad$World", q645, Or.inl rfl⟩ dX2_mark_24, m_get⟩ (
  lkp_c (P := OkP 271) ⟨(PuOK.ok (ok_aload_n dX2_mark_27 rfl)), m_aload⟩ (
  lkp_c (P := OkP 271) ⟨(PuOK.ok (ok_aload dX2_mark_28)), m_aload⟩ (
  lkp_c (P := OkP 271) ⟨(PuOK.ok (ok_ifnonnull dX2_mark_30 rfl)), m_ifnonnull⟩ (
  lkp_c (P := OkP 271) ⟨(PuOK.ok (ok_iconst dX2_mark_33 rfl)), m_push⟩ (
  lkp_c (P := OkP 271) ⟨(PuOK.ok (ok_goto dX2_mark_34 rfl)), m_goto⟩ (
  lkp_c (P := OkP 271) ⟨(PuOK.ok (ok_aload dX2_mark_37)), m_aload⟩ (
  lkp_c (P := OkP 271) ⟨ok_cvs (List.forall_mem_cons.mpr ⟨tg_V (ci := 21) (r := CLr 21) (y := 21) rfl ⟨rfl, by decide⟩ rfl q1245 q968 q969 q136 q970 ⟨cn_6.1, cn_6.2, pd_13⟩ dX2_mark_39, (List.forall_mem_nil _)⟩) hd_no, m_cvs⟩ (
  lkp_c (P := OkP 271) ⟨(PuOK.ok (ok_iconst dX2_mark_42 rfl)), m_push⟩ (
  lkp_c (P := OkP 271) ⟨(PuOK.ok (ok_iadd dX2_mark_43)), m_iop⟩ (
  lkp_c (P := OkP 271) ⟨ok_cs (tg_S ⟨rfl, by decide⟩ q2252 q2253 q136 q2254 ⟨cn_6.1, cn_6.2, pd_101⟩ dX2_mark_44) hd_no, m_cs⟩ (
  lkp_c (P := OkP 271) ⟨ok_cv (List.forall_mem_cons.mpr ⟨tg_V (ci := 6) (r := CLr 6) (y := 32) rfl ⟨rfl, by decide⟩ rfl q2694 q2695 q2696 q138 q2697 ⟨cn_9.1, cn_9.2, pd_106⟩ dX2_mark_47, (List.forall_mem_nil _)⟩) hd_no, m_cv⟩ (
  lkp_c (P := OkP 271) ⟨(PuOK.ok (ok_pop dX2_mark_50)), m_pop⟩ (
  lkp_c (P := OkP 271) ⟨ok_vret rfl dX2_mark_51, m_vret⟩ (
  trivial)))))))))))))))))))))))))))
theorem mt_271 : MtOK TB NT IT 271 := ⟨by decide +kernel, rfl, (fun h => by cases h), Or.inl ⟨rfl, rfl⟩, rfl, by decide, lk2_all (P := OkP 271) ⟨c_271_0, trivial⟩⟩
def dkwX2_due_3 : List UInt8 := [182, 1, 13, 180, 0, 224, 96, 54, 4, 132, 5, 1, 167, 255, 188, 21, 4, 172]
abbrev dktX2_due_3 : List UInt8 := dkwX2_due_3 ++ []
def dkwX2_due_2 : List UInt8 := [28, 182, 1, 9, 153, 0, 33, 21, 4, 42, 27, 45, 21, 5, 182, 0, 141, 192, 0, 184, 21, 5]
abbrev dktX2_due_2 : List UInt8 := dkwX2_due_2 ++ dktX2_due_3
def dkwX2_due_1 : List UInt8 := [180, 0, 40, 182, 0, 128, 21, 5, 96, 16, 60, 162, 0, 50, 42, 45, 21, 5, 182, 0, 141, 192, 0, 184]
abbrev dktX2_due_1 : List UInt8 := dkwX2_due_1 ++ dktX2_due_2
def dkwX2_due_0 : List UInt8 := [42, 27, 182, 1, 5, 78, 3, 54, 4, 3, 54, 5, 21, 5, 45, 182, 0, 128, 162, 0, 65, 42]
abbrev dktX2_due_0 : List UInt8 := dkwX2_due_0 ++ dktX2_due_1
theorem dksX2_due_0 : cX2_due.data.toList.drop 0 = dktX2_due_0 := by decide +kernel
theorem dksX2_due_1 : cX2_due.data.toList.drop 22 = dktX2_due_1 := dk_seg dksX2_due_0 22 rfl rfl
theorem dksX2_due_2 : cX2_due.data.toList.drop 46 = dktX2_due_2 := dk_seg dksX2_due_1 24 rfl rfl
theorem dksX2_due_3 : cX2_due.data.toList.drop 68 = dktX2_due_3 := dk_seg dksX2_due_2 22 rfl rfl
theorem dX2_due_0 : decode cX2_due 0 = .ok (.aload_n 0, 1) := dk_42 (dk_at dksX2_due_0 0 rfl rfl)
theorem dX2_due_1 : decode cX2_due 1 = .ok (.iload_n 1, 1) := dk_27 (dk_at dksX2_due_0 1 rfl rfl)
theorem dX2_due_2 : decode cX2_due 2 = .ok (.invokevirtual 261, 3) := dk_182 1 5 (dk_at dksX2_due_0 2 rfl rfl)
theorem dX2_due_5 : decode cX2_due 5 = .ok (.astore_n 3, 1) := dk_78 (dk_at dksX2_due_0 5 rfl rfl)
theorem dX2_due_6 : decode cX2_due 6 = .ok (.iconst 0, 1) := dk_3 (dk_at dksX2_due_0 6 rfl rfl)
theorem dX2_due_7 : decode cX2_due 7 = .ok (.istore 4, 2) := dk_54 4 (dk_at dksX2_due_0 7 rfl rfl)
theorem dX2_due_9 : decode cX2_due 9 = .ok (.iconst 0, 1) := dk_3 (dk_at dksX2_due_0 9 rfl rfl)
theorem dX2_due_10 : decode cX2_due 10 = .ok (.istore 5, 2) := dk_54 5 (dk_at dksX2_due_0 10 rfl rfl)
theorem dX2_due_12 : decode cX2_due 12 = .ok (.iload 5, 2) := dk_21 5 (dk_at dksX2_due_0 12 rfl rfl)
theorem dX2_due_14 : decode cX2_due 14 = .ok (.aload_n 3, 1) := dk_45 (dk_at dksX2_due_0 14 rfl rfl)
theorem dX2_due_15 : decode cX2_due 15 = .ok (.invokevirtual 128, 3) := dk_182 0 128 (dk_at dksX2_due_0 15 rfl rfl)
theorem dX2_due_18 : decode cX2_due 18 = .ok (.if_icmp .ge 65, 3) := dk_162 0 65 (dk_at dksX2_due_0 18 rfl rfl)
theorem dX2_due_21 : decode cX2_due 21 = .ok (.aload_n 0, 1) := dk_42 (dk_at dksX2_due_0 21 rfl rfl)
theorem dX2_due_22 : decode cX2_due 22 = .ok (.getfield 40, 3) := dk_180 0 40 (dk_at dksX2_due_1 0 rfl rfl)
theorem dX2_due_25 : decode cX2_due 25 = .ok (.invokevirtual 128, 3) := dk_182 0 128 (dk_at dksX2_due_1 3 rfl rfl)
theorem dX2_due_28 : decode cX2_due 28 = .ok (.iload 5, 2) := dk_21 5 (dk_at dksX2_due_1 6 rfl rfl)
theorem dX2_due_30 : decode cX2_due 30 = .ok (.iadd, 1) := dk_96 (dk_at dksX2_due_1 8 rfl rfl)
theorem dX2_due_31 : decode cX2_due 31 = .ok (.bipush 60, 2) := dk_16 60 (dk_at dksX2_due_1 9 rfl rfl)
theorem dX2_due_33 : decode cX2_due 33 = .ok (.if_icmp .ge 50, 3) := dk_162 0 50 (dk_at dksX2_due_1 11 rfl rfl)
theorem dX2_due_36 : decode cX2_due 36 = .ok (.aload_n 0, 1) := dk_42 (dk_at dksX2_due_1 14 rfl rfl)
theorem dX2_due_37 : decode cX2_due 37 = .ok (.aload_n 3, 1) := dk_45 (dk_at dksX2_due_1 15 rfl rfl)
theorem dX2_due_38 : decode cX2_due 38 = .ok (.iload 5, 2) := dk_21 5 (dk_at dksX2_due_1 16 rfl rfl)
theorem dX2_due_40 : decode cX2_due 40 = .ok (.invokevirtual 141, 3) := dk_182 0 141 (dk_at dksX2_due_1 18 rfl rfl)
theorem dX2_due_43 : decode cX2_due 43 = .ok (.checkcast 184, 3) := dk_192 0 184 (dk_at dksX2_due_1 21 rfl rfl)
theorem dX2_due_46 : decode cX2_due 46 = .ok (.iload_n 2, 1) := dk_28 (dk_at dksX2_due_2 0 rfl rfl)
theorem dX2_due_47 : decode cX2_due 47 = .ok (.invokevirtual 265, 3) := dk_182 1 9 (dk_at dksX2_due_2 1 rfl rfl)
theorem dX2_due_50 : decode cX2_due 50 = .ok (.ifCond .eq 33, 3) := dk_153 0 33 (dk_at dksX2_due_2 4 rfl rfl)
theorem dX2_due_53 : decode cX2_due 53 = .ok (.iload 4, 2) := dk_21 4 (dk_at dksX2_due_2 7 rfl rfl)
theorem dX2_due_55 : decode cX2_due 55 = .ok (.aload_n 0, 1) := dk_42 (dk_at dksX2_due_2 9 rfl rfl)
theorem dX2_due_56 : decode cX2_due 56 = .ok (.iload_n 1, 1) := dk_27 (dk_at dksX2_due_2 10 rfl rfl)
theorem dX2_due_57 : decode cX2_due 57 = .ok (.aload_n 3, 1) := dk_45 (dk_at dksX2_due_2 11 rfl rfl)
theorem dX2_due_58 : decode cX2_due 58 = .ok (.iload 5, 2) := dk_21 5 (dk_at dksX2_due_2 12 rfl rfl)
theorem dX2_due_60 : decode cX2_due 60 = .ok (.invokevirtual 141, 3) := dk_182 0 141 (dk_at dksX2_due_2 14 rfl rfl)
theorem dX2_due_63 : decode cX2_due 63 = .ok (.checkcast 184, 3) := dk_192 0 184 (dk_at dksX2_due_2 17 rfl rfl)
theorem dX2_due_66 : decode cX2_due 66 = .ok (.iload 5, 2) := dk_21 5 (dk_at dksX2_due_2 20 rfl rfl)
theorem dX2_due_68 : decode cX2_due 68 = .ok (.invokevirtual 269, 3) := dk_182 1 13 (dk_at dksX2_due_3 0 rfl rfl)
theorem dX2_due_71 : decode cX2_due 71 = .ok (.getfield 224, 3) := dk_180 0 224 (dk_at dksX2_due_3 3 rfl rfl)
theorem dX2_due_74 : decode cX2_due 74 = .ok (.iadd, 1) := dk_96 (dk_at dksX2_due_3 6 rfl rfl)
theorem dX2_due_75 : decode cX2_due 75 = .ok (.istore 4, 2) := dk_54 4 (dk_at dksX2_due_3 7 rfl rfl)
theorem dX2_due_77 : decode cX2_due 77 = .ok (.iinc 5 1, 3) := dk_132 5 1 (dk_at dksX2_due_3 9 rfl rfl)
theorem dX2_due_80 : decode cX2_due 80 = .ok (.goto (-68), 3) := dk_167 255 188 (dk_at dksX2_due_3 12 rfl rfl)
theorem dX2_due_83 : decode cX2_due 83 = .ok (.iload 4, 2) := dk_21 4 (dk_at dksX2_due_3 15 rfl rfl)
theorem dX2_due_85 : decode cX2_due 85 = .ok (.ireturn, 1) := dk_172 (dk_at dksX2_due_3 17 rfl rfl)
theorem c_272_0 : LkP (OkP 272) [(0, o_aload 0 1), (1, o_iload 1 1), (2, o_cv [(1, 264)] 1 3 false none), (5, o_astore 3 1), (6, o_push 1 (.int 0)), (7, o_istore 4 2), (9, o_push 1 (.int 0)), (10, o_istore 5 2), (12, o_iload 5 2), (14, o_aload 3 1), (15, o_cv [(3, 42)] 0 3 false none), (18, o_icmp (fun x y => decide (y ≤ x)) 83), (21, o_aload 0 1), (22, o_get 12), (25, o_cv [(3, 42)] 0 3 false none), (28, o_iload 5 2), (30, o_iop (fun x y => x + y)), (31, o_push 2 (.int 60)), (33, o_icmp (fun x y => decide (y ≤ x)) 83), (36, o_aload 0 1), (37, o_aload 3 1), (38, o_iload 5 2), (40, o_cv [(3, 47)] 1 3 false none), (43, o_cast [26]), (46, o_iload 2 1), (47, o_cv [(1, 266)] 2 3 false none), (50, o_if (fun x => decide (x = 0)) 83), (53, o_iload 4 2), (55, o_aload 0 1), (56, o_iload 1 1), (57, o_aload 3 1), (58, o_iload 5 2), (60, o_cv [(3, 47)] 1 3 false none), (63, o_cast [26])] := lkp_c (P := OkP 272) ⟨(PuOK.ok (ok_aload_n dX2_due_0 rfl)), m_aload⟩ (
  lkp_c (P := OkP 272) ⟨(PuOK.ok (ok_iload_n dX2_due_1 rfl)), m_iload⟩ (
  lkp_c (P := OkP 272) ⟨ok_cv (List.forall_mem_cons.mpr ⟨tg_V (ci := 1) (r := CLr 1) (y := 264) rfl ⟨rfl, by decide⟩ rfl q2577 q2221 q2222 q116 q2223 ⟨cn_36.1, cn_36.2, pd_91⟩ dX2_due_2, (List.forall_mem_nil _)⟩) hd_no, m_cv⟩ (
  lkp_c (P := OkP 272) ⟨(PuOK.ok (ok_astore_n dX2_due_5 rfl)), m_astore⟩ (
  lkp_c (P := OkP 272) ⟨(PuOK.ok (ok_iconst dX2_due_6 rfl)), m_push⟩ (
  lkp_c (P := OkP 272) ⟨(PuOK.ok (ok_istore dX2_due_7)), m_istore⟩ (
  lkp_c (P := OkP 272) ⟨(PuOK.ok (ok_iconst dX2_due_9 rfl)), m_push⟩ (
  lkp_c (P := OkP 272) ⟨(PuOK.ok (ok_istore dX2_due_10)), m_istore⟩ (
  lkp_c (P := OkP 272) ⟨(PuOK.ok (ok_iload dX2_due_12)), m_iload⟩ (
  lkp_c (P := OkP 272) ⟨(PuOK.ok (ok_aload_n dX2_due_14 rfl)), m_aload⟩ (
  lkp_c (P := OkP 272) ⟨ok_cv (List.forall_mem_cons.mpr ⟨tg_V (ci := 3) (r := CLr 3) (y := 42) rfl ⟨rfl, by decide⟩ rfl q1559 q1257 q1258 q120 q1259 ⟨cn_15.1, cn_15.2, pd_13⟩ dX2_due_15, (List.forall_mem_nil _)⟩) hd_no, m_cv⟩ (
  lkp_c (P := OkP 272) ⟨(PuOK.ok (ok_icmp_ge dX2_due_18 rfl)), m_icmp⟩ (
  lkp_c (P := OkP 272) ⟨(PuOK.ok (ok_aload_n dX2_due_21 rfl)), m_aload⟩ (
  lkp_c (P := OkP 272) ⟨ok_get ⟨"TollRoad$World", q643, Or.inl rfl⟩ dX2_due_22, m_get⟩ (
  lkp_c (P := OkP 272) ⟨ok_cv (List.forall_mem_cons.mpr ⟨tg_V (ci := 3) (r := CLr 3) (y := 42) rfl ⟨rfl, by decide⟩ rfl q1559 q1257 q1258 q120 q1259 ⟨cn_15.1, cn_15.2, pd_13⟩ dX2_due_25, (List.forall_mem_nil _)⟩) hd_no, m_cv⟩ (
  lkp_c (P := OkP 272) ⟨(PuOK.ok (ok_iload dX2_due_28)), m_iload⟩ (
  lkp_c (P := OkP 272) ⟨(PuOK.ok (ok_iadd dX2_due_30)), m_iop⟩ (
  lkp_c (P := OkP 272) ⟨(PuOK.ok (ok_bipush dX2_due_31 rfl)), m_push⟩ (
  lkp_c (P := OkP 272) ⟨(PuOK.ok (ok_icmp_ge dX2_due_33 rfl)), m_icmp⟩ (
  lkp_c (P := OkP 272) ⟨(PuOK.ok (ok_aload_n dX2_due_36 rfl)), m_aload⟩ (
  lkp_c (P := OkP 272) ⟨(PuOK.ok (ok_aload_n dX2_due_37 rfl)), m_aload⟩ (
  lkp_c (P := OkP 272) ⟨(PuOK.ok (ok_iload dX2_due_38)), m_iload⟩ (
  lkp_c (P := OkP 272) ⟨ok_cv (List.forall_mem_cons.mpr ⟨tg_V (ci := 3) (r := CLr 3) (y := 47) rfl ⟨rfl, by decide⟩ rfl q2044 q1807 q1808 q120 q1809 ⟨cn_15.1, cn_15.2, pd_27⟩ dX2_due_40, (List.forall_mem_nil _)⟩) hd_no, m_cv⟩ (
  lkp_c (P := OkP 272) ⟨ok_cast q2484 cst_8 dX2_due_43, m_cast⟩ (
  lkp_c (P := OkP 272) ⟨(PuOK.ok (ok_iload_n dX2_due_46 rfl)), m_iload⟩ (
  lkp_c (P := OkP 272) ⟨ok_cv (List.forall_mem_cons.mpr ⟨tg_V (ci := 1) (r := CLr 1) (y := 266) rfl ⟨rfl, by decide⟩ rfl q2578 q2579 q2580 q116 q2581 ⟨cn_36.1, cn_36.2, pd_109⟩ dX2_due_47, (List.forall_mem_nil _)⟩) hd_no, m_cv⟩ (
  lkp_c (P := OkP 272) ⟨(PuOK.ok (ok_if_eq dX2_due_50 rfl)), m_if⟩ (
  lkp_c (P := OkP 272) ⟨(PuOK.ok (ok_iload dX2_due_53)), m_iload⟩ (
  lkp_c (P := OkP 272) ⟨(PuOK.ok (ok_aload_n dX2_due_55 rfl)), m_aload⟩ (
  lkp_c (P := OkP 272) ⟨(PuOK.ok (ok_iload_n dX2_due_56 rfl)), m_iload⟩ (
  lkp_c (P := OkP 272) ⟨(PuOK.ok (ok_aload_n dX2_due_57 rfl)), m_aload⟩ (
  lkp_c (P := OkP 272) ⟨(PuOK.ok (ok_iload dX2_due_58)), m_iload⟩ (
  lkp_c (P := OkP 272) ⟨ok_cv (List.forall_mem_cons.mpr ⟨tg_V (ci := 3) (r := CLr 3) (y := 47) rfl ⟨rfl, by decide⟩ rfl q2044 q1807 q1808 q120 q1809 ⟨cn_15.1, cn_15.2, pd_27⟩ dX2_due_60, (List.forall_mem_nil _)⟩) hd_no, m_cv⟩ (
  lkp_c (P := OkP 272) ⟨ok_cast q2484 cst_8 dX2_due_63, m_cast⟩ (
  trivial))))))))))))))))))))))))))))))))))
theorem c_272_1 : LkP (OkP 272) [(66, o_iload 5 2), (68, o_cv [(1, 267)] 3 3 false none), (71, o_get 135), (74, o_iop (fun x y => x + y)), (75, o_istore 4 2), (77, o_iinc 5 1), (80, o_goto 12), (83, o_iload 4 2), (85, o_ret 1)] := lkp_c (P := OkP 272) ⟨(PuOK.ok (ok_iload dX2_due_66)), m_iload⟩ (
  lkp_c (P := OkP 272) ⟨ok_cv (List.forall_mem_cons.mpr ⟨tg_V (ci := 1) (r := CLr 1) (y := 267) rfl ⟨rfl, by decide⟩ rfl q2583 q2584 q2585 q116 q2586 ⟨cn_36.1, cn_36.2, pd_110⟩ dX2_due_68, (List.forall_mem_nil _)⟩) hd_no, m_cv⟩ (
  lkp_c (P := OkP 272) ⟨ok_getN ⟨"TollRoad$Bill", "TollRoad", q2635, Or.inl rfl⟩ dX2_due_71, m_get⟩ (
  lkp_c (P := OkP 272) ⟨(PuOK.ok (ok_iadd dX2_due_74)), m_iop⟩ (
  lkp_c (P := OkP 272) ⟨(PuOK.ok (ok_istore dX2_due_75)), m_istore⟩ (
  lkp_c (P := OkP 272) ⟨(PuOK.ok (ok_iinc dX2_due_77 rfl)), m_iinc⟩ (
  lkp_c (P := OkP 272) ⟨(PuOK.ok (ok_goto dX2_due_80 rfl)), m_goto⟩ (
  lkp_c (P := OkP 272) ⟨(PuOK.ok (ok_iload dX2_due_83)), m_iload⟩ (
  lkp_c (P := OkP 272) ⟨ok_iret rfl rfl (by decide) dX2_due_85, m_ret⟩ (
  trivial)))))))))
theorem mt_272 : MtOK TB NT IT 272 := ⟨by decide +kernel, rfl, (fun h => by cases h), Or.inl ⟨rfl, rfl⟩, rfl, by decide, lk2_all (P := OkP 272) ⟨c_272_0, c_272_1, trivial⟩⟩
def dkwX2_dispute_3 : List UInt8 := [180, 0, 230, 29, 100, 181, 0, 230, 29, 172]
abbrev dktX2_dispute_3 : List UInt8 := dkwX2_dispute_3 ++ []
def dkwX2_dispute_2 : List UInt8 := [182, 1, 76, 167, 0, 28, 58, 5, 42, 180, 0, 33, 43, 180, 0, 222, 182, 0, 141, 192, 0, 80, 89]
abbrev dktX2_dispute_2 : List UInt8 := dkwX2_dispute_2 ++ dktX2_dispute_3
def dkwX2_dispute_1 : List UInt8 := [181, 1, 74, 42, 43, 180, 0, 223, 182, 0, 202, 58, 4, 29, 154, 0, 5, 3, 172, 25, 4, 29]
abbrev dktX2_dispute_1 : List UInt8 := dkwX2_dispute_1 ++ dktX2_dispute_2
def dkwX2_dispute_0 : List UInt8 := [42, 43, 28, 182, 1, 67, 62, 43, 29, 158, 0, 7, 4, 167, 0, 4, 5, 181, 1, 71, 43, 29]
abbrev dktX2_dispute_0 : List UInt8 := dkwX2_dispute_0 ++ dktX2_dispute_1
theorem dksX2_dispute_0 : cX2_dispute.data.toList.drop 0 = dktX2_dispute_0 := by decide +kernel
theorem dksX2_dispute_1 : cX2_dispute.data.toList.drop 22 = dktX2_dispute_1 := dk_seg dksX2_dispute_0 22 rfl rfl
theorem dksX2_dispute_2 : cX2_dispute.data.toList.drop 44 = dktX2_dispute_2 := dk_seg dksX2_dispute_1 22 rfl rfl
theorem dksX2_dispute_3 : cX2_dispute.data.toList.drop 67 = dktX2_dispute_3 := dk_seg dksX2_dispute_2 23 rfl rfl
theorem dX2_dispute_0 : decode cX2_dispute 0 = .ok (.aload_n 0, 1) := dk_42 (dk_at dksX2_dispute_0 0 rfl rfl)
theorem dX2_dispute_1 : decode cX2_dispute 1 = .ok (.aload_n 1, 1) := dk_43 (dk_at dksX2_dispute_0 1 rfl rfl)
theorem dX2_dispute_2 : decode cX2_dispute 2 = .ok (.iload_n 2, 1) := dk_28 (dk_at dksX2_dispute_0 2 rfl rfl)
theorem dX2_dispute_3 : decode cX2_dispute 3 = .ok (.invokevirtual 323, 3) := dk_182 1 67 (dk_at dksX2_dispute_0 3 rfl rfl)
theorem dX2_dispute_6 : decode cX2_dispute 6 = .ok (.istore_n 3, 1) := dk_62 (dk_at dksX2_dispute_0 6 rfl rfl)
theorem dX2_dispute_7 : decode cX2_dispute 7 = .ok (.aload_n 1, 1) := dk_43 (dk_at dksX2_dispute_0 7 rfl rfl)
theorem dX2_dispute_8 : decode cX2_dispute 8 = .ok (.iload_n 3, 1) := dk_29 (dk_at dksX2_dispute_0 8 rfl rfl)
theorem dX2_dispute_9 : decode cX2_dispute 9 = .ok (.ifCond .le 7, 3) := dk_158 0 7 (dk_at dksX2_dispute_0 9 rfl rfl)
theorem dX2_dispute_12 : decode cX2_dispute 12 = .ok (.iconst 1, 1) := dk_4 (dk_at dksX2_dispute_0 12 rfl rfl)
theorem dX2_dispute_13 : decode cX2_dispute 13 = .ok (.goto 4, 3) := dk_167 0 4 (dk_at dksX2_dispute_0 13 rfl rfl)
theorem dX2_dispute_16 : decode cX2_dispute 16 = .ok (.iconst 2, 1) := dk_5 (dk_at dksX2_dispute_0 16 rfl rfl)
theorem dX2_dispute_17 : decode cX2_dispute 17 = .ok (.putfield 327, 3) := dk_181 1 71 (dk_at dksX2_dispute_0 17 rfl rfl)
theorem dX2_dispute_20 : decode cX2_dispute 20 = .ok (.aload_n 1, 1) := dk_43 (dk_at dksX2_dispute_0 20 rfl rfl)
theorem dX2_dispute_21 : decode cX2_dispute 21 = .ok (.iload_n 3, 1) := dk_29 (dk_at dksX2_dispute_0 21 rfl rfl)
theorem dX2_dispute_22 : decode cX2_dispute 22 = .ok (.putfield 330, 3) := dk_181 1 74 (dk_at dksX2_dispute_1 0 rfl rfl)
theorem dX2_dispute_25 : decode cX2_dispute 25 = .ok (.aload_n 0, 1) := dk_42 (dk_at dksX2_dispute_1 3 rfl rfl)
theorem dX2_dispute_26 : decode cX2_dispute 26 = .ok (.aload_n 1, 1) := dk_43 (dk_at dksX2_dispute_1 4 rfl rfl)
theorem dX2_dispute_27 : decode cX2_dispute 27 = .ok (.getfield 223, 3) := dk_180 0 223 (dk_at dksX2_dispute_1 5 rfl rfl)
theorem dX2_dispute_30 : decode cX2_dispute 30 = .ok (.invokevirtual 202, 3) := dk_182 0 202 (dk_at dksX2_dispute_1 8 rfl rfl)
theorem dX2_dispute_33 : decode cX2_dispute 33 = .ok (.astore 4, 2) := dk_58 4 (dk_at dksX2_dispute_1 11 rfl rfl)
theorem dX2_dispute_35 : decode cX2_dispute 35 = .ok (.iload_n 3, 1) := dk_29 (dk_at dksX2_dispute_1 13 rfl rfl)
theorem dX2_dispute_36 : decode cX2_dispute 36 = .ok (.ifCond .ne 5, 3) := dk_154 0 5 (dk_at dksX2_dispute_1 14 rfl rfl)
theorem dX2_dispute_39 : decode cX2_dispute 39 = .ok (.iconst 0, 1) := dk_3 (dk_at dksX2_dispute_1 17 rfl rfl)
theorem dX2_dispute_40 : decode cX2_dispute 40 = .ok (.ireturn, 1) := dk_172 (dk_at dksX2_dispute_1 18 rfl rfl)
theorem dX2_dispute_41 : decode cX2_dispute 41 = .ok (.aload 4, 2) := dk_25 4 (dk_at dksX2_dispute_1 19 rfl rfl)
theorem dX2_dispute_43 : decode cX2_dispute 43 = .ok (.iload_n 3, 1) := dk_29 (dk_at dksX2_dispute_1 21 rfl rfl)
theorem dX2_dispute_44 : decode cX2_dispute 44 = .ok (.invokevirtual 332, 3) := dk_182 1 76 (dk_at dksX2_dispute_2 0 rfl rfl)
theorem dX2_dispute_47 : decode cX2_dispute 47 = .ok (.goto 28, 3) := dk_167 0 28 (dk_at dksX2_dispute_2 3 rfl rfl)
theorem dX2_dispute_50 : decode cX2_dispute 50 = .ok (.astore 5, 2) := dk_58 5 (dk_at dksX2_dispute_2 6 rfl rfl)
theorem dX2_dispute_52 : decode cX2_dispute 52 = .ok (.aload_n 0, 1) := dk_42 (dk_at dksX2_dispute_2 8 rfl rfl)
theorem dX2_dispute_53 : decode cX2_dispute 53 = .ok (.getfield 33, 3) := dk_180 0 33 (dk_at dksX2_dispute_2 9 rfl rfl)
theorem dX2_dispute_56 : decode cX2_dispute 56 = .ok (.aload_n 1, 1) := dk_43 (dk_at dksX2_dispute_2 12 rfl rfl)
theorem dX2_dispute_57 : decode cX2_dispute 57 = .ok (.getfield 222, 3) := dk_180 0 222 (dk_at dksX2_dispute_2 13 rfl rfl)
theorem dX2_dispute_60 : decode cX2_dispute 60 = .ok (.invokevirtual 141, 3) := dk_182 0 141 (dk_at dksX2_dispute_2 16 rfl rfl)
theorem dX2_dispute_63 : decode cX2_dispute 63 = .ok (.checkcast 80, 3) := dk_192 0 80 (dk_at dksX2_dispute_2 19 rfl rfl)
theorem dX2_dispute_66 : decode cX2_dispute 66 = .ok (.dup, 1) := dk_89 (dk_at dksX2_dispute_2 22 rfl rfl)
theorem dX2_dispute_67 : decode cX2_dispute 67 = .ok (.getfield 230, 3) := dk_180 0 230 (dk_at dksX2_dispute_3 0 rfl rfl)
theorem dX2_dispute_70 : decode cX2_dispute 70 = .ok (.iload_n 3, 1) := dk_29 (dk_at dksX2_dispute_3 3 rfl rfl)
theorem dX2_dispute_71 : decode cX2_dispute 71 = .ok (.isub, 1) := dk_100 (dk_at dksX2_dispute_3 4 rfl rfl)
theorem dX2_dispute_72 : decode cX2_dispute 72 = .ok (.putfield 230, 3) := dk_181 0 230 (dk_at dksX2_dispute_3 5 rfl rfl)
theorem dX2_dispute_75 : decode cX2_dispute 75 = .ok (.iload_n 3, 1) := dk_29 (dk_at dksX2_dispute_3 8 rfl rfl)
theorem dX2_dispute_76 : decode cX2_dispute 76 = .ok (.ireturn, 1) := dk_172 (dk_at dksX2_dispute_3 9 rfl rfl)
theorem c_273_0 : LkP (OkP 273) [(0, o_aload 0 1), (1, o_aload 1 1), (2, o_iload 2 1), (3, o_cv [(1, 274)] 2 3 false none), (6, o_istore 3 1), (7, o_aload 1 1), (8, o_iload 3 1), (9, o_if (fun x => decide (x ≤ 0)) 16), (12, o_push 1 (.int 1)), (13, o_goto 17), (16, o_push 1 (.int 2)), (17, o_put 141 1), (20, o_aload 1 1), (21, o_iload 3 1), (22, o_put 142 1), (25, o_aload 0 1), (26, o_aload 1 1), (27, o_get 134), (30, o_cv [(1, 268)] 1 3 false none), (33, o_astore 4 2), (35, o_iload 3 1), (36, o_if (fun x => decide (¬ x = 0)) 41), (39, o_push 1 (.int 0)), (40, o_ret 1), (41, o_aload 4 2), (43, o_iload 3 1), (44, o_cvN [(12, 422)] 1 true 34 8 50), (47, o_goto 75), (50, o_astore 5 2), (52, o_aload 0 1), (53, o_get 10), (56, o_aload 1 1), (57, o_get 133), (60, o_cv [(3, 47)] 1 3 false none), (63, o_cast [13])] := lkp_c (P := OkP 273) ⟨(PuOK.ok (ok_aload_n dX2_dispute_0 rfl)), m_aload⟩ (
  lkp_c (P := OkP 273) ⟨(PuOK.ok (ok_aload_n dX2_dispute_1 rfl)), m_aload⟩ (
  lkp_c (P := OkP 273) ⟨(PuOK.ok (ok_iload_n dX2_dispute_2 rfl)), m_iload⟩ (
  lkp_c (P := OkP 273) ⟨ok_cv (List.forall_mem_cons.mpr ⟨tg_V (ci := 1) (r := CLr 1) (y := 274) rfl ⟨rfl, by decide⟩ rfl q2891 q2892 q2893 q116 q2894 ⟨cn_36.1, cn_36.2, pd_94⟩ dX2_dispute_3, (List.forall_mem_nil _)⟩) (hd_no2 (by decide +kernel)), m_cv⟩ (
  lkp_c (P := OkP 273) ⟨(PuOK.ok (ok_istore_n dX2_dispute_6 rfl)), m_istore⟩ (
  lkp_c (P := OkP 273) ⟨(PuOK.ok (ok_aload_n dX2_dispute_7 rfl)), m_aload⟩ (
  lkp_c (P := OkP 273) ⟨(PuOK.ok (ok_iload_n dX2_dispute_8 rfl)), m_iload⟩ (
  lkp_c (P := OkP 273) ⟨(PuOK.ok (ok_if_le dX2_dispute_9 rfl)), m_if⟩ (
  lkp_c (P := OkP 273) ⟨(PuOK.ok (ok_iconst dX2_dispute_12 rfl)), m_push⟩ (
  lkp_c (P := OkP 273) ⟨(PuOK.ok (ok_goto dX2_dispute_13 rfl)), m_goto⟩ (
  lkp_c (P := OkP 273) ⟨(PuOK.ok (ok_iconst dX2_dispute_16 rfl)), m_push⟩ (
  lkp_c (P := OkP 273) ⟨ok_putN ⟨"TollRoad$Bill", "TollRoad", q2650, Or.inl rfl⟩ rfl fd_141 rfl dX2_dispute_17, m_put⟩ (
  lkp_c (P := OkP 273) ⟨(PuOK.ok (ok_aload_n dX2_dispute_20 rfl)), m_aload⟩ (
  lkp_c (P := OkP 273) ⟨(PuOK.ok (ok_iload_n dX2_dispute_21 rfl)), m_iload⟩ (
  lkp_c (P := OkP 273) ⟨ok_putN ⟨"TollRoad$Bill", "TollRoad", q2652, Or.inl rfl⟩ rfl fd_142 rfl dX2_dispute_22, m_put⟩ (
  lkp_c (P := OkP 273) ⟨(PuOK.ok (ok_aload_n dX2_dispute_25 rfl)), m_aload⟩ (
  lkp_c (P := OkP 273) ⟨(PuOK.ok (ok_aload_n dX2_dispute_26 rfl)), m_aload⟩ (
  lkp_c (P := OkP 273) ⟨ok_getN ⟨"TollRoad$Bill", "TollRoad", q2632, Or.inl rfl⟩ dX2_dispute_27, m_get⟩ (
  lkp_c (P := OkP 273) ⟨ok_cv (List.forall_mem_cons.mpr ⟨tg_V (ci := 1) (r := CLr 1) (y := 268) rfl ⟨rfl, by decide⟩ rfl q2588 q2589 q2590 q116 q2591 ⟨cn_36.1, cn_36.2, pd_79⟩ dX2_dispute_30, (List.forall_mem_nil _)⟩) (hd_no2 (by decide +kernel)), m_cv⟩ (
  lkp_c (P := OkP 273) ⟨(PuOK.ok (ok_astore dX2_dispute_33)), m_astore⟩ (
  lkp_c (P := OkP 273) ⟨(PuOK.ok (ok_iload_n dX2_dispute_35 rfl)), m_iload⟩ (
  lkp_c (P := OkP 273) ⟨(PuOK.ok (ok_if_ne dX2_dispute_36 rfl)), m_if⟩ (
  lkp_c (P := OkP 273) ⟨(PuOK.ok (ok_iconst dX2_dispute_39 rfl)), m_push⟩ (
  lkp_c (P := OkP 273) ⟨ok_iret rfl rfl (by decide) dX2_dispute_40, m_ret⟩ (
  lkp_c (P := OkP 273) ⟨(PuOK.ok (ok_aload dX2_dispute_41)), m_aload⟩ (
  lkp_c (P := OkP 273) ⟨(PuOK.ok (ok_iload_n dX2_dispute_43 rfl)), m_iload⟩ (
  lkp_c (P := OkP 273) ⟨ok_cvN (ik := 0) (E := 34) (h0 := 50) (r := CLr 34) (C := "TollRoad$Account") (List.forall_mem_cons.mpr ⟨tg_V (ci := 12) (r := CLr 12) (y := 422) rfl ⟨rfl, by decide⟩ rfl q2918 q2919 q2920 q144 q2921 ⟨cn_51.1, cn_51.2, pd_9⟩ dX2_dispute_44, (List.forall_mem_nil _)⟩) rfl rfl rfl (hd_cons (r := CLr 34) (k := 0) (x := ⟨41, 47, 50, 136⟩) rfl rfl (List.forall_mem_nil _) (by decide +kernel) (by decide) q2596 q2126 rfl hd_nil) q2918 q2919 q2921 q2920 ⟨cn_51.1, cn_51.2, pd_9⟩ npe5 npe6 npe7 dX2_dispute_44, m_cvN⟩ (
  lkp_c (P := OkP 273) ⟨(PuOK.ok (ok_goto dX2_dispute_47 rfl)), m_goto⟩ (
  lkp_c (P := OkP 273) ⟨(PuOK.ok (ok_astore dX2_dispute_50)), m_astore⟩ (
  lkp_c (P := OkP 273) ⟨(PuOK.ok (ok_aload_n dX2_dispute_52 rfl)), m_aload⟩ (
  lkp_c (P := OkP 273) ⟨ok_get ⟨"TollRoad$World", q637, Or.inl rfl⟩ dX2_dispute_53, m_get⟩ (
  lkp_c (P := OkP 273) ⟨(PuOK.ok (ok_aload_n dX2_dispute_56 rfl)), m_aload⟩ (
  lkp_c (P := OkP 273) ⟨ok_getN ⟨"TollRoad$Bill", "TollRoad", q2629, Or.inl rfl⟩ dX2_dispute_57, m_get⟩ (
  lkp_c (P := OkP 273) ⟨ok_cv (List.forall_mem_cons.mpr ⟨tg_V (ci := 3) (r := CLr 3) (y := 47) rfl ⟨rfl, by decide⟩ rfl q2044 q1807 q1808 q120 q1809 ⟨cn_15.1, cn_15.2, pd_27⟩ dX2_dispute_60, (List.forall_mem_nil _)⟩) (hd_no2 (by decide +kernel)), m_cv⟩ (
  lkp_c (P := OkP 273) ⟨ok_cast q1492 cst_7 dX2_dispute_63, m_cast⟩ (
  trivial)))))))))))))))))))))))))))))))))))
theorem c_273_1 : LkP (OkP 273) [(66, o_dup), (67, o_get 71), (70, o_iload 3 1), (71, o_iop (fun x y => x - y)), (72, o_put 71 1), (75, o_iload 3 1), (76, o_ret 1)] := lkp_c (P := OkP 273) ⟨(PuOK.ok (ok_dup dX2_dispute_66)), m_dup⟩ (
  lkp_c (P := OkP 273) ⟨ok_getN ⟨"TollRoad$Vehicle", "TollRoad", q1506, Or.inl rfl⟩ dX2_dispute_67, m_get⟩ (
  lkp_c (P := OkP 273) ⟨(PuOK.ok (ok_iload_n dX2_dispute_70 rfl)), m_iload⟩ (
  lkp_c (P := OkP 273) ⟨(PuOK.ok (ok_isub dX2_dispute_71)), m_iop⟩ (
  lkp_c (P := OkP 273) ⟨ok_putN ⟨"TollRoad$Vehicle", "TollRoad", q1506, Or.inl rfl⟩ rfl fd_71 rfl dX2_dispute_72, m_put⟩ (
  lkp_c (P := OkP 273) ⟨(PuOK.ok (ok_iload_n dX2_dispute_75 rfl)), m_iload⟩ (
  lkp_c (P := OkP 273) ⟨ok_iret rfl rfl (by decide) dX2_dispute_76, m_ret⟩ (
  trivial)))))))
theorem mt_273 : MtOK TB NT IT 273 := ⟨by decide +kernel, rfl, (fun h => by cases h), Or.inr rfl, rfl, by decide, lk2_all (P := OkP 273) ⟨c_273_0, c_273_1, trivial⟩⟩
def dkwX2_refund_1 : List UInt8 := [167, 0, 8, 42, 43, 182, 1, 64, 172]
abbrev dktX2_refund_1 : List UInt8 := dkwX2_refund_1 ++ []
def dkwX2_refund_0 : List UInt8 := [28, 154, 0, 11, 42, 43, 182, 1, 57, 167, 0, 21, 28, 4, 160, 0, 11, 42, 43, 182, 1, 61]
abbrev dktX2_refund_0 : List UInt8 := dkwX2_refund_0 ++ dktX2_refund_1
theorem dksX2_refund_0 : cX2_refund.data.toList.drop 0 = dktX2_refund_0 := by decide +kernel
theorem dksX2_refund_1 : cX2_refund.data.toList.drop 22 = dktX2_refund_1 := dk_seg dksX2_refund_0 22 rfl rfl
theorem dX2_refund_0 : decode cX2_refund 0 = .ok (.iload_n 2, 1) := dk_28 (dk_at dksX2_refund_0 0 rfl rfl)
theorem dX2_refund_1 : decode cX2_refund 1 = .ok (.ifCond .ne 11, 3) := dk_154 0 11 (dk_at dksX2_refund_0 1 rfl rfl)
theorem dX2_refund_4 : decode cX2_refund 4 = .ok (.aload_n 0, 1) := dk_42 (dk_at dksX2_refund_0 4 rfl rfl)
theorem dX2_refund_5 : decode cX2_refund 5 = .ok (.aload_n 1, 1) := dk_43 (dk_at dksX2_refund_0 5 rfl rfl)
theorem dX2_refund_6 : decode cX2_refund 6 = .ok (.invokevirtual 313, 3) := dk_182 1 57 (dk_at dksX2_refund_0 6 rfl rfl)
theorem dX2_refund_9 : decode cX2_refund 9 = .ok (.goto 21, 3) := dk_167 0 21 (dk_at dksX2_refund_0 9 rfl rfl)
theorem dX2_refund_12 : decode cX2_refund 12 = .ok (.iload_n 2, 1) := dk_28 (dk_at dksX2_refund_0 12 rfl rfl)
theorem dX2_refund_13 : decode cX2_refund 13 = .ok (.iconst 1, 1) := dk_4 (dk_at dksX2_refund_0 13 rfl rfl)
theorem dX2_refund_14 : decode cX2_refund 14 = .ok (.if_icmp .ne 11, 3) := dk_160 0 11 (dk_at dksX2_refund_0 14 rfl rfl)
theorem dX2_refund_17 : decode cX2_refund 17 = .ok (.aload_n 0, 1) := dk_42 (dk_at dksX2_refund_0 17 rfl rfl)
theorem dX2_refund_18 : decode cX2_refund 18 = .ok (.aload_n 1, 1) := dk_43 (dk_at dksX2_refund_0 18 rfl rfl)
theorem dX2_refund_19 : decode cX2_refund 19 = .ok (.invokevirtual 317, 3) := dk_182 1 61 (dk_at dksX2_refund_0 19 rfl rfl)
theorem dX2_refund_22 : decode cX2_refund 22 = .ok (.goto 8, 3) := dk_167 0 8 (dk_at dksX2_refund_1 0 rfl rfl)
theorem dX2_refund_25 : decode cX2_refund 25 = .ok (.aload_n 0, 1) := dk_42 (dk_at dksX2_refund_1 3 rfl rfl)
theorem dX2_refund_26 : decode cX2_refund 26 = .ok (.aload_n 1, 1) := dk_43 (dk_at dksX2_refund_1 4 rfl rfl)
theorem dX2_refund_27 : decode cX2_refund 27 = .ok (.invokevirtual 320, 3) := dk_182 1 64 (dk_at dksX2_refund_1 5 rfl rfl)
theorem dX2_refund_30 : decode cX2_refund 30 = .ok (.ireturn, 1) := dk_172 (dk_at dksX2_refund_1 8 rfl rfl)
theorem c_274_0 : LkP (OkP 274) [(0, o_iload 2 1), (1, o_if (fun x => decide (¬ x = 0)) 12), (4, o_aload 0 1), (5, o_aload 1 1), (6, o_cv [(1, 275)] 1 3 false none), (9, o_goto 30), (12, o_iload 2 1), (13, o_push 1 (.int 1)), (14, o_icmp (fun x y => decide (¬ x = y)) 25), (17, o_aload 0 1), (18, o_aload 1 1), (19, o_cv [(1, 276)] 1 3 false none), (22, o_goto 30), (25, o_aload 0 1), (26, o_aload 1 1), (27, o_cv [(1, 277)] 1 3 false none), (30, o_ret 1)] := lkp_c (P := OkP 274) ⟨(PuOK.ok (ok_iload_n dX2_refund_0 rfl)), m_iload⟩ (
  lkp_c (P := OkP 274) ⟨(PuOK.ok (ok_if_ne dX2_refund_1 rfl)), m_if⟩ (
  lkp_c (P := OkP 274) ⟨(PuOK.ok (ok_aload_n dX2_refund_4 rfl)), m_aload⟩ (
  lkp_c (P := OkP 274) ⟨(PuOK.ok (ok_aload_n dX2_refund_5 rfl)), m_aload⟩ (
  lkp_c (P := OkP 274) ⟨ok_cv (List.forall_mem_cons.mpr ⟨tg_V (ci := 1) (r := CLr 1) (y := 275) rfl ⟨rfl, by decide⟩ rfl q2895 q2897 qs36 q116 q2898 ⟨cn_36.1, cn_36.2, pd_114⟩ dX2_refund_6, (List.forall_mem_nil _)⟩) hd_no, m_cv⟩ (
  lkp_c (P := OkP 274) ⟨(PuOK.ok (ok_goto dX2_refund_9 rfl)), m_goto⟩ (
  lkp_c (P := OkP 274) ⟨(PuOK.ok (ok_iload_n dX2_refund_12 rfl)), m_iload⟩ (
  lkp_c (P := OkP 274) ⟨(PuOK.ok (ok_iconst dX2_refund_13 rfl)), m_push⟩ (
  lkp_c (P := OkP 274) ⟨(PuOK.ok (ok_icmp_ne dX2_refund_14 rfl)), m_icmp⟩ (
  lkp_c (P := OkP 274) ⟨(PuOK.ok (ok_aload_n dX2_refund_17 rfl)), m_aload⟩ (
  lkp_c (P := OkP 274) ⟨(PuOK.ok (ok_aload_n dX2_refund_18 rfl)), m_aload⟩ (
  lkp_c (P := OkP 274) ⟨ok_cv (List.forall_mem_cons.mpr ⟨tg_V (ci := 1) (r := CLr 1) (y := 276) rfl ⟨rfl, by decide⟩ rfl q2905 q2907 qs37 q116 q2908 ⟨cn_36.1, cn_36.2, pd_114⟩ dX2_refund_19, (List.forall_mem_nil _)⟩) hd_no, m_cv⟩ (
  lkp_c (P := OkP 274) ⟨(PuOK.ok (ok_goto dX2_refund_22 rfl)), m_goto⟩ (
  lkp_c (P := OkP 274) ⟨(PuOK.ok (ok_aload_n dX2_refund_25 rfl)), m_aload⟩ (
  lkp_c (P := OkP 274) ⟨(PuOK.ok (ok_aload_n dX2_refund_26 rfl)), m_aload⟩ (
  lkp_c (P := OkP 274) ⟨ok_cv (List.forall_mem_cons.mpr ⟨tg_V (ci := 1) (r := CLr 1) (y := 277) rfl ⟨rfl, by decide⟩ rfl q2914 q2916 qs38 q116 q2917 ⟨cn_36.1, cn_36.2, pd_114⟩ dX2_refund_27, (List.forall_mem_nil _)⟩) hd_no, m_cv⟩ (
  lkp_c (P := OkP 274) ⟨ok_iret rfl rfl (by decide) dX2_refund_30, m_ret⟩ (
  trivial)))))))))))))))))
theorem mt_274 : MtOK TB NT IT 274 := ⟨by decide +kernel, rfl, (fun h => by cases h), Or.inl ⟨rfl, rfl⟩, rfl, by decide, lk2_all (P := OkP 274) ⟨c_274_0, trivial⟩⟩
def dkwX2_refundForOther_3 : List UInt8 := [162, 0, 7, 4, 167, 0, 4, 3, 62, 29, 153, 0, 10, 43, 180, 0, 224, 167, 0, 4, 3, 172]
abbrev dktX2_refundForOther_3 : List UInt8 := dkwX2_refundForOther_3 ++ []
def dkwX2_refundForOther_2 : List UInt8 := [182, 1, 23, 43, 180, 0, 233, 180, 0, 237, 182, 0, 128, 160, 0, 17, 28, 42, 180, 0, 18, 8, 46]
abbrev dktX2_refundForOther_2 : List UInt8 := dkwX2_refundForOther_2 ++ dktX2_refundForOther_3
def dkwX2_refundForOther_1 : List UInt8 := [180, 0, 237, 29, 182, 0, 141, 192, 0, 89, 180, 0, 154, 184, 1, 20, 61, 132, 3, 1, 167, 255, 217, 43]
abbrev dktX2_refundForOther_1 : List UInt8 := dkwX2_refundForOther_1 ++ dktX2_refundForOther_2
def dkwX2_refundForOther_0 : List UInt8 := [16, 101, 61, 3, 62, 29, 43, 180, 0, 233, 180, 0, 237, 182, 0, 128, 162, 0, 31, 28, 43, 180, 0, 233]
abbrev dktX2_refundForOther_0 : List UInt8 := dkwX2_refundForOther_0 ++ dktX2_refundForOther_1
theorem dksX2_refundForOther_0 : cX2_refundForOther.data.toList.drop 0 = dktX2_refundForOther_0 := by decide +kernel
theorem dksX2_refundForOther_1 : cX2_refundForOther.data.toList.drop 24 = dktX2_refundForOther_1 := dk_seg dksX2_refundForOther_0 24 rfl rfl
theorem dksX2_refundForOther_2 : cX2_refundForOther.data.toList.drop 48 = dktX2_refundForOther_2 := dk_seg dksX2_refundForOther_1 24 rfl rfl
theorem dksX2_refundForOther_3 : cX2_refundForOther.data.toList.drop 71 = dktX2_refundForOther_3 := dk_seg dksX2_refundForOther_2 23 rfl rfl
theorem dX2_refundForOther_0 : decode cX2_refundForOther 0 = .ok (.bipush 101, 2) := dk_16 101 (dk_at dksX2_refundForOther_0 0 rfl rfl)
theorem dX2_refundForOther_2 : decode cX2_refundForOther 2 = .ok (.istore_n 2, 1) := dk_61 (dk_at dksX2_refundForOther_0 2 rfl rfl)
theorem dX2_refundForOther_3 : decode cX2_refundForOther 3 = .ok (.iconst 0, 1) := dk_3 (dk_at dksX2_refundForOther_0 3 rfl rfl)
theorem dX2_refundForOther_4 : decode cX2_refundForOther 4 = .ok (.istore_n 3, 1) := dk_62 (dk_at dksX2_refundForOther_0 4 rfl rfl)
theorem dX2_refundForOther_5 : decode cX2_refundForOther 5 = .ok (.iload_n 3, 1) := dk_29 (dk_at dksX2_refundForOther_0 5 rfl rfl)
theorem dX2_refundForOther_6 : decode cX2_refundForOther 6 = .ok (.aload_n 1, 1) := dk_43 (dk_at dksX2_refundForOther_0 6 rfl rfl)
theorem dX2_refundForOther_7 : decode cX2_refundForOther 7 = .ok (.getfield 233, 3) := dk_180 0 233 (dk_at dksX2_refundForOther_0 7 rfl rfl)
theorem dX2_refundForOther_10 : decode cX2_refundForOther 10 = .ok (.getfield 237, 3) := dk_180 0 237 (dk_at dksX2_refundForOther_0 10 rfl rfl)
theorem dX2_refundForOther_13 : decode cX2_refundForOther 13 = .ok (.invokevirtual 128, 3) := dk_182 0 128 (dk_at dksX2_refundForOther_0 13 rfl rfl)
theorem dX2_refundForOther_16 : decode cX2_refundForOther 16 = .ok (.if_icmp .ge 31, 3) := dk_162 0 31 (dk_at dksX2_refundForOther_0 16 rfl rfl)
theorem dX2_refundForOther_19 : decode cX2_refundForOther 19 = .ok (.iload_n 2, 1) := dk_28 (dk_at dksX2_refundForOther_0 19 rfl rfl)
theorem dX2_refundForOther_20 : decode cX2_refundForOther 20 = .ok (.aload_n 1, 1) := dk_43 (dk_at dksX2_refundForOther_0 20 rfl rfl)
theorem dX2_refundForOther_21 : decode cX2_refundForOther 21 = .ok (.getfield 233, 3) := dk_180 0 233 (dk_at dksX2_refundForOther_0 21 rfl rfl)
theorem dX2_refundForOther_24 : decode cX2_refundForOther 24 = .ok (.getfield 237, 3) := dk_180 0 237 (dk_at dksX2_refundForOther_1 0 rfl rfl)
theorem dX2_refundForOther_27 : decode cX2_refundForOther 27 = .ok (.iload_n 3, 1) := dk_29 (dk_at dksX2_refundForOther_1 3 rfl rfl)
theorem dX2_refundForOther_28 : decode cX2_refundForOther 28 = .ok (.invokevirtual 141, 3) := dk_182 0 141 (dk_at dksX2_refundForOther_1 4 rfl rfl)
theorem dX2_refundForOther_31 : decode cX2_refundForOther 31 = .ok (.checkcast 89, 3) := dk_192 0 89 (dk_at dksX2_refundForOther_1 7 rfl rfl)
theorem dX2_refundForOther_34 : decode cX2_refundForOther 34 = .ok (.getfield 154, 3) := dk_180 0 154 (dk_at dksX2_refundForOther_1 10 rfl rfl)
theorem dX2_refundForOther_37 : decode cX2_refundForOther 37 = .ok (.invokestatic 276, 3) := dk_184 1 20 (dk_at dksX2_refundForOther_1 13 rfl rfl)
theorem dX2_refundForOther_40 : decode cX2_refundForOther 40 = .ok (.istore_n 2, 1) := dk_61 (dk_at dksX2_refundForOther_1 16 rfl rfl)
theorem dX2_refundForOther_41 : decode cX2_refundForOther 41 = .ok (.iinc 3 1, 3) := dk_132 3 1 (dk_at dksX2_refundForOther_1 17 rfl rfl)
theorem dX2_refundForOther_44 : decode cX2_refundForOther 44 = .ok (.goto (-39), 3) := dk_167 255 217 (dk_at dksX2_refundForOther_1 20 rfl rfl)
theorem dX2_refundForOther_47 : decode cX2_refundForOther 47 = .ok (.aload_n 1, 1) := dk_43 (dk_at dksX2_refundForOther_1 23 rfl rfl)
theorem dX2_refundForOther_48 : decode cX2_refundForOther 48 = .ok (.invokevirtual 279, 3) := dk_182 1 23 (dk_at dksX2_refundForOther_2 0 rfl rfl)
theorem dX2_refundForOther_51 : decode cX2_refundForOther 51 = .ok (.aload_n 1, 1) := dk_43 (dk_at dksX2_refundForOther_2 3 rfl rfl)
theorem dX2_refundForOther_52 : decode cX2_refundForOther 52 = .ok (.getfield 233, 3) := dk_180 0 233 (dk_at dksX2_refundForOther_2 4 rfl rfl)
theorem dX2_refundForOther_55 : decode cX2_refundForOther 55 = .ok (.getfield 237, 3) := dk_180 0 237 (dk_at dksX2_refundForOther_2 7 rfl rfl)
theorem dX2_refundForOther_58 : decode cX2_refundForOther 58 = .ok (.invokevirtual 128, 3) := dk_182 0 128 (dk_at dksX2_refundForOther_2 10 rfl rfl)
theorem dX2_refundForOther_61 : decode cX2_refundForOther 61 = .ok (.if_icmp .ne 17, 3) := dk_160 0 17 (dk_at dksX2_refundForOther_2 13 rfl rfl)
theorem dX2_refundForOther_64 : decode cX2_refundForOther 64 = .ok (.iload_n 2, 1) := dk_28 (dk_at dksX2_refundForOther_2 16 rfl rfl)
theorem dX2_refundForOther_65 : decode cX2_refundForOther 65 = .ok (.aload_n 0, 1) := dk_42 (dk_at dksX2_refundForOther_2 17 rfl rfl)
theorem dX2_refundForOther_66 : decode cX2_refundForOther 66 = .ok (.getfield 18, 3) := dk_180 0 18 (dk_at dksX2_refundForOther_2 18 rfl rfl)
theorem dX2_refundForOther_69 : decode cX2_refundForOther 69 = .ok (.iconst 5, 1) := dk_8 (dk_at dksX2_refundForOther_2 21 rfl rfl)
theorem dX2_refundForOther_70 : decode cX2_refundForOther 70 = .ok (.iaload, 1) := dk_46 (dk_at dksX2_refundForOther_2 22 rfl rfl)
theorem dX2_refundForOther_71 : decode cX2_refundForOther 71 = .ok (.if_icmp .ge 7, 3) := dk_162 0 7 (dk_at dksX2_refundForOther_3 0 rfl rfl)
theorem dX2_refundForOther_74 : decode cX2_refundForOther 74 = .ok (.iconst 1, 1) := dk_4 (dk_at dksX2_refundForOther_3 3 rfl rfl)
theorem dX2_refundForOther_75 : decode cX2_refundForOther 75 = .ok (.goto 4, 3) := dk_167 0 4 (dk_at dksX2_refundForOther_3 4 rfl rfl)
theorem dX2_refundForOther_78 : decode cX2_refundForOther 78 = .ok (.iconst 0, 1) := dk_3 (dk_at dksX2_refundForOther_3 7 rfl rfl)
theorem dX2_refundForOther_79 : decode cX2_refundForOther 79 = .ok (.istore_n 3, 1) := dk_62 (dk_at dksX2_refundForOther_3 8 rfl rfl)
theorem dX2_refundForOther_80 : decode cX2_refundForOther 80 = .ok (.iload_n 3, 1) := dk_29 (dk_at dksX2_refundForOther_3 9 rfl rfl)
theorem dX2_refundForOther_81 : decode cX2_refundForOther 81 = .ok (.ifCond .eq 10, 3) := dk_153 0 10 (dk_at dksX2_refundForOther_3 10 rfl rfl)
theorem dX2_refundForOther_84 : decode cX2_refundForOther 84 = .ok (.aload_n 1, 1) := dk_43 (dk_at dksX2_refundForOther_3 13 rfl rfl)
theorem dX2_refundForOther_85 : decode cX2_refundForOther 85 = .ok (.getfield 224, 3) := dk_180 0 224 (dk_at dksX2_refundForOther_3 14 rfl rfl)
theorem dX2_refundForOther_88 : decode cX2_refundForOther 88 = .ok (.goto 4, 3) := dk_167 0 4 (dk_at dksX2_refundForOther_3 17 rfl rfl)
theorem dX2_refundForOther_91 : decode cX2_refundForOther 91 = .ok (.iconst 0, 1) := dk_3 (dk_at dksX2_refundForOther_3 20 rfl rfl)
theorem dX2_refundForOther_92 : decode cX2_refundForOther 92 = .ok (.ireturn, 1) := dk_172 (dk_at dksX2_refundForOther_3 21 rfl rfl)
theorem c_275_0 : LkP (OkP 275) [(0, o_push 2 (.int 101)), (2, o_istore 2 1), (3, o_push 1 (.int 0)), (4, o_istore 3 1), (5, o_iload 3 1), (6, o_aload 1 1), (7, o_get 140), (10, o_get 127), (13, o_cv [(3, 42)] 0 3 false none), (16, o_icmp (fun x y => decide (y ≤ x)) 47), (19, o_iload 2 1), (20, o_aload 1 1), (21, o_get 140), (24, o_get 127), (27, o_iload 3 1), (28, o_cv [(3, 47)] 1 3 false none), (31, o_cast [17]), (34, o_get 94), (37, o_cs 7 2 false none), (40, o_istore 2 1), (41, o_iinc 3 1), (44, o_goto 5), (47, o_aload 1 1), (48, o_cv [(27, 251)] 0 3 false none), (51, o_aload 1 1), (52, o_get 140), (55, o_get 127), (58, o_cv [(3, 42)] 0 3 false none), (61, o_icmp (fun x y => decide (¬ x = y)) 78)] := lkp_c (P := OkP 275) ⟨(PuOK.ok (ok_bipush dX2_refundForOther_0 rfl)), m_push⟩ (
  lkp_c (P := OkP 275) ⟨(PuOK.ok (ok_istore_n dX2_refundForOther_2 rfl)), m_istore⟩ (
  lkp_c (P := OkP 275) ⟨(PuOK.ok (ok_iconst dX2_refundForOther_3 rfl)), m_push⟩ (
  lkp_c (P := OkP 275) ⟨(PuOK.ok (ok_istore_n dX2_refundForOther_4 rfl)), m_istore⟩ (
  lkp_c (P := OkP 275) ⟨(PuOK.ok (ok_iload_n dX2_refundForOther_5 rfl)), m_iload⟩ (
  lkp_c (P := OkP 275) ⟨(PuOK.ok (ok_aload_n dX2_refundForOther_6 rfl)), m_aload⟩ (
  lkp_c (P := OkP 275) ⟨ok_getN ⟨"TollRoad$Bill", "TollRoad", q2646, Or.inl rfl⟩ dX2_refundForOther_7, m_get⟩ (
  lkp_c (P := OkP 275) ⟨ok_getN ⟨"TollRoad$Trip", "TollRoad", q2495, Or.inl rfl⟩ dX2_refundForOther_10, m_get⟩ (
  lkp_c (P := OkP 275) ⟨ok_cv (List.forall_mem_cons.mpr ⟨tg_V (ci := 3) (r := CLr 3) (y := 42) rfl ⟨rfl, by decide⟩ rfl q1559 q1257 q1258 q120 q1259 ⟨cn_15.1, cn_15.2, pd_13⟩ dX2_refundForOther_13, (List.forall_mem_nil _)⟩) hd_no, m_cv⟩ (
  lkp_c (P := OkP 275) ⟨(PuOK.ok (ok_icmp_ge dX2_refundForOther_16 rfl)), m_icmp⟩ (
  lkp_c (P := OkP 275) ⟨(PuOK.ok (ok_iload_n dX2_refundForOther_19 rfl)), m_iload⟩ (
  lkp_c (P := OkP 275) ⟨(PuOK.ok (ok_aload_n dX2_refundForOther_20 rfl)), m_aload⟩ (
  lkp_c (P := OkP 275) ⟨ok_getN ⟨"TollRoad$Bill", "TollRoad", q2646, Or.inl rfl⟩ dX2_refundForOther_21, m_get⟩ (
  lkp_c (P := OkP 275) ⟨ok_getN ⟨"TollRoad$Trip", "TollRoad", q2495, Or.inl rfl⟩ dX2_refundForOther_24, m_get⟩ (
  lkp_c (P := OkP 275) ⟨(PuOK.ok (ok_iload_n dX2_refundForOther_27 rfl)), m_iload⟩ (
  lkp_c (P := OkP 275) ⟨ok_cv (List.forall_mem_cons.mpr ⟨tg_V (ci := 3) (r := CLr 3) (y := 47) rfl ⟨rfl, by decide⟩ rfl q2044 q1807 q1808 q120 q1809 ⟨cn_15.1, cn_15.2, pd_27⟩ dX2_refundForOther_28, (List.forall_mem_nil _)⟩) hd_no, m_cv⟩ (
  lkp_c (P := OkP 275) ⟨ok_cast q1829 cst_6 dX2_refundForOther_31, m_cast⟩ (
  lkp_c (P := OkP 275) ⟨ok_getN ⟨"TollRoad$Read", "TollRoad", q2012, Or.inl rfl⟩ dX2_refundForOther_34, m_get⟩ (
  lkp_c (P := OkP 275) ⟨ok_cs (tg_S ⟨rfl, by decide⟩ q2899 q374 q130 q375 ⟨cn_1.1, cn_1.2, pd_1⟩ dX2_refundForOther_37) hd_no, m_cs⟩ (
  lkp_c (P := OkP 275) ⟨(PuOK.ok (ok_istore_n dX2_refundForOther_40 rfl)), m_istore⟩ (
  lkp_c (P := OkP 275) ⟨(PuOK.ok (ok_iinc dX2_refundForOther_41 rfl)), m_iinc⟩ (
  lkp_c (P := OkP 275) ⟨(PuOK.ok (ok_goto dX2_refundForOther_44 rfl)), m_goto⟩ (
  lkp_c (P := OkP 275) ⟨(PuOK.ok (ok_aload_n dX2_refundForOther_47 rfl)), m_aload⟩ (
  lkp_c (P := OkP 275) ⟨ok_cv (List.forall_mem_cons.mpr ⟨tg_V (ci := 27) (r := CLr 27) (y := 251) rfl ⟨rfl, by decide⟩ rfl q2900 q2901 q2902 q174 q2903 ⟨cn_47.1, cn_47.2, pd_13⟩ dX2_refundForOther_48, (List.forall_mem_nil _)⟩) hd_no, m_cv⟩ (
  lkp_c (P := OkP 275) ⟨(PuOK.ok (ok_aload_n dX2_refundForOther_51 rfl)), m_aload⟩ (
  lkp_c (P := OkP 275) ⟨ok_getN ⟨"TollRoad$Bill", "TollRoad", q2646, Or.inl rfl⟩ dX2_refundForOther_52, m_get⟩ (
  lkp_c (P := OkP 275) ⟨ok_getN ⟨"TollRoad$Trip", "TollRoad", q2495, Or.inl rfl⟩ dX2_refundForOther_55, m_get⟩ (
  lkp_c (P := OkP 275) ⟨ok_cv (List.forall_mem_cons.mpr ⟨tg_V (ci := 3) (r := CLr 3) (y := 42) rfl ⟨rfl, by decide⟩ rfl q1559 q1257 q1258 q120 q1259 ⟨cn_15.1, cn_15.2, pd_13⟩ dX2_refundForOther_58, (List.forall_mem_nil _)⟩) hd_no, m_cv⟩ (
  lkp_c (P := OkP 275) ⟨(PuOK.ok (ok_icmp_ne dX2_refundForOther_61 rfl)), m_icmp⟩ (
  trivial)))))))))))))))))))))))))))))
theorem c_275_1 : LkP (OkP 275) [(64, o_iload 2 1), (65, o_aload 0 1), (66, o_get 7), (69, o_push 1 (.int 5)), (70, o_rdI 0), (71, o_icmp (fun x y => decide (y ≤ x)) 78), (74, o_push 1 (.int 1)), (75, o_goto 79), (78, o_push 1 (.int 0)), (79, o_istore 3 1), (80, o_iload 3 1), (81, o_if (fun x => decide (x = 0)) 91), (84, o_aload 1 1), (85, o_get 135), (88, o_goto 92), (91, o_push 1 (.int 0)), (92, o_ret 1)] := lkp_c (P := OkP 275) ⟨(PuOK.ok (ok_iload_n dX2_refundForOther_64 rfl)), m_iload⟩ (
  lkp_c (P := OkP 275) ⟨(PuOK.ok (ok_aload_n dX2_refundForOther_65 rfl)), m_aload⟩ (
  lkp_c (P := OkP 275) ⟨ok_get ⟨"TollRoad$World", q629, Or.inl rfl⟩ dX2_refundForOther_66, m_get⟩ (
  lkp_c (P := OkP 275) ⟨(PuOK.ok (ok_iconst dX2_refundForOther_69 rfl)), m_push⟩ (
  lkp_c (P := OkP 275) ⟨ok_iald dX2_refundForOther_70, m_rdI⟩ (
  lkp_c (P := OkP 275) ⟨(PuOK.ok (ok_icmp_ge dX2_refundForOther_71 rfl)), m_icmp⟩ (
  lkp_c (P := OkP 275) ⟨(PuOK.ok (ok_iconst dX2_refundForOther_74 rfl)), m_push⟩ (
  lkp_c (P := OkP 275) ⟨(PuOK.ok (ok_goto dX2_refundForOther_75 rfl)), m_goto⟩ (
  lkp_c (P := OkP 275) ⟨(PuOK.ok (ok_iconst dX2_refundForOther_78 rfl)), m_push⟩ (
  lkp_c (P := OkP 275) ⟨(PuOK.ok (ok_istore_n dX2_refundForOther_79 rfl)), m_istore⟩ (
  lkp_c (P := OkP 275) ⟨(PuOK.ok (ok_iload_n dX2_refundForOther_80 rfl)), m_iload⟩ (
  lkp_c (P := OkP 275) ⟨(PuOK.ok (ok_if_eq dX2_refundForOther_81 rfl)), m_if⟩ (
  lkp_c (P := OkP 275) ⟨(PuOK.ok (ok_aload_n dX2_refundForOther_84 rfl)), m_aload⟩ (
  lkp_c (P := OkP 275) ⟨ok_getN ⟨"TollRoad$Bill", "TollRoad", q2635, Or.inl rfl⟩ dX2_refundForOther_85, m_get⟩ (
  lkp_c (P := OkP 275) ⟨(PuOK.ok (ok_goto dX2_refundForOther_88 rfl)), m_goto⟩ (
  lkp_c (P := OkP 275) ⟨(PuOK.ok (ok_iconst dX2_refundForOther_91 rfl)), m_push⟩ (
  lkp_c (P := OkP 275) ⟨ok_iret rfl rfl (by decide) dX2_refundForOther_92, m_ret⟩ (
  trivial)))))))))))))))))
theorem mt_275 : MtOK TB NT IT 275 := ⟨by decide +kernel, rfl, (fun h => by cases h), Or.inl ⟨rfl, rfl⟩, rfl, by decide, lk2_all (P := OkP 275) ⟨c_275_0, c_275_1, trivial⟩⟩
def dkwX2_refundForRoute_4 : List UInt8 := [167, 0, 4, 3, 172]
abbrev dktX2_refundForRoute_4 : List UInt8 := dkwX2_refundForRoute_4 ++ []
def dkwX2_refundForRoute_3 : List UInt8 := [4, 167, 0, 4, 3, 54, 4, 21, 4, 153, 0, 16, 43, 180, 0, 224, 43, 29, 182, 1, 51, 100]
abbrev dktX2_refundForRoute_3 : List UInt8 := dkwX2_refundForRoute_3 ++ dktX2_refundForRoute_4
def dkwX2_refundForRoute_2 : List UInt8 := [180, 1, 46, 104, 62, 44, 180, 1, 47, 158, 0, 19, 29, 155, 0, 15, 29, 43, 180, 1, 50, 162, 0, 7]
abbrev dktX2_refundForRoute_2 : List UInt8 := dkwX2_refundForRoute_2 ++ dktX2_refundForRoute_3
def dkwX2_refundForRoute_1 : List UInt8 := [44, 180, 0, 253, 182, 0, 128, 4, 100, 182, 0, 141, 192, 0, 116, 182, 0, 219, 182, 1, 43, 44]
abbrev dktX2_refundForRoute_1 : List UInt8 := dkwX2_refundForRoute_1 ++ dktX2_refundForRoute_2
def dkwX2_refundForRoute_0 : List UInt8 := [43, 180, 0, 233, 77, 42, 44, 180, 0, 253, 3, 182, 0, 141, 192, 0, 116, 182, 0, 219, 44, 180, 0, 253]
abbrev dktX2_refundForRoute_0 : List UInt8 := dkwX2_refundForRoute_0 ++ dktX2_refundForRoute_1
theorem dksX2_refundForRoute_0 : cX2_refundForRoute.data.toList.drop 0 = dktX2_refundForRoute_0 := by decide +kernel
theorem dksX2_refundForRoute_1 : cX2_refundForRoute.data.toList.drop 24 = dktX2_refundForRoute_1 := dk_seg dksX2_refundForRoute_0 24 rfl rfl
theorem dksX2_refundForRoute_2 : cX2_refundForRoute.data.toList.drop 46 = dktX2_refundForRoute_2 := dk_seg dksX2_refundForRoute_1 22 rfl rfl
theorem dksX2_refundForRoute_3 : cX2_refundForRoute.data.toList.drop 70 = dktX2_refundForRoute_3 := dk_seg dksX2_refundForRoute_2 24 rfl rfl
theorem dksX2_refundForRoute_4 : cX2_refundForRoute.data.toList.drop 92 = dktX2_refundForRoute_4 := dk_seg dksX2_refundForRoute_3 22 rfl rfl
theorem dX2_refundForRoute_0 : decode cX2_refundForRoute 0 = .ok (.aload_n 1, 1) := dk_43 (dk_at dksX2_refundForRoute_0 0 rfl rfl)
theorem dX2_refundForRoute_1 : decode cX2_refundForRoute 1 = .ok (.getfield 233, 3) := dk_180 0 233 (dk_at dksX2_refundForRoute_0 1 rfl rfl)
theorem dX2_refundForRoute_4 : decode cX2_refundForRoute 4 = .ok (.astore_n 2, 1) := dk_77 (dk_at dksX2_refundForRoute_0 4 rfl rfl)
theorem dX2_refundForRoute_5 : decode cX2_refundForRoute 5 = .ok (.aload_n 0, 1) := dk_42 (dk_at dksX2_refundForRoute_0 5 rfl rfl)
theorem dX2_refundForRoute_6 : decode cX2_refundForRoute 6 = .ok (.aload_n 2, 1) := dk_44 (dk_at dksX2_refundForRoute_0 6 rfl rfl)
theorem dX2_refundForRoute_7 : decode cX2_refundForRoute 7 = .ok (.getfield 253, 3) := dk_180 0 253 (dk_at dksX2_refundForRoute_0 7 rfl rfl)
theorem dX2_refundForRoute_10 : decode cX2_refundForRoute 10 = .ok (.iconst 0, 1) := dk_3 (dk_at dksX2_refundForRoute_0 10 rfl rfl)
theorem dX2_refundForRoute_11 : decode cX2_refundForRoute 11 = .ok (.invokevirtual 141, 3) := dk_182 0 141 (dk_at dksX2_refundForRoute_0 11 rfl rfl)
theorem dX2_refundForRoute_14 : decode cX2_refundForRoute 14 = .ok (.checkcast 116, 3) := dk_192 0 116 (dk_at dksX2_refundForRoute_0 14 rfl rfl)
theorem dX2_refundForRoute_17 : decode cX2_refundForRoute 17 = .ok (.invokevirtual 219, 3) := dk_182 0 219 (dk_at dksX2_refundForRoute_0 17 rfl rfl)
theorem dX2_refundForRoute_20 : decode cX2_refundForRoute 20 = .ok (.aload_n 2, 1) := dk_44 (dk_at dksX2_refundForRoute_0 20 rfl rfl)
theorem dX2_refundForRoute_21 : decode cX2_refundForRoute 21 = .ok (.getfield 253, 3) := dk_180 0 253 (dk_at dksX2_refundForRoute_0 21 rfl rfl)
theorem dX2_refundForRoute_24 : decode cX2_refundForRoute 24 = .ok (.aload_n 2, 1) := dk_44 (dk_at dksX2_refundForRoute_1 0 rfl rfl)
theorem dX2_refundForRoute_25 : decode cX2_refundForRoute 25 = .ok (.getfield 253, 3) := dk_180 0 253 (dk_at dksX2_refundForRoute_1 1 rfl rfl)
theorem dX2_refundForRoute_28 : decode cX2_refundForRoute 28 = .ok (.invokevirtual 128, 3) := dk_182 0 128 (dk_at dksX2_refundForRoute_1 4 rfl rfl)
theorem dX2_refundForRoute_31 : decode cX2_refundForRoute 31 = .ok (.iconst 1, 1) := dk_4 (dk_at dksX2_refundForRoute_1 7 rfl rfl)
theorem dX2_refundForRoute_32 : decode cX2_refundForRoute 32 = .ok (.isub, 1) := dk_100 (dk_at dksX2_refundForRoute_1 8 rfl rfl)
theorem dX2_refundForRoute_33 : decode cX2_refundForRoute 33 = .ok (.invokevirtual 141, 3) := dk_182 0 141 (dk_at dksX2_refundForRoute_1 9 rfl rfl)
theorem dX2_refundForRoute_36 : decode cX2_refundForRoute 36 = .ok (.checkcast 116, 3) := dk_192 0 116 (dk_at dksX2_refundForRoute_1 12 rfl rfl)
theorem dX2_refundForRoute_39 : decode cX2_refundForRoute 39 = .ok (.invokevirtual 219, 3) := dk_182 0 219 (dk_at dksX2_refundForRoute_1 15 rfl rfl)
theorem dX2_refundForRoute_42 : decode cX2_refundForRoute 42 = .ok (.invokevirtual 299, 3) := dk_182 1 43 (dk_at dksX2_refundForRoute_1 18 rfl rfl)
theorem dX2_refundForRoute_45 : decode cX2_refundForRoute 45 = .ok (.aload_n 2, 1) := dk_44 (dk_at dksX2_refundForRoute_1 21 rfl rfl)
theorem dX2_refundForRoute_46 : decode cX2_refundForRoute 46 = .ok (.getfield 302, 3) := dk_180 1 46 (dk_at dksX2_refundForRoute_2 0 rfl rfl)
theorem dX2_refundForRoute_49 : decode cX2_refundForRoute 49 = .ok (.imul, 1) := dk_104 (dk_at dksX2_refundForRoute_2 3 rfl rfl)
theorem dX2_refundForRoute_50 : decode cX2_refundForRoute 50 = .ok (.istore_n 3, 1) := dk_62 (dk_at dksX2_refundForRoute_2 4 rfl rfl)
theorem dX2_refundForRoute_51 : decode cX2_refundForRoute 51 = .ok (.aload_n 2, 1) := dk_44 (dk_at dksX2_refundForRoute_2 5 rfl rfl)
theorem dX2_refundForRoute_52 : decode cX2_refundForRoute 52 = .ok (.getfield 303, 3) := dk_180 1 47 (dk_at dksX2_refundForRoute_2 6 rfl rfl)
theorem dX2_refundForRoute_55 : decode cX2_refundForRoute 55 = .ok (.ifCond .le 19, 3) := dk_158 0 19 (dk_at dksX2_refundForRoute_2 9 rfl rfl)
theorem dX2_refundForRoute_58 : decode cX2_refundForRoute 58 = .ok (.iload_n 3, 1) := dk_29 (dk_at dksX2_refundForRoute_2 12 rfl rfl)
theorem dX2_refundForRoute_59 : decode cX2_refundForRoute 59 = .ok (.ifCond .lt 15, 3) := dk_155 0 15 (dk_at dksX2_refundForRoute_2 13 rfl rfl)
theorem dX2_refundForRoute_62 : decode cX2_refundForRoute 62 = .ok (.iload_n 3, 1) := dk_29 (dk_at dksX2_refundForRoute_2 16 rfl rfl)
theorem dX2_refundForRoute_63 : decode cX2_refundForRoute 63 = .ok (.aload_n 1, 1) := dk_43 (dk_at dksX2_refundForRoute_2 17 rfl rfl)
theorem dX2_refundForRoute_64 : decode cX2_refundForRoute 64 = .ok (.getfield 306, 3) := dk_180 1 50 (dk_at dksX2_refundForRoute_2 18 rfl rfl)
theorem dX2_refundForRoute_67 : decode cX2_refundForRoute 67 = .ok (.if_icmp .ge 7, 3) := dk_162 0 7 (dk_at dksX2_refundForRoute_2 21 rfl rfl)
theorem dX2_refundForRoute_70 : decode cX2_refundForRoute 70 = .ok (.iconst 1, 1) := dk_4 (dk_at dksX2_refundForRoute_3 0 rfl rfl)
theorem dX2_refundForRoute_71 : decode cX2_refundForRoute 71 = .ok (.goto 4, 3) := dk_167 0 4 (dk_at dksX2_refundForRoute_3 1 rfl rfl)
theorem dX2_refundForRoute_74 : decode cX2_refundForRoute 74 = .ok (.iconst 0, 1) := dk_3 (dk_at dksX2_refundForRoute_3 4 rfl rfl)
theorem dX2_refundForRoute_75 : decode cX2_refundForRoute 75 = .ok (.istore 4, 2) := dk_54 4 (dk_at dksX2_refundForRoute_3 5 rfl rfl)
theorem dX2_refundForRoute_77 : decode cX2_refundForRoute 77 = .ok (.iload 4, 2) := dk_21 4 (dk_at dksX2_refundForRoute_3 7 rfl rfl)
theorem dX2_refundForRoute_79 : decode cX2_refundForRoute 79 = .ok (.ifCond .eq 16, 3) := dk_153 0 16 (dk_at dksX2_refundForRoute_3 9 rfl rfl)
theorem dX2_refundForRoute_82 : decode cX2_refundForRoute 82 = .ok (.aload_n 1, 1) := dk_43 (dk_at dksX2_refundForRoute_3 12 rfl rfl)
theorem dX2_refundForRoute_83 : decode cX2_refundForRoute 83 = .ok (.getfield 224, 3) := dk_180 0 224 (dk_at dksX2_refundForRoute_3 13 rfl rfl)
theorem dX2_refundForRoute_86 : decode cX2_refundForRoute 86 = .ok (.aload_n 1, 1) := dk_43 (dk_at dksX2_refundForRoute_3 16 rfl rfl)
theorem dX2_refundForRoute_87 : decode cX2_refundForRoute 87 = .ok (.iload_n 3, 1) := dk_29 (dk_at dksX2_refundForRoute_3 17 rfl rfl)
theorem dX2_refundForRoute_88 : decode cX2_refundForRoute 88 = .ok (.invokevirtual 307, 3) := dk_182 1 51 (dk_at dksX2_refundForRoute_3 18 rfl rfl)
theorem dX2_refundForRoute_91 : decode cX2_refundForRoute 91 = .ok (.isub, 1) := dk_100 (dk_at dksX2_refundForRoute_3 21 rfl rfl)
theorem dX2_refundForRoute_92 : decode cX2_refundForRoute 92 = .ok (.goto 4, 3) := dk_167 0 4 (dk_at dksX2_refundForRoute_4 0 rfl rfl)
theorem dX2_refundForRoute_95 : decode cX2_refundForRoute 95 = .ok (.iconst 0, 1) := dk_3 (dk_at dksX2_refundForRoute_4 3 rfl rfl)
theorem dX2_refundForRoute_96 : decode cX2_refundForRoute 96 = .ok (.ireturn, 1) := dk_172 (dk_at dksX2_refundForRoute_4 4 rfl rfl)
theorem c_276_0 : LkP (OkP 276) [(0, o_aload 1 1), (1, o_get 140), (4, o_astore 2 1), (5, o_aload 0 1), (6, o_aload 2 1), (7, o_get 128), (10, o_push 1 (.int 0)), (11, o_cv [(3, 47)] 1 3 false none), (14, o_cast [21]), (17, o_cvs [(21, 21)] 0 3 false), (20, o_aload 2 1), (21, o_get 128), (24, o_aload 2 1), (25, o_get 128), (28, o_cv [(3, 42)] 0 3 false none), (31, o_push 1 (.int 1)), (32, o_iop (fun x y => x - y)), (33, o_cv [(3, 47)] 1 3 false none), (36, o_cast [21]), (39, o_cvs [(21, 21)] 0 3 false), (42, o_cv [(1, 261)] 2 3 false none), (45, o_aload 2 1), (46, o_get 126), (49, o_iop (fun x y => x * y)), (50, o_istore 3 1), (51, o_aload 2 1), (52, o_get 130), (55, o_if (fun x => decide (x ≤ 0)) 74), (58, o_iload 3 1), (59, o_if (fun x => decide (x < 0)) 74), (62, o_iload 3 1), (63, o_aload 1 1)] := lkp_c (P := OkP 276) ⟨(PuOK.ok (ok_aload_n dX2_refundForRoute_0 rfl)), m_aload⟩ (
  lkp_c (P := OkP 276) ⟨ok_getN ⟨"TollRoad$Bill", "TollRoad", q2646, Or.inl rfl⟩ dX2_refundForRoute_1, m_get⟩ (
  lkp_c (P := OkP 276) ⟨(PuOK.ok (ok_astore_n dX2_refundForRoute_4 rfl)), m_astore⟩ (
  lkp_c (P := OkP 276) ⟨(PuOK.ok (ok_aload_n dX2_refundForRoute_5 rfl)), m_aload⟩ (
  lkp_c (P := OkP 276) ⟨(PuOK.ok (ok_aload_n dX2_refundForRoute_6 rfl)), m_aload⟩ (
  lkp_c (P := OkP 276) ⟨ok_getN ⟨"TollRoad$Trip", "TollRoad", q2498, Or.inl rfl⟩ dX2_refundForRoute_7, m_get⟩ (
  lkp_c (P := OkP 276) ⟨(PuOK.ok (ok_iconst dX2_refundForRoute_10 rfl)), m_push⟩ (
  lkp_c (P := OkP 276) ⟨ok_cv (List.forall_mem_cons.mpr ⟨tg_V (ci := 3) (r := CLr 3) (y := 47) rfl ⟨rfl, by decide⟩ rfl q2044 q1807 q1808 q120 q1809 ⟨cn_15.1, cn_15.2, pd_27⟩ dX2_refundForRoute_11, (List.forall_mem_nil _)⟩) hd_no, m_cv⟩ (
  lkp_c (P := OkP 276) ⟨ok_cast q1244 cst_1 dX2_refundForRoute_14, m_cast⟩ (
  lkp_c (P := OkP 276) ⟨ok_cvs (List.forall_mem_cons.mpr ⟨tg_V (ci := 21) (r := CLr 21) (y := 21) rfl ⟨rfl, by decide⟩ rfl q1245 q968 q969 q136 q970 ⟨cn_6.1, cn_6.2, pd_13⟩ dX2_refundForRoute_17, (List.forall_mem_nil _)⟩) hd_no, m_cvs⟩ (
  lkp_c (P := OkP 276) ⟨(PuOK.ok (ok_aload_n dX2_refundForRoute_20 rfl)), m_aload⟩ (
  lkp_c (P := OkP 276) ⟨ok_getN ⟨"TollRoad$Trip", "TollRoad", q2498, Or.inl rfl⟩ dX2_refundForRoute_21, m_get⟩ (
  lkp_c (P := OkP 276) ⟨(PuOK.ok (ok_aload_n dX2_refundForRoute_24 rfl)), m_aload⟩ (
  lkp_c (P := OkP 276) ⟨ok_getN ⟨"TollRoad$Trip", "TollRoad", q2498, Or.inl rfl⟩ dX2_refundForRoute_25, m_get⟩ (
  lkp_c (P := OkP 276) ⟨ok_cv (List.forall_mem_cons.mpr ⟨tg_V (ci := 3) (r := CLr 3) (y := 42) rfl ⟨rfl, by decide⟩ rfl q1559 q1257 q1258 q120 q1259 ⟨cn_15.1, cn_15.2, pd_13⟩ dX2_refundForRoute_28, (List.forall_mem_nil _)⟩) hd_no, m_cv⟩ (
  lkp_c (P := OkP 276) ⟨(PuOK.ok (ok_iconst dX2_refundForRoute_31 rfl)), m_push⟩ (
  lkp_c (P := OkP 276) ⟨(PuOK.ok (ok_isub dX2_refundForRoute_32)), m_iop⟩ (
  lkp_c (P := OkP 276) ⟨ok_cv (List.forall_mem_cons.mpr ⟨tg_V (ci := 3) (r := CLr 3) (y := 47) rfl ⟨rfl, by decide⟩ rfl q2044 q1807 q1808 q120 q1809 ⟨cn_15.1, cn_15.2, pd_27⟩ dX2_refundForRoute_33, (List.forall_mem_nil _)⟩) hd_no, m_cv⟩ (
  lkp_c (P := OkP 276) ⟨ok_cast q1244 cst_1 dX2_refundForRoute_36, m_cast⟩ (
  lkp_c (P := OkP 276) ⟨ok_cvs (List.forall_mem_cons.mpr ⟨tg_V (ci := 21) (r := CLr 21) (y := 21) rfl ⟨rfl, by decide⟩ rfl q1245 q968 q969 q136 q970 ⟨cn_6.1, cn_6.2, pd_13⟩ dX2_refundForRoute_39, (List.forall_mem_nil _)⟩) hd_no, m_cvs⟩ (
  lkp_c (P := OkP 276) ⟨ok_cv (List.forall_mem_cons.mpr ⟨tg_V (ci := 1) (r := CLr 1) (y := 261) rfl ⟨rfl, by decide⟩ rfl q2909 q1958 q1959 q116 q1960 ⟨cn_36.1, cn_36.2, pd_1⟩ dX2_refundForRoute_42, (List.forall_mem_nil _)⟩) hd_no, m_cv⟩ (
  lkp_c (P := OkP 276) ⟨(PuOK.ok (ok_aload_n dX2_refundForRoute_45 rfl)), m_aload⟩ (
  lkp_c (P := OkP 276) ⟨ok_getN ⟨"TollRoad$Trip", "TollRoad", q2493, Or.inl rfl⟩ dX2_refundForRoute_46, m_get⟩ (
  lkp_c (P := OkP 276) ⟨(PuOK.ok (ok_imul dX2_refundForRoute_49)), m_iop⟩ (
  lkp_c (P := OkP 276) ⟨(PuOK.ok (ok_istore_n dX2_refundForRoute_50 rfl)), m_istore⟩ (
  lkp_c (P := OkP 276) ⟨(PuOK.ok (ok_aload_n dX2_refundForRoute_51 rfl)), m_aload⟩ (
  lkp_c (P := OkP 276) ⟨ok_getN ⟨"TollRoad$Trip", "TollRoad", q2502, Or.inl rfl⟩ dX2_refundForRoute_52, m_get⟩ (
  lkp_c (P := OkP 276) ⟨(PuOK.ok (ok_if_le dX2_refundForRoute_55 rfl)), m_if⟩ (
  lkp_c (P := OkP 276) ⟨(PuOK.ok (ok_iload_n dX2_refundForRoute_58 rfl)), m_iload⟩ (
  lkp_c (P := OkP 276) ⟨(PuOK.ok (ok_if_lt dX2_refundForRoute_59 rfl)), m_if⟩ (
  lkp_c (P := OkP 276) ⟨(PuOK.ok (ok_iload_n dX2_refundForRoute_62 rfl)), m_iload⟩ (
  lkp_c (P := OkP 276) ⟨(PuOK.ok (ok_aload_n dX2_refundForRoute_63 rfl)), m_aload⟩ (
  trivial))))))))))))))))))))))))))))))))
theorem c_276_1 : LkP (OkP 276) [(64, o_get 136), (67, o_icmp (fun x y => decide (y ≤ x)) 74), (70, o_push 1 (.int 1)), (71, o_goto 75), (74, o_push 1 (.int 0)), (75, o_istore 4 2), (77, o_iload 4 2), (79, o_if (fun x => decide (x = 0)) 95), (82, o_aload 1 1), (83, o_get 135), (86, o_aload 1 1), (87, o_iload 3 1), (88, o_cv [(27, 252)] 1 3 false none), (91, o_iop (fun x y => x - y)), (92, o_goto 96), (95, o_push 1 (.int 0)), (96, o_ret 1)] := lkp_c (P := OkP 276) ⟨ok_getN ⟨"TollRoad$Bill", "TollRoad", q2638, Or.inl rfl⟩ dX2_refundForRoute_64, m_get⟩ (
  lkp_c (P := OkP 276) ⟨(PuOK.ok (ok_icmp_ge dX2_refundForRoute_67 rfl)), m_icmp⟩ (
  lkp_c (P := OkP 276) ⟨(PuOK.ok (ok_iconst dX2_refundForRoute_70 rfl)), m_push⟩ (
  lkp_c (P := OkP 276) ⟨(PuOK.ok (ok_goto dX2_refundForRoute_71 rfl)), m_goto⟩ (
  lkp_c (P := OkP 276) ⟨(PuOK.ok (ok_iconst dX2_refundForRoute_74 rfl)), m_push⟩ (
  lkp_c (P := OkP 276) ⟨(PuOK.ok (ok_istore dX2_refundForRoute_75)), m_istore⟩ (
  lkp_c (P := OkP 276) ⟨(PuOK.ok (ok_iload dX2_refundForRoute_77)), m_iload⟩ (
  lkp_c (P := OkP 276) ⟨(PuOK.ok (ok_if_eq dX2_refundForRoute_79 rfl)), m_if⟩ (
  lkp_c (P := OkP 276) ⟨(PuOK.ok (ok_aload_n dX2_refundForRoute_82 rfl)), m_aload⟩ (
  lkp_c (P := OkP 276) ⟨ok_getN ⟨"TollRoad$Bill", "TollRoad", q2635, Or.inl rfl⟩ dX2_refundForRoute_83, m_get⟩ (
  lkp_c (P := OkP 276) ⟨(PuOK.ok (ok_aload_n dX2_refundForRoute_86 rfl)), m_aload⟩ (
  lkp_c (P := OkP 276) ⟨(PuOK.ok (ok_iload_n dX2_refundForRoute_87 rfl)), m_iload⟩ (
  lkp_c (P := OkP 276) ⟨ok_cv (List.forall_mem_cons.mpr ⟨tg_V (ci := 27) (r := CLr 27) (y := 252) rfl ⟨rfl, by decide⟩ rfl q2910 q2911 q2912 q174 q2913 ⟨cn_47.1, cn_47.2, pd_48⟩ dX2_refundForRoute_88, (List.forall_mem_nil _)⟩) hd_no, m_cv⟩ (
  lkp_c (P := OkP 276) ⟨(PuOK.ok (ok_isub dX2_refundForRoute_91)), m_iop⟩ (
  lkp_c (P := OkP 276) ⟨(PuOK.ok (ok_goto dX2_refundForRoute_92 rfl)), m_goto⟩ (
  lkp_c (P := OkP 276) ⟨(PuOK.ok (ok_iconst dX2_refundForRoute_95 rfl)), m_push⟩ (
  lkp_c (P := OkP 276) ⟨ok_iret rfl rfl (by decide) dX2_refundForRoute_96, m_ret⟩ (
  trivial)))))))))))))))))
theorem mt_276 : MtOK TB NT IT 276 := ⟨by decide +kernel, rfl, (fun h => by cases h), Or.inl ⟨rfl, rfl⟩, rfl, by decide, lk2_all (P := OkP 276) ⟨c_276_0, c_276_1, trivial⟩⟩
def dkwX2_refundForImages_1 : List UInt8 := [180, 1, 54, 167, 0, 4, 3, 172]
abbrev dktX2_refundForImages_1 : List UInt8 := dkwX2_refundForImages_1 ++ []
def dkwX2_refundForImages_0 : List UInt8 := [43, 182, 1, 23, 61, 28, 158, 0, 24, 28, 43, 180, 0, 233, 180, 0, 237, 182, 0, 128, 162, 0, 10, 43]
abbrev dktX2_refundForImages_0 : List UInt8 := dkwX2_refundForImages_0 ++ dktX2_refundForImages_1
theorem dksX2_refundForImages_0 : cX2_refundForImages.data.toList.drop 0 = dktX2_refundForImages_0 := by decide +kernel
theorem dksX2_refundForImages_1 : cX2_refundForImages.data.toList.drop 24 = dktX2_refundForImages_1 := dk_seg dksX2_refundForImages_0 24 rfl rfl
theorem dX2_refundForImages_0 : decode cX2_refundForImages 0 = .ok (.aload_n 1, 1) := dk_43 (dk_at dksX2_refundForImages_0 0 rfl rfl)
theorem dX2_refundForImages_1 : decode cX2_refundForImages 1 = .ok (.invokevirtual 279, 3) := dk_182 1 23 (dk_at dksX2_refundForImages_0 1 rfl rfl)
theorem dX2_refundForImages_4 : decode cX2_refundForImages 4 = .ok (.istore_n 2, 1) := dk_61 (dk_at dksX2_refundForImages_0 4 rfl rfl)
theorem dX2_refundForImages_5 : decode cX2_refundForImages 5 = .ok (.iload_n 2, 1) := dk_28 (dk_at dksX2_refundForImages_0 5 rfl rfl)
theorem dX2_refundForImages_6 : decode cX2_refundForImages 6 = .ok (.ifCond .le 24, 3) := dk_158 0 24 (dk_at dksX2_refundForImages_0 6 rfl rfl)
theorem dX2_refundForImages_9 : decode cX2_refundForImages 9 = .ok (.iload_n 2, 1) := dk_28 (dk_at dksX2_refundForImages_0 9 rfl rfl)
theorem dX2_refundForImages_10 : decode cX2_refundForImages 10 = .ok (.aload_n 1, 1) := dk_43 (dk_at dksX2_refundForImages_0 10 rfl rfl)
theorem dX2_refundForImages_11 : decode cX2_refundForImages 11 = .ok (.getfield 233, 3) := dk_180 0 233 (dk_at dksX2_refundForImages_0 11 rfl rfl)
theorem dX2_refundForImages_14 : decode cX2_refundForImages 14 = .ok (.getfield 237, 3) := dk_180 0 237 (dk_at dksX2_refundForImages_0 14 rfl rfl)
theorem dX2_refundForImages_17 : decode cX2_refundForImages 17 = .ok (.invokevirtual 128, 3) := dk_182 0 128 (dk_at dksX2_refundForImages_0 17 rfl rfl)
theorem dX2_refundForImages_20 : decode cX2_refundForImages 20 = .ok (.if_icmp .ge 10, 3) := dk_162 0 10 (dk_at dksX2_refundForImages_0 20 rfl rfl)
theorem dX2_refundForImages_23 : decode cX2_refundForImages 23 = .ok (.aload_n 1, 1) := dk_43 (dk_at dksX2_refundForImages_0 23 rfl rfl)
theorem dX2_refundForImages_24 : decode cX2_refundForImages 24 = .ok (.getfield 310, 3) := dk_180 1 54 (dk_at dksX2_refundForImages_1 0 rfl rfl)
theorem dX2_refundForImages_27 : decode cX2_refundForImages 27 = .ok (.goto 4, 3) := dk_167 0 4 (dk_at dksX2_refundForImages_1 3 rfl rfl)
theorem dX2_refundForImages_30 : decode cX2_refundForImages 30 = .ok (.iconst 0, 1) := dk_3 (dk_at dksX2_refundForImages_1 6 rfl rfl)
theorem dX2_refundForImages_31 : decode cX2_refundForImages 31 = .ok (.ireturn, 1) := dk_172 (dk_at dksX2_refundForImages_1 7 rfl rfl)
theorem c_277_0 : LkP (OkP 277) [(0, o_aload 1 1), (1, o_cv [(27, 251)] 0 3 false none), (4, o_istore 2 1), (5, o_iload 2 1), (6, o_if (fun x => decide (x ≤ 0)) 30), (9, o_iload 2 1), (10, o_aload 1 1), (11, o_get 140), (14, o_get 127), (17, o_cv [(3, 42)] 0 3 false none), (20, o_icmp (fun x y => decide (y ≤ x)) 30), (23, o_aload 1 1), (24, o_get 138), (27, o_goto 31), (30, o_push 1 (.int 0)), (31, o_ret 1)] := lkp_c (P := OkP 277) ⟨(PuOK.ok (ok_aload_n dX2_refundForImages_0 rfl)), m_aload⟩ (
  lkp_c (P := OkP 277) ⟨ok_cv (List.forall_mem_cons.mpr ⟨tg_V (ci := 27) (r := CLr 27) (y := 251) rfl ⟨rfl, by decide⟩ rfl q2900 q2901 q2902 q174 q2903 ⟨cn_47.1, cn_47.2, pd_13⟩ dX2_refundForImages_1, (List.forall_mem_nil _)⟩) hd_no, m_cv⟩ (
  lkp_c (P := OkP 277) ⟨(PuOK.ok (ok_istore_n dX2_refundForImages_4 rfl)), m_istore⟩ (
  lkp_c (P := OkP 277) ⟨(PuOK.ok (ok_iload_n dX2_refundForImages_5 rfl)), m_iload⟩ (
  lkp_c (P := OkP 277) ⟨(PuOK.ok (ok_if_le dX2_refundForImages_6 rfl)), m_if⟩ (
  lkp_c (P := OkP 277) ⟨(PuOK.ok (ok_iload_n dX2_refundForImages_9 rfl)), m_iload⟩ (
  lkp_c (P := OkP 277) ⟨(PuOK.ok (ok_aload_n dX2_refundForImages_10 rfl)), m_aload⟩ (
  lkp_c (P := OkP 277) ⟨ok_getN ⟨"TollRoad$Bill", "TollRoad", q2646, Or.inl rfl⟩ dX2_refundForImages_11, m_get⟩ (
  lkp_c (P := OkP 277) ⟨ok_getN ⟨"TollRoad$Trip", "TollRoad", q2495, Or.inl rfl⟩ dX2_refundForImages_14, m_get⟩ (
  lkp_c (P := OkP 277) ⟨ok_cv (List.forall_mem_cons.mpr ⟨tg_V (ci := 3) (r := CLr 3) (y := 42) rfl ⟨rfl, by decide⟩ rfl q1559 q1257 q1258 q120 q1259 ⟨cn_15.1, cn_15.2, pd_13⟩ dX2_refundForImages_17, (List.forall_mem_nil _)⟩) hd_no, m_cv⟩ (
  lkp_c (P := OkP 277) ⟨(PuOK.ok (ok_icmp_ge dX2_refundForImages_20 rfl)), m_icmp⟩ (
  lkp_c (P := OkP 277) ⟨(PuOK.ok (ok_aload_n dX2_refundForImages_23 rfl)), m_aload⟩ (
  lkp_c (P := OkP 277) ⟨ok_getN ⟨"TollRoad$Bill", "TollRoad", q2642, Or.inl rfl⟩ dX2_refundForImages_24, m_get⟩ (
  lkp_c (P := OkP 277) ⟨(PuOK.ok (ok_goto dX2_refundForImages_27 rfl)), m_goto⟩ (
  lkp_c (P := OkP 277) ⟨(PuOK.ok (ok_iconst dX2_refundForImages_30 rfl)), m_push⟩ (
  lkp_c (P := OkP 277) ⟨ok_iret rfl rfl (by decide) dX2_refundForImages_31, m_ret⟩ (
  trivial))))))))))))))))
theorem mt_277 : MtOK TB NT IT 277 := ⟨by decide +kernel, rfl, (fun h => by cases h), Or.inl ⟨rfl, rfl⟩, rfl, by decide, lk2_all (P := OkP 277) ⟨c_277_0, trivial⟩⟩
def dkwX2_copy_11 : List UInt8 := [43, 176]
abbrev dktX2_copy_11 : List UInt8 := dkwX2_copy_11 ++ []
def dkwX2_copy_10 : List UInt8 := [185, 0, 108, 1, 0, 192, 0, 111, 45, 185, 0, 113, 1, 0, 192, 0, 116, 182, 0, 118, 87, 167, 255, 211]
abbrev dktX2_copy_10 : List UInt8 := dkwX2_copy_10 ++ dktX2_copy_11
def dkwX2_copy_9 : List UInt8 := [185, 0, 71, 1, 0, 153, 0, 42, 44, 185, 0, 77, 1, 0, 192, 0, 106, 78, 43, 180, 0, 46, 45]
abbrev dktX2_copy_9 : List UInt8 := dkwX2_copy_9 ++ dktX2_copy_10
def dkwX2_copy_8 : List UInt8 := [182, 0, 96, 182, 0, 85, 87, 167, 255, 225, 42, 180, 0, 46, 182, 0, 99, 185, 0, 103, 1, 0, 77, 44]
abbrev dktX2_copy_8 : List UInt8 := dkwX2_copy_8 ++ dktX2_copy_9
def dkwX2_copy_7 : List UInt8 := [185, 0, 71, 1, 0, 153, 0, 28, 44, 185, 0, 77, 1, 0, 192, 0, 94, 78, 43, 180, 0, 40, 45]
abbrev dktX2_copy_7 : List UInt8 := dkwX2_copy_7 ++ dktX2_copy_8
def dkwX2_copy_6 : List UInt8 := [180, 0, 37, 45, 182, 0, 91, 182, 0, 85, 87, 167, 255, 225, 42, 180, 0, 40, 182, 0, 67, 77, 44]
abbrev dktX2_copy_6 : List UInt8 := dkwX2_copy_6 ++ dktX2_copy_7
def dkwX2_copy_5 : List UInt8 := [182, 0, 67, 77, 44, 185, 0, 71, 1, 0, 153, 0, 28, 44, 185, 0, 77, 1, 0, 192, 0, 89, 78, 43]
abbrev dktX2_copy_5 : List UInt8 := dkwX2_copy_5 ++ dktX2_copy_6
def dkwX2_copy_4 : List UInt8 := [192, 0, 80, 78, 43, 180, 0, 33, 45, 182, 0, 82, 182, 0, 85, 87, 167, 255, 225, 42, 180, 0, 37]
abbrev dktX2_copy_4 : List UInt8 := dkwX2_copy_4 ++ dktX2_copy_5
def dkwX2_copy_3 : List UInt8 := [42, 180, 0, 33, 182, 0, 67, 77, 44, 185, 0, 71, 1, 0, 153, 0, 28, 44, 185, 0, 77, 1, 0]
abbrev dktX2_copy_3 : List UInt8 := dkwX2_copy_3 ++ dktX2_copy_4
def dkwX2_copy_2 : List UInt8 := [42, 180, 0, 24, 28, 50, 182, 0, 64, 83, 132, 2, 1, 167, 255, 230, 43, 42, 180, 0, 60, 181, 0, 60]
abbrev dktX2_copy_2 : List UInt8 := dkwX2_copy_2 ++ dktX2_copy_3
def dkwX2_copy_1 : List UInt8 := [182, 0, 55, 192, 0, 56, 181, 0, 18, 3, 61, 28, 42, 180, 0, 60, 162, 0, 24, 43, 180, 0, 24, 28]
abbrev dktX2_copy_1 : List UInt8 := dkwX2_copy_1 ++ dktX2_copy_2
def dkwX2_copy_0 : List UInt8 := [187, 0, 13, 89, 183, 0, 50, 76, 43, 42, 180, 0, 12, 182, 0, 51, 181, 0, 12, 43, 42, 180, 0, 18]
abbrev dktX2_copy_0 : List UInt8 := dkwX2_copy_0 ++ dktX2_copy_1
theorem dksX2_copy_0 : cX2_copy.data.toList.drop 0 = dktX2_copy_0 := by decide +kernel
theorem dksX2_copy_1 : cX2_copy.data.toList.drop 24 = dktX2_copy_1 := dk_seg dksX2_copy_0 24 rfl rfl
theorem dksX2_copy_2 : cX2_copy.data.toList.drop 48 = dktX2_copy_2 := dk_seg dksX2_copy_1 24 rfl rfl
theorem dksX2_copy_3 : cX2_copy.data.toList.drop 72 = dktX2_copy_3 := dk_seg dksX2_copy_2 24 rfl rfl
theorem dksX2_copy_4 : cX2_copy.data.toList.drop 95 = dktX2_copy_4 := dk_seg dksX2_copy_3 23 rfl rfl
theorem dksX2_copy_5 : cX2_copy.data.toList.drop 118 = dktX2_copy_5 := dk_seg dksX2_copy_4 23 rfl rfl
theorem dksX2_copy_6 : cX2_copy.data.toList.drop 142 = dktX2_copy_6 := dk_seg dksX2_copy_5 24 rfl rfl
theorem dksX2_copy_7 : cX2_copy.data.toList.drop 165 = dktX2_copy_7 := dk_seg dksX2_copy_6 23 rfl rfl
theorem dksX2_copy_8 : cX2_copy.data.toList.drop 188 = dktX2_copy_8 := dk_seg dksX2_copy_7 23 rfl rfl
theorem dksX2_copy_9 : cX2_copy.data.toList.drop 212 = dktX2_copy_9 := dk_seg dksX2_copy_8 24 rfl rfl
theorem dksX2_copy_10 : cX2_copy.data.toList.drop 235 = dktX2_copy_10 := dk_seg dksX2_copy_9 23 rfl rfl
theorem dksX2_copy_11 : cX2_copy.data.toList.drop 259 = dktX2_copy_11 := dk_seg dksX2_copy_10 24 rfl rfl
theorem dX2_copy_0 : decode cX2_copy 0 = .ok (.new 13, 3) := dk_187 0 13 (dk_at dksX2_copy_0 0 rfl rfl)
theorem dX2_copy_3 : decode cX2_copy 3 = .ok (.dup, 1) := dk_89 (dk_at dksX2_copy_0 3 rfl rfl)
theorem dX2_copy_4 : decode cX2_copy 4 = .ok (.invokespecial 50, 3) := dk_183 0 50 (dk_at dksX2_copy_0 4 rfl rfl)
theorem dX2_copy_7 : decode cX2_copy 7 = .ok (.astore_n 1, 1) := dk_76 (dk_at dksX2_copy_0 7 rfl rfl)
theorem dX2_copy_8 : decode cX2_copy 8 = .ok (.aload_n 1, 1) := dk_43 (dk_at dksX2_copy_0 8 rfl rfl)
theorem dX2_copy_9 : decode cX2_copy 9 = .ok (.aload_n 0, 1) := dk_42 (dk_at dksX2_copy_0 9 rfl rfl)
theorem dX2_copy_10 : decode cX2_copy 10 = .ok (.getfield 12, 3) := dk_180 0 12 (dk_at dksX2_copy_0 10 rfl rfl)
theorem dX2_copy_13 : decode cX2_copy 13 = .ok (.invokevirtual 51, 3) := dk_182 0 51 (dk_at dksX2_copy_0 13 rfl rfl)
theorem dX2_copy_16 : decode cX2_copy 16 = .ok (.putfield 12, 3) := dk_181 0 12 (dk_at dksX2_copy_0 16 rfl rfl)
theorem dX2_copy_19 : decode cX2_copy 19 = .ok (.aload_n 1, 1) := dk_43 (dk_at dksX2_copy_0 19 rfl rfl)
theorem dX2_copy_20 : decode cX2_copy 20 = .ok (.aload_n 0, 1) := dk_42 (dk_at dksX2_copy_0 20 rfl rfl)
theorem dX2_copy_21 : decode cX2_copy 21 = .ok (.getfield 18, 3) := dk_180 0 18 (dk_at dksX2_copy_0 21 rfl rfl)
theorem dX2_copy_24 : decode cX2_copy 24 = .ok (.invokevirtual 55, 3) := dk_182 0 55 (dk_at dksX2_copy_1 0 rfl rfl)
theorem dX2_copy_27 : decode cX2_copy 27 = .ok (.checkcast 56, 3) := dk_192 0 56 (dk_at dksX2_copy_1 3 rfl rfl)
theorem dX2_copy_30 : decode cX2_copy 30 = .ok (.putfield 18, 3) := dk_181 0 18 (dk_at dksX2_copy_1 6 rfl rfl)
theorem dX2_copy_33 : decode cX2_copy 33 = .ok (.iconst 0, 1) := dk_3 (dk_at dksX2_copy_1 9 rfl rfl)
theorem dX2_copy_34 : decode cX2_copy 34 = .ok (.istore_n 2, 1) := dk_61 (dk_at dksX2_copy_1 10 rfl rfl)
theorem dX2_copy_35 : decode cX2_copy 35 = .ok (.iload_n 2, 1) := dk_28 (dk_at dksX2_copy_1 11 rfl rfl)
theorem dX2_copy_36 : decode cX2_copy 36 = .ok (.aload_n 0, 1) := dk_42 (dk_at dksX2_copy_1 12 rfl rfl)
theorem dX2_copy_37 : decode cX2_copy 37 = .ok (.getfield 60, 3) := dk_180 0 60 (dk_at dksX2_copy_1 13 rfl rfl)
theorem dX2_copy_40 : decode cX2_copy 40 = .ok (.if_icmp .ge 24, 3) := dk_162 0 24 (dk_at dksX2_copy_1 16 rfl rfl)
theorem dX2_copy_43 : decode cX2_copy 43 = .ok (.aload_n 1, 1) := dk_43 (dk_at dksX2_copy_1 19 rfl rfl)
theorem dX2_copy_44 : decode cX2_copy 44 = .ok (.getfield 24, 3) := dk_180 0 24 (dk_at dksX2_copy_1 20 rfl rfl)
theorem dX2_copy_47 : decode cX2_copy 47 = .ok (.iload_n 2, 1) := dk_28 (dk_at dksX2_copy_1 23 rfl rfl)
theorem dX2_copy_48 : decode cX2_copy 48 = .ok (.aload_n 0, 1) := dk_42 (dk_at dksX2_copy_2 0 rfl rfl)
theorem dX2_copy_49 : decode cX2_copy 49 = .ok (.getfield 24, 3) := dk_180 0 24 (dk_at dksX2_copy_2 1 rfl rfl)
theorem dX2_copy_52 : decode cX2_copy 52 = .ok (.iload_n 2, 1) := dk_28 (dk_at dksX2_copy_2 4 rfl rfl)
theorem dX2_copy_53 : decode cX2_copy 53 = .ok (.aaload, 1) := dk_50 (dk_at dksX2_copy_2 5 rfl rfl)
theorem dX2_copy_54 : decode cX2_copy 54 = .ok (.invokevirtual 64, 3) := dk_182 0 64 (dk_at dksX2_copy_2 6 rfl rfl)
theorem dX2_copy_57 : decode cX2_copy 57 = .ok (.aastore, 1) := dk_83 (dk_at dksX2_copy_2 9 rfl rfl)
theorem dX2_copy_58 : decode cX2_copy 58 = .ok (.iinc 2 1, 3) := dk_132 2 1 (dk_at dksX2_copy_2 10 rfl rfl)
theorem dX2_copy_61 : decode cX2_copy 61 = .ok (.goto (-26), 3) := dk_167 255 230 (dk_at dksX2_copy_2 13 rfl rfl)
theorem dX2_copy_64 : decode cX2_copy 64 = .ok (.aload_n 1, 1) := dk_43 (dk_at dksX2_copy_2 16 rfl rfl)
theorem dX2_copy_65 : decode cX2_copy 65 = .ok (.aload_n 0, 1) := dk_42 (dk_at dksX2_copy_2 17 rfl rfl)
theorem dX2_copy_66 : decode cX2_copy 66 = .ok (.getfield 60, 3) := dk_180 0 60 (dk_at dksX2_copy_2 18 rfl rfl)
theorem dX2_copy_69 : decode cX2_copy 69 = .ok (.putfield 60, 3) := dk_181 0 60 (dk_at dksX2_copy_2 21 rfl rfl)
theorem dX2_copy_72 : decode cX2_copy 72 = .ok (.aload_n 0, 1) := dk_42 (dk_at dksX2_copy_3 0 rfl rfl)
theorem dX2_copy_73 : decode cX2_copy 73 = .ok (.getfield 33, 3) := dk_180 0 33 (dk_at dksX2_copy_3 1 rfl rfl)
theorem dX2_copy_76 : decode cX2_copy 76 = .ok (.invokevirtual 67, 3) := dk_182 0 67 (dk_at dksX2_copy_3 4 rfl rfl)
theorem dX2_copy_79 : decode cX2_copy 79 = .ok (.astore_n 2, 1) := dk_77 (dk_at dksX2_copy_3 7 rfl rfl)
theorem dX2_copy_80 : decode cX2_copy 80 = .ok (.aload_n 2, 1) := dk_44 (dk_at dksX2_copy_3 8 rfl rfl)
theorem dX2_copy_81 : decode cX2_copy 81 = .ok (.invokeinterface 71 1, 5) := by decide +kernel
theorem dX2_copy_86 : decode cX2_copy 86 = .ok (.ifCond .eq 28, 3) := dk_153 0 28 (dk_at dksX2_copy_3 14 rfl rfl)
theorem dX2_copy_89 : decode cX2_copy 89 = .ok (.aload_n 2, 1) := dk_44 (dk_at dksX2_copy_3 17 rfl rfl)
theorem dX2_copy_90 : decode cX2_copy 90 = .ok (.invokeinterface 77 1, 5) := by decide +kernel
theorem dX2_copy_95 : decode cX2_copy 95 = .ok (.checkcast 80, 3) := dk_192 0 80 (dk_at dksX2_copy_4 0 rfl rfl)
theorem dX2_copy_98 : decode cX2_copy 98 = .ok (.astore_n 3, 1) := dk_78 (dk_at dksX2_copy_4 3 rfl rfl)
theorem dX2_copy_99 : decode cX2_copy 99 = .ok (.aload_n 1, 1) := dk_43 (dk_at dksX2_copy_4 4 rfl rfl)
theorem dX2_copy_100 : decode cX2_copy 100 = .ok (.getfield 33, 3) := dk_180 0 33 (dk_at dksX2_copy_4 5 rfl rfl)
theorem dX2_copy_103 : decode cX2_copy 103 = .ok (.aload_n 3, 1) := dk_45 (dk_at dksX2_copy_4 8 rfl rfl)
theorem dX2_copy_104 : decode cX2_copy 104 = .ok (.invokevirtual 82, 3) := dk_182 0 82 (dk_at dksX2_copy_4 9 rfl rfl)
theorem dX2_copy_107 : decode cX2_copy 107 = .ok (.invokevirtual 85, 3) := dk_182 0 85 (dk_at dksX2_copy_4 12 rfl rfl)
theorem dX2_copy_110 : decode cX2_copy 110 = .ok (.pop, 1) := dk_87 (dk_at dksX2_copy_4 15 rfl rfl)
theorem dX2_copy_111 : decode cX2_copy 111 = .ok (.goto (-31), 3) := dk_167 255 225 (dk_at dksX2_copy_4 16 rfl rfl)
theorem dX2_copy_114 : decode cX2_copy 114 = .ok (.aload_n 0, 1) := dk_42 (dk_at dksX2_copy_4 19 rfl rfl)
theorem dX2_copy_115 : decode cX2_copy 115 = .ok (.getfield 37, 3) := dk_180 0 37 (dk_at dksX2_copy_4 20 rfl rfl)
theorem dX2_copy_118 : decode cX2_copy 118 = .ok (.invokevirtual 67, 3) := dk_182 0 67 (dk_at dksX2_copy_5 0 rfl rfl)
theorem dX2_copy_121 : decode cX2_copy 121 = .ok (.astore_n 2, 1) := dk_77 (dk_at dksX2_copy_5 3 rfl rfl)
theorem dX2_copy_122 : decode cX2_copy 122 = .ok (.aload_n 2, 1) := dk_44 (dk_at dksX2_copy_5 4 rfl rfl)
theorem dX2_copy_123 : decode cX2_copy 123 = .ok (.invokeinterface 71 1, 5) := by decide +kernel
theorem dX2_copy_128 : decode cX2_copy 128 = .ok (.ifCond .eq 28, 3) := dk_153 0 28 (dk_at dksX2_copy_5 10 rfl rfl)
theorem dX2_copy_131 : decode cX2_copy 131 = .ok (.aload_n 2, 1) := dk_44 (dk_at dksX2_copy_5 13 rfl rfl)
theorem dX2_copy_132 : decode cX2_copy 132 = .ok (.invokeinterface 77 1, 5) := by decide +kernel
theorem dX2_copy_137 : decode cX2_copy 137 = .ok (.checkcast 89, 3) := dk_192 0 89 (dk_at dksX2_copy_5 19 rfl rfl)
theorem dX2_copy_140 : decode cX2_copy 140 = .ok (.astore_n 3, 1) := dk_78 (dk_at dksX2_copy_5 22 rfl rfl)
theorem dX2_copy_141 : decode cX2_copy 141 = .ok (.aload_n 1, 1) := dk_43 (dk_at dksX2_copy_5 23 rfl rfl)
theorem dX2_copy_142 : decode cX2_copy 142 = .ok (.getfield 37, 3) := dk_180 0 37 (dk_at dksX2_copy_6 0 rfl rfl)
theorem dX2_copy_145 : decode cX2_copy 145 = .ok (.aload_n 3, 1) := dk_45 (dk_at dksX2_copy_6 3 rfl rfl)
theorem dX2_copy_146 : decode cX2_copy 146 = .ok (.invokevirtual 91, 3) := dk_182 0 91 (dk_at dksX2_copy_6 4 rfl rfl)
theorem dX2_copy_149 : decode cX2_copy 149 = .ok (.invokevirtual 85, 3) := dk_182 0 85 (dk_at dksX2_copy_6 7 rfl rfl)
theorem dX2_copy_152 : decode cX2_copy 152 = .ok (.pop, 1) := dk_87 (dk_at dksX2_copy_6 10 rfl rfl)
theorem dX2_copy_153 : decode cX2_copy 153 = .ok (.goto (-31), 3) := dk_167 255 225 (dk_at dksX2_copy_6 11 rfl rfl)
theorem dX2_copy_156 : decode cX2_copy 156 = .ok (.aload_n 0, 1) := dk_42 (dk_at dksX2_copy_6 14 rfl rfl)
theorem dX2_copy_157 : decode cX2_copy 157 = .ok (.getfield 40, 3) := dk_180 0 40 (dk_at dksX2_copy_6 15 rfl rfl)
theorem dX2_copy_160 : decode cX2_copy 160 = .ok (.invokevirtual 67, 3) := dk_182 0 67 (dk_at dksX2_copy_6 18 rfl rfl)
theorem dX2_copy_163 : decode cX2_copy 163 = .ok (.astore_n 2, 1) := dk_77 (dk_at dksX2_copy_6 21 rfl rfl)
theorem dX2_copy_164 : decode cX2_copy 164 = .ok (.aload_n 2, 1) := dk_44 (dk_at dksX2_copy_6 22 rfl rfl)
theorem dX2_copy_165 : decode cX2_copy 165 = .ok (.invokeinterface 71 1, 5) := by decide +kernel
theorem dX2_copy_170 : decode cX2_copy 170 = .ok (.ifCond .eq 28, 3) := dk_153 0 28 (dk_at dksX2_copy_7 5 rfl rfl)
theorem dX2_copy_173 : decode cX2_copy 173 = .ok (.aload_n 2, 1) := dk_44 (dk_at dksX2_copy_7 8 rfl rfl)
theorem dX2_copy_174 : decode cX2_copy 174 = .ok (.invokeinterface 77 1, 5) := by decide +kernel
theorem dX2_copy_179 : decode cX2_copy 179 = .ok (.checkcast 94, 3) := dk_192 0 94 (dk_at dksX2_copy_7 14 rfl rfl)
theorem dX2_copy_182 : decode cX2_copy 182 = .ok (.astore_n 3, 1) := dk_78 (dk_at dksX2_copy_7 17 rfl rfl)
theorem dX2_copy_183 : decode cX2_copy 183 = .ok (.aload_n 1, 1) := dk_43 (dk_at dksX2_copy_7 18 rfl rfl)
theorem dX2_copy_184 : decode cX2_copy 184 = .ok (.getfield 40, 3) := dk_180 0 40 (dk_at dksX2_copy_7 19 rfl rfl)
theorem dX2_copy_187 : decode cX2_copy 187 = .ok (.aload_n 3, 1) := dk_45 (dk_at dksX2_copy_7 22 rfl rfl)
theorem dX2_copy_188 : decode cX2_copy 188 = .ok (.invokevirtual 96, 3) := dk_182 0 96 (dk_at dksX2_copy_8 0 rfl rfl)
theorem dX2_copy_191 : decode cX2_copy 191 = .ok (.invokevirtual 85, 3) := dk_182 0 85 (dk_at dksX2_copy_8 3 rfl rfl)
theorem dX2_copy_194 : decode cX2_copy 194 = .ok (.pop, 1) := dk_87 (dk_at dksX2_copy_8 6 rfl rfl)
theorem dX2_copy_195 : decode cX2_copy 195 = .ok (.goto (-31), 3) := dk_167 255 225 (dk_at dksX2_copy_8 7 rfl rfl)
theorem dX2_copy_198 : decode cX2_copy 198 = .ok (.aload_n 0, 1) := dk_42 (dk_at dksX2_copy_8 10 rfl rfl)
theorem dX2_copy_199 : decode cX2_copy 199 = .ok (.getfield 46, 3) := dk_180 0 46 (dk_at dksX2_copy_8 11 rfl rfl)
theorem dX2_copy_202 : decode cX2_copy 202 = .ok (.invokevirtual 99, 3) := dk_182 0 99 (dk_at dksX2_copy_8 14 rfl rfl)
theorem dX2_copy_205 : decode cX2_copy 205 = .ok (.invokeinterface 103 1, 5) := by decide +kernel
theorem dX2_copy_210 : decode cX2_copy 210 = .ok (.astore_n 2, 1) := dk_77 (dk_at dksX2_copy_8 22 rfl rfl)
theorem dX2_copy_211 : decode cX2_copy 211 = .ok (.aload_n 2, 1) := dk_44 (dk_at dksX2_copy_8 23 rfl rfl)
theorem dX2_copy_212 : decode cX2_copy 212 = .ok (.invokeinterface 71 1, 5) := by decide +kernel
theorem dX2_copy_217 : decode cX2_copy 217 = .ok (.ifCond .eq 42, 3) := dk_153 0 42 (dk_at dksX2_copy_9 5 rfl rfl)
theorem dX2_copy_220 : decode cX2_copy 220 = .ok (.aload_n 2, 1) := dk_44 (dk_at dksX2_copy_9 8 rfl rfl)
theorem dX2_copy_221 : decode cX2_copy 221 = .ok (.invokeinterface 77 1, 5) := by decide +kernel
theorem dX2_copy_226 : decode cX2_copy 226 = .ok (.checkcast 106, 3) := dk_192 0 106 (dk_at dksX2_copy_9 14 rfl rfl)
theorem dX2_copy_229 : decode cX2_copy 229 = .ok (.astore_n 3, 1) := dk_78 (dk_at dksX2_copy_9 17 rfl rfl)
theorem dX2_copy_230 : decode cX2_copy 230 = .ok (.aload_n 1, 1) := dk_43 (dk_at dksX2_copy_9 18 rfl rfl)
theorem dX2_copy_231 : decode cX2_copy 231 = .ok (.getfield 46, 3) := dk_180 0 46 (dk_at dksX2_copy_9 19 rfl rfl)
theorem dX2_copy_234 : decode cX2_copy 234 = .ok (.aload_n 3, 1) := dk_45 (dk_at dksX2_copy_9 22 rfl rfl)
theorem dX2_copy_235 : decode cX2_copy 235 = .ok (.invokeinterface 108 1, 5) := by decide +kernel
theorem dX2_copy_240 : decode cX2_copy 240 = .ok (.checkcast 111, 3) := dk_192 0 111 (dk_at dksX2_copy_10 5 rfl rfl)
theorem dX2_copy_243 : decode cX2_copy 243 = .ok (.aload_n 3, 1) := dk_45 (dk_at dksX2_copy_10 8 rfl rfl)
theorem dX2_copy_244 : decode cX2_copy 244 = .ok (.invokeinterface 113 1, 5) := by decide +kernel
theorem dX2_copy_249 : decode cX2_copy 249 = .ok (.checkcast 116, 3) := dk_192 0 116 (dk_at dksX2_copy_10 14 rfl rfl)
theorem dX2_copy_252 : decode cX2_copy 252 = .ok (.invokevirtual 118, 3) := dk_182 0 118 (dk_at dksX2_copy_10 17 rfl rfl)
theorem dX2_copy_255 : decode cX2_copy 255 = .ok (.pop, 1) := dk_87 (dk_at dksX2_copy_10 20 rfl rfl)
theorem dX2_copy_256 : decode cX2_copy 256 = .ok (.goto (-45), 3) := dk_167 255 211 (dk_at dksX2_copy_10 21 rfl rfl)
theorem dX2_copy_259 : decode cX2_copy 259 = .ok (.aload_n 1, 1) := dk_43 (dk_at dksX2_copy_11 0 rfl rfl)
theorem dX2_copy_260 : decode cX2_copy 260 = .ok (.areturn, 1) := dk_176 (dk_at dksX2_copy_11 1 rfl rfl)
theorem c_278_0 : LkP (OkP 278) [(0, o_new 1 8 dv1), (3, o_dup), (4, o_ci 256 0), (7, o_astore 1 1), (8, o_aload 1 1), (9, o_aload 0 1), (10, o_get 6), (13, o_cv [(2, 286)] 0 3 false none), (16, o_put 6 0), (19, o_aload 1 1), (20, o_aload 0 1), (21, o_get 7), (24, o_cln), (27, o_casta 0), (30, o_put 7 0), (33, o_push 1 (.int 0)), (34, o_istore 2 1), (35, o_iload 2 1), (36, o_aload 0 1), (37, o_get 9), (40, o_icmp (fun x y => decide (y ≤ x)) 64), (43, o_aload 1 1), (44, o_get 8), (47, o_iload 2 1), (48, o_aload 0 1), (49, o_get 8), (52, o_iload 2 1), (53, o_rdQ), (54, o_cv [(12, 423)] 0 3 false none), (57, o_wrQ 7 [12]), (58, o_iinc 2 1), (61, o_goto 35)] := lkp_c (P := OkP 278) ⟨ok_new (ci := 1) (r := CLr 1) rfl dvok_1 q2964 q191 q116 dX2_copy_0, m_new⟩ (
  lkp_c (P := OkP 278) ⟨(PuOK.ok (ok_dup dX2_copy_3)), m_dup⟩ (
  lkp_c (P := OkP 278) ⟨ok_ci (tg_I (rt := none) ⟨rfl, by decide⟩ rfl q2965 q193 q116 q194 ⟨cn_36.1, cn_36.2, pd_0⟩ dX2_copy_4) hd_no, m_ci⟩ (
  lkp_c (P := OkP 278) ⟨(PuOK.ok (ok_astore_n dX2_copy_7 rfl)), m_astore⟩ (
  lkp_c (P := OkP 278) ⟨(PuOK.ok (ok_aload_n dX2_copy_8 rfl)), m_aload⟩ (
  lkp_c (P := OkP 278) ⟨(PuOK.ok (ok_aload_n dX2_copy_9 rfl)), m_aload⟩ (
  lkp_c (P := OkP 278) ⟨ok_get ⟨"TollRoad$World", q626, Or.inl rfl⟩ dX2_copy_10, m_get⟩ (
  lkp_c (P := OkP 278) ⟨ok_cv (List.forall_mem_cons.mpr ⟨tg_V (ci := 2) (r := CLr 2) (y := 286) rfl ⟨rfl, by decide⟩ rfl q2966 q2967 q2968 q117 q2969 ⟨cn_40.1, cn_40.2, pd_115⟩ dX2_copy_13, (List.forall_mem_nil _)⟩) hd_no, m_cv⟩ (
  lkp_c (P := OkP 278) ⟨ok_put ⟨"TollRoad$World", q626, Or.inl rfl⟩ rfl fd_6 rfl dX2_copy_16, m_put⟩ (
  lkp_c (P := OkP 278) ⟨(PuOK.ok (ok_aload_n dX2_copy_19 rfl)), m_aload⟩ (
  lkp_c (P := OkP 278) ⟨(PuOK.ok (ok_aload_n dX2_copy_20 rfl)), m_aload⟩ (
  lkp_c (P := OkP 278) ⟨ok_get ⟨"TollRoad$World", q629, Or.inl rfl⟩ dX2_copy_21, m_get⟩ (
  lkp_c (P := OkP 278) ⟨ok_cln rfl q2978 q2973 q368 q369 q2974 q2975 dX2_copy_24, m_cln⟩ (
  lkp_c (P := OkP 278) ⟨ok_casta rfl q2979 dX2_copy_27, m_casta⟩ (
  lkp_c (P := OkP 278) ⟨ok_put ⟨"TollRoad$World", q629, Or.inl rfl⟩ rfl fd_7 rfl dX2_copy_30, m_put⟩ (
  lkp_c (P := OkP 278) ⟨(PuOK.ok (ok_iconst dX2_copy_33 rfl)), m_push⟩ (
  lkp_c (P := OkP 278) ⟨(PuOK.ok (ok_istore_n dX2_copy_34 rfl)), m_istore⟩ (
  lkp_c (P := OkP 278) ⟨(PuOK.ok (ok_iload_n dX2_copy_35 rfl)), m_iload⟩ (
  lkp_c (P := OkP 278) ⟨(PuOK.ok (ok_aload_n dX2_copy_36 rfl)), m_aload⟩ (
  lkp_c (P := OkP 278) ⟨ok_get ⟨"TollRoad$World", q634, Or.inl rfl⟩ dX2_copy_37, m_get⟩ (
  lkp_c (P := OkP 278) ⟨(PuOK.ok (ok_icmp_ge dX2_copy_40 rfl)), m_icmp⟩ (
  lkp_c (P := OkP 278) ⟨(PuOK.ok (ok_aload_n dX2_copy_43 rfl)), m_aload⟩ (
  lkp_c (P := OkP 278) ⟨ok_get ⟨"TollRoad$World", q632, Or.inl rfl⟩ dX2_copy_44, m_get⟩ (
  lkp_c (P := OkP 278) ⟨(PuOK.ok (ok_iload_n dX2_copy_47 rfl)), m_iload⟩ (
  lkp_c (P := OkP 278) ⟨(PuOK.ok (ok_aload_n dX2_copy_48 rfl)), m_aload⟩ (
  lkp_c (P := OkP 278) ⟨ok_get ⟨"TollRoad$World", q632, Or.inl rfl⟩ dX2_copy_49, m_get⟩ (
  lkp_c (P := OkP 278) ⟨(PuOK.ok (ok_iload_n dX2_copy_52 rfl)), m_iload⟩ (
  lkp_c (P := OkP 278) ⟨ok_aald dX2_copy_53, m_rdQ⟩ (
  lkp_c (P := OkP 278) ⟨ok_cv (List.forall_mem_cons.mpr ⟨tg_V (ci := 12) (r := CLr 12) (y := 423) rfl ⟨rfl, by decide⟩ rfl q2980 q2981 q2982 q144 q2983 ⟨cn_51.1, cn_51.2, pd_116⟩ dX2_copy_54, (List.forall_mem_nil _)⟩) hd_no, m_cv⟩ (
  lkp_c (P := OkP 278) ⟨ok_aast rfl cst_10 dX2_copy_57, m_wrQ⟩ (
  lkp_c (P := OkP 278) ⟨(PuOK.ok (ok_iinc dX2_copy_58 rfl)), m_iinc⟩ (
  lkp_c (P := OkP 278) ⟨(PuOK.ok (ok_goto dX2_copy_61 rfl)), m_goto⟩ (
  trivial))))))))))))))))))))))))))))))))
theorem c_278_1 : LkP (OkP 278) [(64, o_aload 1 1), (65, o_aload 0 1), (66, o_get 9), (69, o_put 9 1), (72, o_aload 0 1), (73, o_get 10), (76, o_cv [(3, 40)] 0 3 false none), (79, o_astore 2 1), (80, o_aload 2 1), (81, o_cv [(7, 50), (24, 86), (25, 92)] 0 5 false none), (86, o_if (fun x => decide (x = 0)) 114), (89, o_aload 2 1), (90, o_cv [(7, 51), (24, 89), (25, 95)] 0 5 false none), (95, o_cast [13]), (98, o_astore 3 1), (99, o_aload 1 1), (100, o_get 10), (103, o_aload 3 1), (104, o_cv [(13, 425)] 0 3 false none), (107, o_cv [(3, 43)] 1 3 false none), (110, o_pop), (111, o_goto 80), (114, o_aload 0 1), (115, o_get 11), (118, o_cv [(3, 40)] 0 3 false none), (121, o_astore 2 1), (122, o_aload 2 1), (123, o_cv [(7, 50), (24, 86), (25, 92)] 0 5 false none)] := lkp_c (P := OkP 278) ⟨(PuOK.ok (ok_aload_n dX2_copy_64 rfl)), m_aload⟩ (
  lkp_c (P := OkP 278) ⟨(PuOK.ok (ok_aload_n dX2_copy_65 rfl)), m_aload⟩ (
  lkp_c (P := OkP 278) ⟨ok_get ⟨"TollRoad$World", q634, Or.inl rfl⟩ dX2_copy_66, m_get⟩ (
  lkp_c (P := OkP 278) ⟨ok_put ⟨"TollRoad$World", q634, Or.inl rfl⟩ rfl fd_9 rfl dX2_copy_69, m_put⟩ (
  lkp_c (P := OkP 278) ⟨(PuOK.ok (ok_aload_n dX2_copy_72 rfl)), m_aload⟩ (
  lkp_c (P := OkP 278) ⟨ok_get ⟨"TollRoad$World", q637, Or.inl rfl⟩ dX2_copy_73, m_get⟩ (
  lkp_c (P := OkP 278) ⟨ok_cv (List.forall_mem_cons.mpr ⟨tg_V (ci := 3) (r := CLr 3) (y := 40) rfl ⟨rfl, by decide⟩ rfl q1824 q689 q690 q120 q691 ⟨cn_15.1, cn_15.2, pd_70⟩ dX2_copy_76, (List.forall_mem_nil _)⟩) hd_no, m_cv⟩ (
  lkp_c (P := OkP 278) ⟨(PuOK.ok (ok_astore_n dX2_copy_79 rfl)), m_astore⟩ (
  lkp_c (P := OkP 278) ⟨(PuOK.ok (ok_aload_n dX2_copy_80 rfl)), m_aload⟩ (
  lkp_c (P := OkP 278) ⟨ok_cv (List.forall_mem_cons.mpr ⟨tg_F (ci := 7) (r := CLr 7) (y := 50) rfl ⟨rfl, by decide⟩ q1826 q716 q718 q150 q720 q714 q713 q719 q717 q715 ⟨cn_37.1, cn_37.2, pd_50⟩ dX2_copy_81, (List.forall_mem_cons.mpr ⟨tg_F (ci := 24) (r := CLr 24) (y := 86) rfl ⟨rfl, by decide⟩ q1826 q722 q724 q168 q726 q714 q713 q725 q723 q721 ⟨cn_37.1, cn_37.2, pd_50⟩ dX2_copy_81, (List.forall_mem_cons.mpr ⟨tg_F (ci := 25) (r := CLr 25) (y := 92) rfl ⟨rfl, by decide⟩ q1826 q738 q740 q171 q742 q714 q713 q741 q739 q737 ⟨cn_37.1, cn_37.2, pd_50⟩ dX2_copy_81, (List.forall_mem_nil _)⟩)⟩)⟩) hd_no, m_cv⟩ (
  lkp_c (P := OkP 278) ⟨(PuOK.ok (ok_if_eq dX2_copy_86 rfl)), m_if⟩ (
  lkp_c (P := OkP 278) ⟨(PuOK.ok (ok_aload_n dX2_copy_89 rfl)), m_aload⟩ (
  lkp_c (P := OkP 278) ⟨ok_cv (List.forall_mem_cons.mpr ⟨tg_F (ci := 7) (r := CLr 7) (y := 51) rfl ⟨rfl, by decide⟩ q1828 q747 q749 q150 q751 q746 q745 q750 q748 q715 ⟨cn_37.1, cn_37.2, pd_71⟩ dX2_copy_90, (List.forall_mem_cons.mpr ⟨tg_F (ci := 24) (r := CLr 24) (y := 89) rfl ⟨rfl, by decide⟩ q1828 q756 q758 q169 q760 q746 q745 q759 q757 q721 ⟨cn_37.1, cn_37.2, pd_71⟩ dX2_copy_90, (List.forall_mem_cons.mpr ⟨tg_F (ci := 25) (r := CLr 25) (y := 95) rfl ⟨rfl, by decide⟩ q1828 q790 q792 q172 q794 q746 q745 q793 q791 q737 ⟨cn_37.1, cn_37.2, pd_71⟩ dX2_copy_90, (List.forall_mem_nil _)⟩)⟩)⟩) hd_no, m_cv⟩ (
  lkp_c (P := OkP 278) ⟨ok_cast q1492 cst_7 dX2_copy_95, m_cast⟩ (
  lkp_c (P := OkP 278) ⟨(PuOK.ok (ok_astore_n dX2_copy_98 rfl)), m_astore⟩ (
  lkp_c (P := OkP 278) ⟨(PuOK.ok (ok_aload_n dX2_copy_99 rfl)), m_aload⟩ (
  lkp_c (P := OkP 278) ⟨ok_get ⟨"TollRoad$World", q637, Or.inl rfl⟩ dX2_copy_100, m_get⟩ (
  lkp_c (P := OkP 278) ⟨(PuOK.ok (ok_aload_n dX2_copy_103 rfl)), m_aload⟩ (
  lkp_c (P := OkP 278) ⟨ok_cv (List.forall_mem_cons.mpr ⟨tg_V (ci := 13) (r := CLr 13) (y := 425) rfl ⟨rfl, by decide⟩ rfl q2986 q2987 q2988 q145 q2989 ⟨cn_52.1, cn_52.2, pd_117⟩ dX2_copy_104, (List.forall_mem_nil _)⟩) hd_no, m_cv⟩ (
  lkp_c (P := OkP 278) ⟨ok_cv (List.forall_mem_cons.mpr ⟨tg_V (ci := 3) (r := CLr 3) (y := 43) rfl ⟨rfl, by decide⟩ rfl q1530 q1531 q1532 q120 q1533 ⟨cn_15.1, cn_15.2, pd_12⟩ dX2_copy_107, (List.forall_mem_nil _)⟩) hd_no, m_cv⟩ (
  lkp_c (P := OkP 278) ⟨(PuOK.ok (ok_pop dX2_copy_110)), m_pop⟩ (
  lkp_c (P := OkP 278) ⟨(PuOK.ok (ok_goto dX2_copy_111 rfl)), m_goto⟩ (
  lkp_c (P := OkP 278) ⟨(PuOK.ok (ok_aload_n dX2_copy_114 rfl)), m_aload⟩ (
  lkp_c (P := OkP 278) ⟨ok_get ⟨"TollRoad$World", q641, Or.inl rfl⟩ dX2_copy_115, m_get⟩ (
  lkp_c (P := OkP 278) ⟨ok_cv (List.forall_mem_cons.mpr ⟨tg_V (ci := 3) (r := CLr 3) (y := 40) rfl ⟨rfl, by decide⟩ rfl q1824 q689 q690 q120 q691 ⟨cn_15.1, cn_15.2, pd_70⟩ dX2_copy_118, (List.forall_mem_nil _)⟩) hd_no, m_cv⟩ (
  lkp_c (P := OkP 278) ⟨(PuOK.ok (ok_astore_n dX2_copy_121 rfl)), m_astore⟩ (
  lkp_c (P := OkP 278) ⟨(PuOK.ok (ok_aload_n dX2_copy_122 rfl)), m_aload⟩ (
  lkp_c (P := OkP 278) ⟨ok_cv (List.forall_mem_cons.mpr ⟨tg_F (ci := 7) (r := CLr 7) (y := 50) rfl ⟨rfl, by decide⟩ q1826 q716 q718 q150 q720 q714 q713 q719 q717 q715 ⟨cn_37.1, cn_37.2, pd_50⟩ dX2_copy_123, (List.forall_mem_cons.mpr ⟨tg_F (ci := 24) (r := CLr 24) (y := 86) rfl ⟨rfl, by decide⟩ q1826 q722 q724 q168 q726 q714 q713 q725 q723 q721 ⟨cn_37.1, cn_37.2, pd_50⟩ dX2_copy_123, (List.forall_mem_cons.mpr ⟨tg_F (ci := 25) (r := CLr 25) (y := 92) rfl ⟨rfl, by decide⟩ q1826 q738 q740 q171 q742 q714 q713 q741 q739 q737 ⟨cn_37.1, cn_37.2, pd_50⟩ dX2_copy_123, (List.forall_mem_nil _)⟩)⟩)⟩) hd_no, m_cv⟩ (
  trivial))))))))))))))))))))))))))))
theorem c_278_2 : LkP (OkP 278) [(128, o_if (fun x => decide (x = 0)) 156), (131, o_aload 2 1), (132, o_cv [(7, 51), (24, 89), (25, 95)] 0 5 false none), (137, o_cast [17]), (140, o_astore 3 1), (141, o_aload 1 1), (142, o_get 11), (145, o_aload 3 1), (146, o_cv [(17, 237)] 0 3 false none), (149, o_cv [(3, 43)] 1 3 false none), (152, o_pop), (153, o_goto 122), (156, o_aload 0 1), (157, o_get 12), (160, o_cv [(3, 40)] 0 3 false none), (163, o_astore 2 1), (164, o_aload 2 1), (165, o_cv [(7, 50), (24, 86), (25, 92)] 0 5 false none), (170, o_if (fun x => decide (x = 0)) 198), (173, o_aload 2 1), (174, o_cv [(7, 51), (24, 89), (25, 95)] 0 5 false none), (179, o_cast [27]), (182, o_astore 3 1), (183, o_aload 1 1), (184, o_get 12), (187, o_aload 3 1), (188, o_cv [(27, 253)] 0 3 false none), (191, o_cv [(3, 43)] 1 3 false none)] := lkp_c (P := OkP 278) ⟨(PuOK.ok (ok_if_eq dX2_copy_128 rfl)), m_if⟩ (
  lkp_c (P := OkP 278) ⟨(PuOK.ok (ok_aload_n dX2_copy_131 rfl)), m_aload⟩ (
  lkp_c (P := OkP 278) ⟨ok_cv (List.forall_mem_cons.mpr ⟨tg_F (ci := 7) (r := CLr 7) (y := 51) rfl ⟨rfl, by decide⟩ q1828 q747 q749 q150 q751 q746 q745 q750 q748 q715 ⟨cn_37.1, cn_37.2, pd_71⟩ dX2_copy_132, (List.forall_mem_cons.mpr ⟨tg_F (ci := 24) (r := CLr 24) (y := 89) rfl ⟨rfl, by decide⟩ q1828 q756 q758 q169 q760 q746 q745 q759 q757 q721 ⟨cn_37.1, cn_37.2, pd_71⟩ dX2_copy_132, (List.forall_mem_cons.mpr ⟨tg_F (ci := 25) (r := CLr 25) (y := 95) rfl ⟨rfl, by decide⟩ q1828 q790 q792 q172 q794 q746 q745 q793 q791 q737 ⟨cn_37.1, cn_37.2, pd_71⟩ dX2_copy_132, (List.forall_mem_nil _)⟩)⟩)⟩) hd_no, m_cv⟩ (
  lkp_c (P := OkP 278) ⟨ok_cast q1829 cst_6 dX2_copy_137, m_cast⟩ (
  lkp_c (P := OkP 278) ⟨(PuOK.ok (ok_astore_n dX2_copy_140 rfl)), m_astore⟩ (
  lkp_c (P := OkP 278) ⟨(PuOK.ok (ok_aload_n dX2_copy_141 rfl)), m_aload⟩ (
  lkp_c (P := OkP 278) ⟨ok_get ⟨"TollRoad$World", q641, Or.inl rfl⟩ dX2_copy_142, m_get⟩ (
  lkp_c (P := OkP 278) ⟨(PuOK.ok (ok_aload_n dX2_copy_145 rfl)), m_aload⟩ (
  lkp_c (P := OkP 278) ⟨ok_cv (List.forall_mem_cons.mpr ⟨tg_V (ci := 17) (r := CLr 17) (y := 237) rfl ⟨rfl, by decide⟩ rfl q2992 q2993 q2994 q157 q2995 ⟨cn_44.1, cn_44.2, pd_118⟩ dX2_copy_146, (List.forall_mem_nil _)⟩) hd_no, m_cv⟩ (
  lkp_c (P := OkP 278) ⟨ok_cv (List.forall_mem_cons.mpr ⟨tg_V (ci := 3) (r := CLr 3) (y := 43) rfl ⟨rfl, by decide⟩ rfl q1530 q1531 q1532 q120 q1533 ⟨cn_15.1, cn_15.2, pd_12⟩ dX2_copy_149, (List.forall_mem_nil _)⟩) hd_no, m_cv⟩ (
  lkp_c (P := OkP 278) ⟨(PuOK.ok (ok_pop dX2_copy_152)), m_pop⟩ (
  lkp_c (P := OkP 278) ⟨(PuOK.ok (ok_goto dX2_copy_153 rfl)), m_goto⟩ (
  lkp_c (P := OkP 278) ⟨(PuOK.ok (ok_aload_n dX2_copy_156 rfl)), m_aload⟩ (
  lkp_c (P := OkP 278) ⟨ok_get ⟨"TollRoad$World", q643, Or.inl rfl⟩ dX2_copy_157, m_get⟩ (
  lkp_c (P := OkP 278) ⟨ok_cv (List.forall_mem_cons.mpr ⟨tg_V (ci := 3) (r := CLr 3) (y := 40) rfl ⟨rfl, by decide⟩ rfl q1824 q689 q690 q120 q691 ⟨cn_15.1, cn_15.2, pd_70⟩ dX2_copy_160, (List.forall_mem_nil _)⟩) hd_no, m_cv⟩ (
  lkp_c (P := OkP 278) ⟨(PuOK.ok (ok_astore_n dX2_copy_163 rfl)), m_astore⟩ (
  lkp_c (P := OkP 278) ⟨(PuOK.ok (ok_aload_n dX2_copy_164 rfl)), m_aload⟩ (
  lkp_c (P := OkP 278) ⟨ok_cv (List.forall_mem_cons.mpr ⟨tg_F (ci := 7) (r := CLr 7) (y := 50) rfl ⟨rfl, by decide⟩ q1826 q716 q718 q150 q720 q714 q713 q719 q717 q715 ⟨cn_37.1, cn_37.2, pd_50⟩ dX2_copy_165, (List.forall_mem_cons.mpr ⟨tg_F (ci := 24) (r := CLr 24) (y := 86) rfl ⟨rfl, by decide⟩ q1826 q722 q724 q168 q726 q714 q713 q725 q723 q721 ⟨cn_37.1, cn_37.2, pd_50⟩ dX2_copy_165, (List.forall_mem_cons.mpr ⟨tg_F (ci := 25) (r := CLr 25) (y := 92) rfl ⟨rfl, by decide⟩ q1826 q738 q740 q171 q742 q714 q713 q741 q739 q737 ⟨cn_37.1, cn_37.2, pd_50⟩ dX2_copy_165, (List.forall_mem_nil _)⟩)⟩)⟩) hd_no, m_cv⟩ (
  lkp_c (P := OkP 278) ⟨(PuOK.ok (ok_if_eq dX2_copy_170 rfl)), m_if⟩ (
  lkp_c (P := OkP 278) ⟨(PuOK.ok (ok_aload_n dX2_copy_173 rfl)), m_aload⟩ (
  lkp_c (P := OkP 278) ⟨ok_cv (List.forall_mem_cons.mpr ⟨tg_F (ci := 7) (r := CLr 7) (y := 51) rfl ⟨rfl, by decide⟩ q1828 q747 q749 q150 q751 q746 q745 q750 q748 q715 ⟨cn_37.1, cn_37.2, pd_71⟩ dX2_copy_174, (List.forall_mem_cons.mpr ⟨tg_F (ci := 24) (r := CLr 24) (y := 89) rfl ⟨rfl, by decide⟩ q1828 q756 q758 q169 q760 q746 q745 q759 q757 q721 ⟨cn_37.1, cn_37.2, pd_71⟩ dX2_copy_174, (List.forall_mem_cons.mpr ⟨tg_F (ci := 25) (r := CLr 25) (y := 95) rfl ⟨rfl, by decide⟩ q1828 q790 q792 q172 q794 q746 q745 q793 q791 q737 ⟨cn_37.1, cn_37.2, pd_71⟩ dX2_copy_174, (List.forall_mem_nil _)⟩)⟩)⟩) hd_no, m_cv⟩ (
  lkp_c (P := OkP 278) ⟨ok_cast q2602 cst_5 dX2_copy_179, m_cast⟩ (
  lkp_c (P := OkP 278) ⟨(PuOK.ok (ok_astore_n dX2_copy_182 rfl)), m_astore⟩ (
  lkp_c (P := OkP 278) ⟨(PuOK.ok (ok_aload_n dX2_copy_183 rfl)), m_aload⟩ (
  lkp_c (P := OkP 278) ⟨ok_get ⟨"TollRoad$World", q643, Or.inl rfl⟩ dX2_copy_184, m_get⟩ (
  lkp_c (P := OkP 278) ⟨(PuOK.ok (ok_aload_n dX2_copy_187 rfl)), m_aload⟩ (
  lkp_c (P := OkP 278) ⟨ok_cv (List.forall_mem_cons.mpr ⟨tg_V (ci := 27) (r := CLr 27) (y := 253) rfl ⟨rfl, by decide⟩ rfl q2998 q2999 q3000 q174 q3001 ⟨cn_47.1, cn_47.2, pd_119⟩ dX2_copy_188, (List.forall_mem_nil _)⟩) hd_no, m_cv⟩ (
  lkp_c (P := OkP 278) ⟨ok_cv (List.forall_mem_cons.mpr ⟨tg_V (ci := 3) (r := CLr 3) (y := 43) rfl ⟨rfl, by decide⟩ rfl q1530 q1531 q1532 q120 q1533 ⟨cn_15.1, cn_15.2, pd_12⟩ dX2_copy_191, (List.forall_mem_nil _)⟩) hd_no, m_cv⟩ (
  trivial))))))))))))))))))))))))))))
theorem c_278_3 : LkP (OkP 278) [(194, o_pop), (195, o_goto 164), (198, o_aload 0 1), (199, o_get 13), (202, o_cv [(6, 38)] 0 3 false none), (205, o_cv [(29, 102)] 0 5 false none), (210, o_astore 2 1), (211, o_aload 2 1), (212, o_cv [(7, 50), (24, 86), (25, 92)] 0 5 false none), (217, o_if (fun x => decide (x = 0)) 259), (220, o_aload 2 1), (221, o_cv [(7, 51), (24, 89), (25, 95)] 0 5 false none), (226, o_cast [22, 28]), (229, o_astore 3 1), (230, o_aload 1 1), (231, o_get 13), (234, o_aload 3 1), (235, o_cv [(28, 98)] 0 5 false none), (240, o_cast [8]), (243, o_aload 3 1), (244, o_cv [(28, 99)] 0 5 false none), (249, o_cast [21]), (252, o_cv [(6, 32)] 2 3 false none), (255, o_pop)] := lkp_c (P := OkP 278) ⟨(PuOK.ok (ok_pop dX2_copy_194)), m_pop⟩ (
  lkp_c (P := OkP 278) ⟨(PuOK.ok (ok_goto dX2_copy_195 rfl)), m_goto⟩ (
  lkp_c (P := OkP 278) ⟨(PuOK.ok (ok_aload_n dX2_copy_198 rfl)), m_aload⟩ (
  lkp_c (P := OkP 278) ⟨ok_get ⟨"TollRoad$World", q645, Or.inl rfl⟩ dX2_copy_199, m_get⟩ (
  lkp_c (P := OkP 278) ⟨ok_cv (List.forall_mem_cons.mpr ⟨tg_V (ci := 6) (r := CLr 6) (y := 38) rfl ⟨rfl, by decide⟩ rfl q3004 q3005 q3006 q138 q3007 ⟨cn_9.1, cn_9.2, pd_120⟩ dX2_copy_202, (List.forall_mem_nil _)⟩) hd_no, m_cv⟩ (
  lkp_c (P := OkP 278) ⟨ok_cv (List.forall_mem_cons.mpr ⟨tg_F (ci := 29) (r := CLr 29) (y := 102) rfl ⟨rfl, by decide⟩ q3022 q3026 q2383 q181 q2385 q3024 q3023 q2384 q2382 q3025 ⟨cn_55.1, cn_55.2, pd_70⟩ dX2_copy_205, (List.forall_mem_nil _)⟩) hd_no, m_cv⟩ (
  lkp_c (P := OkP 278) ⟨(PuOK.ok (ok_astore_n dX2_copy_210 rfl)), m_astore⟩ (
  lkp_c (P := OkP 278) ⟨(PuOK.ok (ok_aload_n dX2_copy_211 rfl)), m_aload⟩ (
  lkp_c (P := OkP 278) ⟨ok_cv (List.forall_mem_cons.mpr ⟨tg_F (ci := 7) (r := CLr 7) (y := 50) rfl ⟨rfl, by decide⟩ q1826 q716 q718 q150 q720 q714 q713 q719 q717 q715 ⟨cn_37.1, cn_37.2, pd_50⟩ dX2_copy_212, (List.forall_mem_cons.mpr ⟨tg_F (ci := 24) (r := CLr 24) (y := 86) rfl ⟨rfl, by decide⟩ q1826 q722 q724 q168 q726 q714 q713 q725 q723 q721 ⟨cn_37.1, cn_37.2, pd_50⟩ dX2_copy_212, (List.forall_mem_cons.mpr ⟨tg_F (ci := 25) (r := CLr 25) (y := 92) rfl ⟨rfl, by decide⟩ q1826 q738 q740 q171 q742 q714 q713 q741 q739 q737 ⟨cn_37.1, cn_37.2, pd_50⟩ dX2_copy_212, (List.forall_mem_nil _)⟩)⟩)⟩) hd_no, m_cv⟩ (
  lkp_c (P := OkP 278) ⟨(PuOK.ok (ok_if_eq dX2_copy_217 rfl)), m_if⟩ (
  lkp_c (P := OkP 278) ⟨(PuOK.ok (ok_aload_n dX2_copy_220 rfl)), m_aload⟩ (
  lkp_c (P := OkP 278) ⟨ok_cv (List.forall_mem_cons.mpr ⟨tg_F (ci := 7) (r := CLr 7) (y := 51) rfl ⟨rfl, by decide⟩ q1828 q747 q749 q150 q751 q746 q745 q750 q748 q715 ⟨cn_37.1, cn_37.2, pd_71⟩ dX2_copy_221, (List.forall_mem_cons.mpr ⟨tg_F (ci := 24) (r := CLr 24) (y := 89) rfl ⟨rfl, by decide⟩ q1828 q756 q758 q169 q760 q746 q745 q759 q757 q721 ⟨cn_37.1, cn_37.2, pd_71⟩ dX2_copy_221, (List.forall_mem_cons.mpr ⟨tg_F (ci := 25) (r := CLr 25) (y := 95) rfl ⟨rfl, by decide⟩ q1828 q790 q792 q172 q794 q746 q745 q793 q791 q737 ⟨cn_37.1, cn_37.2, pd_71⟩ dX2_copy_221, (List.forall_mem_nil _)⟩)⟩)⟩) hd_no, m_cv⟩ (
  lkp_c (P := OkP 278) ⟨ok_cast q3027 cst_11 dX2_copy_226, m_cast⟩ (
  lkp_c (P := OkP 278) ⟨(PuOK.ok (ok_astore_n dX2_copy_229 rfl)), m_astore⟩ (
  lkp_c (P := OkP 278) ⟨(PuOK.ok (ok_aload_n dX2_copy_230 rfl)), m_aload⟩ (
  lkp_c (P := OkP 278) ⟨ok_get ⟨"TollRoad$World", q645, Or.inl rfl⟩ dX2_copy_231, m_get⟩ (
  lkp_c (P := OkP 278) ⟨(PuOK.ok (ok_aload_n dX2_copy_234 rfl)), m_aload⟩ (
  lkp_c (P := OkP 278) ⟨ok_cv (List.forall_mem_cons.mpr ⟨tg_F (ci := 28) (r := CLr 28) (y := 98) rfl ⟨rfl, by decide⟩ q3029 q3033 q3035 q177 q3037 q3031 q3030 q3036 q3034 q3032 ⟨cn_56.1, cn_56.2, pd_71⟩ dX2_copy_235, (List.forall_mem_nil _)⟩) hd_no, m_cv⟩ (
  lkp_c (P := OkP 278) ⟨ok_cast q813 cst_12 dX2_copy_240, m_cast⟩ (
  lkp_c (P := OkP 278) ⟨(PuOK.ok (ok_aload_n dX2_copy_243 rfl)), m_aload⟩ (
  lkp_c (P := OkP 278) ⟨ok_cv (List.forall_mem_cons.mpr ⟨tg_F (ci := 28) (r := CLr 28) (y := 99) rfl ⟨rfl, by decide⟩ q3048 q3051 q3053 q177 q3055 q3050 q3049 q3054 q3052 q3032 ⟨cn_56.1, cn_56.2, pd_71⟩ dX2_copy_244, (List.forall_mem_nil _)⟩) hd_no, m_cv⟩ (
  lkp_c (P := OkP 278) ⟨ok_cast q1244 cst_1 dX2_copy_249, m_cast⟩ (
  lkp_c (P := OkP 278) ⟨ok_cv (List.forall_mem_cons.mpr ⟨tg_V (ci := 6) (r := CLr 6) (y := 32) rfl ⟨rfl, by decide⟩ rfl q2694 q2695 q2696 q138 q2697 ⟨cn_9.1, cn_9.2, pd_106⟩ dX2_copy_252, (List.forall_mem_nil _)⟩) hd_no, m_cv⟩ (
  lkp_c (P := OkP 278) ⟨(PuOK.ok (ok_pop dX2_copy_255)), m_pop⟩ (
  trivial))))))))))))))))))))))))
theorem c_278_4 : LkP (OkP 278) [(256, o_goto 211), (259, o_aload 1 1), (260, o_ret 0)] := lkp_c (P := OkP 278) ⟨(PuOK.ok (ok_goto dX2_copy_256 rfl)), m_goto⟩ (
  lkp_c (P := OkP 278) ⟨(PuOK.ok (ok_aload_n dX2_copy_259 rfl)), m_aload⟩ (
  lkp_c (P := OkP 278) ⟨ok_aret rfl (Or.inl ⟨_, rfl⟩) dX2_copy_260, m_ret⟩ (
  trivial)))
theorem mt_278 : MtOK TB NT IT 278 := ⟨by decide +kernel, rfl, (fun h => by cases h), Or.inl ⟨rfl, rfl⟩, rfl, by decide, lk2_all (P := OkP 278) ⟨c_278_0, c_278_1, c_278_2, c_278_3, c_278_4, trivial⟩⟩
def dkwX20_init_0 : List UInt8 := [42, 183, 0, 1, 42, 27, 181, 0, 7, 42, 28, 181, 0, 13, 177]
abbrev dktX20_init_0 : List UInt8 := dkwX20_init_0 ++ []
theorem dksX20_init_0 : cX20_init.data.toList.drop 0 = dktX20_init_0 := by decide +kernel
theorem dX20_init_0 : decode cX20_init 0 = .ok (.aload_n 0, 1) := dk_42 (dk_at dksX20_init_0 0 rfl rfl)
theorem dX20_init_1 : decode cX20_init 1 = .ok (.invokespecial 1, 3) := dk_183 0 1 (dk_at dksX20_init_0 1 rfl rfl)
theorem dX20_init_4 : decode cX20_init 4 = .ok (.aload_n 0, 1) := dk_42 (dk_at dksX20_init_0 4 rfl rfl)
theorem dX20_init_5 : decode cX20_init 5 = .ok (.iload_n 1, 1) := dk_27 (dk_at dksX20_init_0 5 rfl rfl)
theorem dX20_init_6 : decode cX20_init 6 = .ok (.putfield 7, 3) := dk_181 0 7 (dk_at dksX20_init_0 6 rfl rfl)
theorem dX20_init_9 : decode cX20_init 9 = .ok (.aload_n 0, 1) := dk_42 (dk_at dksX20_init_0 9 rfl rfl)
theorem dX20_init_10 : decode cX20_init 10 = .ok (.iload_n 2, 1) := dk_28 (dk_at dksX20_init_0 10 rfl rfl)
theorem dX20_init_11 : decode cX20_init 11 = .ok (.putfield 13, 3) := dk_181 0 13 (dk_at dksX20_init_0 11 rfl rfl)
theorem dX20_init_14 : decode cX20_init 14 = .ok (.return_, 1) := dk_177 (dk_at dksX20_init_0 14 rfl rfl)
theorem c_279_0 : LkP (OkP 279) [(0, o_aload 0 1), (1, o_oi), (4, o_aload 0 1), (5, o_iload 1 1), (6, o_put 41 1), (9, o_aload 0 1), (10, o_iload 2 1), (11, o_put 42 5), (14, o_vret)] := lkp_c (P := OkP 279) ⟨(PuOK.ok (ok_aload_n dX20_init_0 rfl)), m_aload⟩ (
  lkp_c (P := OkP 279) ⟨ok_oi q818 q188 q_oi dX20_init_1, m_oi⟩ (
  lkp_c (P := OkP 279) ⟨(PuOK.ok (ok_aload_n dX20_init_4 rfl)), m_aload⟩ (
  lkp_c (P := OkP 279) ⟨(PuOK.ok (ok_iload_n dX20_init_5 rfl)), m_iload⟩ (
  lkp_c (P := OkP 279) ⟨ok_putF q819 rfl rfl rfl fd_41 rfl dX20_init_6, m_put⟩ (
  lkp_c (P := OkP 279) ⟨(PuOK.ok (ok_aload_n dX20_init_9 rfl)), m_aload⟩ (
  lkp_c (P := OkP 279) ⟨(PuOK.ok (ok_iload_n dX20_init_10 rfl)), m_iload⟩ (
  lkp_c (P := OkP 279) ⟨ok_putF q820 rfl rfl rfl fd_42 rfl dX20_init_11, m_put⟩ (
  lkp_c (P := OkP 279) ⟨ok_vret rfl dX20_init_14, m_vret⟩ (
  trivial)))))))))
theorem mt_279 : MtOK TB NT IT 279 := ⟨by decide +kernel, rfl, fun _ => rfl, Or.inl ⟨rfl, rfl⟩, rfl, by decide, lk2_all (P := OkP 279) ⟨c_279_0, trivial⟩⟩
def dkwX20_hashCode_0 : List UInt8 := [5, 42, 180, 0, 7, 104, 42, 180, 0, 13, 153, 0, 7, 4, 167, 0, 4, 3, 96, 172]
abbrev dktX20_hashCode_0 : List UInt8 := dkwX20_hashCode_0 ++ []
theorem dksX20_hashCode_0 : cX20_hashCode.data.toList.drop 0 = dktX20_hashCode_0 := by decide +kernel
theorem dX20_hashCode_0 : decode cX20_hashCode 0 = .ok (.iconst 2, 1) := dk_5 (dk_at dksX20_hashCode_0 0 rfl rfl)
theorem dX20_hashCode_1 : decode cX20_hashCode 1 = .ok (.aload_n 0, 1) := dk_42 (dk_at dksX20_hashCode_0 1 rfl rfl)
theorem dX20_hashCode_2 : decode cX20_hashCode 2 = .ok (.getfield 7, 3) := dk_180 0 7 (dk_at dksX20_hashCode_0 2 rfl rfl)
theorem dX20_hashCode_5 : decode cX20_hashCode 5 = .ok (.imul, 1) := dk_104 (dk_at dksX20_hashCode_0 5 rfl rfl)
theorem dX20_hashCode_6 : decode cX20_hashCode 6 = .ok (.aload_n 0, 1) := dk_42 (dk_at dksX20_hashCode_0 6 rfl rfl)
theorem dX20_hashCode_7 : decode cX20_hashCode 7 = .ok (.getfield 13, 3) := dk_180 0 13 (dk_at dksX20_hashCode_0 7 rfl rfl)
theorem dX20_hashCode_10 : decode cX20_hashCode 10 = .ok (.ifCond .eq 7, 3) := dk_153 0 7 (dk_at dksX20_hashCode_0 10 rfl rfl)
theorem dX20_hashCode_13 : decode cX20_hashCode 13 = .ok (.iconst 1, 1) := dk_4 (dk_at dksX20_hashCode_0 13 rfl rfl)
theorem dX20_hashCode_14 : decode cX20_hashCode 14 = .ok (.goto 4, 3) := dk_167 0 4 (dk_at dksX20_hashCode_0 14 rfl rfl)
theorem dX20_hashCode_17 : decode cX20_hashCode 17 = .ok (.iconst 0, 1) := dk_3 (dk_at dksX20_hashCode_0 17 rfl rfl)
theorem dX20_hashCode_18 : decode cX20_hashCode 18 = .ok (.iadd, 1) := dk_96 (dk_at dksX20_hashCode_0 18 rfl rfl)
theorem dX20_hashCode_19 : decode cX20_hashCode 19 = .ok (.ireturn, 1) := dk_172 (dk_at dksX20_hashCode_0 19 rfl rfl)
theorem c_280_0 : LkP (OkP 280) [(0, o_push 1 (.int 2)), (1, o_aload 0 1), (2, o_get 41), (5, o_iop (fun x y => x * y)), (6, o_aload 0 1), (7, o_get 42), (10, o_if (fun x => decide (x = 0)) 17), (13, o_push 1 (.int 1)), (14, o_goto 18), (17, o_push 1 (.int 0)), (18, o_iop (fun x y => x + y)), (19, o_ret 1)] := lkp_c (P := OkP 280) ⟨(PuOK.ok (ok_iconst dX20_hashCode_0 rfl)), m_push⟩ (
  lkp_c (P := OkP 280) ⟨(PuOK.ok (ok_aload_n dX20_hashCode_1 rfl)), m_aload⟩ (
  lkp_c (P := OkP 280) ⟨ok_get ⟨"TollRoad$Mark", q819, Or.inl rfl⟩ dX20_hashCode_2, m_get⟩ (
  lkp_c (P := OkP 280) ⟨(PuOK.ok (ok_imul dX20_hashCode_5)), m_iop⟩ (
  lkp_c (P := OkP 280) ⟨(PuOK.ok (ok_aload_n dX20_hashCode_6 rfl)), m_aload⟩ (
  lkp_c (P := OkP 280) ⟨ok_get ⟨"TollRoad$Mark", q820, Or.inl rfl⟩ dX20_hashCode_7, m_get⟩ (
  lkp_c (P := OkP 280) ⟨(PuOK.ok (ok_if_eq dX20_hashCode_10 rfl)), m_if⟩ (
  lkp_c (P := OkP 280) ⟨(PuOK.ok (ok_iconst dX20_hashCode_13 rfl)), m_push⟩ (
  lkp_c (P := OkP 280) ⟨(PuOK.ok (ok_goto dX20_hashCode_14 rfl)), m_goto⟩ (
  lkp_c (P := OkP 280) ⟨(PuOK.ok (ok_iconst dX20_hashCode_17 rfl)), m_push⟩ (
  lkp_c (P := OkP 280) ⟨(PuOK.ok (ok_iadd dX20_hashCode_18)), m_iop⟩ (
  lkp_c (P := OkP 280) ⟨ok_iret rfl rfl (by decide) dX20_hashCode_19, m_ret⟩ (
  trivial))))))))))))
theorem mt_280 : MtOK TB NT IT 280 := ⟨by decide +kernel, rfl, (fun h => by cases h), Or.inl ⟨rfl, rfl⟩, rfl, by decide, lk2_all (P := OkP 280) ⟨c_280_0, trivial⟩⟩
def dkwX20_equals_1 : List UInt8 := [192, 0, 8, 180, 0, 13, 42, 180, 0, 13, 160, 0, 7, 4, 167, 0, 4, 3, 172]
abbrev dktX20_equals_1 : List UInt8 := dkwX20_equals_1 ++ []
def dkwX20_equals_0 : List UInt8 := [43, 193, 0, 8, 153, 0, 35, 43, 192, 0, 8, 180, 0, 7, 42, 180, 0, 7, 160, 0, 21, 43]
abbrev dktX20_equals_0 : List UInt8 := dkwX20_equals_0 ++ dktX20_equals_1
theorem dksX20_equals_0 : cX20_equals.data.toList.drop 0 = dktX20_equals_0 := by decide +kernel
theorem dksX20_equals_1 : cX20_equals.data.toList.drop 22 = dktX20_equals_1 := dk_seg dksX20_equals_0 22 rfl rfl
theorem dX20_equals_0 : decode cX20_equals 0 = .ok (.aload_n 1, 1) := dk_43 (dk_at dksX20_equals_0 0 rfl rfl)
theorem dX20_equals_1 : decode cX20_equals 1 = .ok (.instanceof 8, 3) := dk_193 0 8 (dk_at dksX20_equals_0 1 rfl rfl)
theorem dX20_equals_4 : decode cX20_equals 4 = .ok (.ifCond .eq 35, 3) := dk_153 0 35 (dk_at dksX20_equals_0 4 rfl rfl)
theorem dX20_equals_7 : decode cX20_equals 7 = .ok (.aload_n 1, 1) := dk_43 (dk_at dksX20_equals_0 7 rfl rfl)
theorem dX20_equals_8 : decode cX20_equals 8 = .ok (.checkcast 8, 3) := dk_192 0 8 (dk_at dksX20_equals_0 8 rfl rfl)
theorem dX20_equals_11 : decode cX20_equals 11 = .ok (.getfield 7, 3) := dk_180 0 7 (dk_at dksX20_equals_0 11 rfl rfl)
theorem dX20_equals_14 : decode cX20_equals 14 = .ok (.aload_n 0, 1) := dk_42 (dk_at dksX20_equals_0 14 rfl rfl)
theorem dX20_equals_15 : decode cX20_equals 15 = .ok (.getfield 7, 3) := dk_180 0 7 (dk_at dksX20_equals_0 15 rfl rfl)
theorem dX20_equals_18 : decode cX20_equals 18 = .ok (.if_icmp .ne 21, 3) := dk_160 0 21 (dk_at dksX20_equals_0 18 rfl rfl)
theorem dX20_equals_21 : decode cX20_equals 21 = .ok (.aload_n 1, 1) := dk_43 (dk_at dksX20_equals_0 21 rfl rfl)
theorem dX20_equals_22 : decode cX20_equals 22 = .ok (.checkcast 8, 3) := dk_192 0 8 (dk_at dksX20_equals_1 0 rfl rfl)
theorem dX20_equals_25 : decode cX20_equals 25 = .ok (.getfield 13, 3) := dk_180 0 13 (dk_at dksX20_equals_1 3 rfl rfl)
theorem dX20_equals_28 : decode cX20_equals 28 = .ok (.aload_n 0, 1) := dk_42 (dk_at dksX20_equals_1 6 rfl rfl)
theorem dX20_equals_29 : decode cX20_equals 29 = .ok (.getfield 13, 3) := dk_180 0 13 (dk_at dksX20_equals_1 7 rfl rfl)
theorem dX20_equals_32 : decode cX20_equals 32 = .ok (.if_icmp .ne 7, 3) := dk_160 0 7 (dk_at dksX20_equals_1 10 rfl rfl)
theorem dX20_equals_35 : decode cX20_equals 35 = .ok (.iconst 1, 1) := dk_4 (dk_at dksX20_equals_1 13 rfl rfl)
theorem dX20_equals_36 : decode cX20_equals 36 = .ok (.goto 4, 3) := dk_167 0 4 (dk_at dksX20_equals_1 14 rfl rfl)
theorem dX20_equals_39 : decode cX20_equals 39 = .ok (.iconst 0, 1) := dk_3 (dk_at dksX20_equals_1 17 rfl rfl)
theorem dX20_equals_40 : decode cX20_equals 40 = .ok (.ireturn, 1) := dk_172 (dk_at dksX20_equals_1 18 rfl rfl)
theorem c_281_0 : LkP (OkP 281) [(0, o_aload 1 1), (1, o_inst [8] []), (4, o_if (fun x => decide (x = 0)) 39), (7, o_aload 1 1), (8, o_cast [8]), (11, o_get 41), (14, o_aload 0 1), (15, o_get 41), (18, o_icmp (fun x y => decide (¬ x = y)) 39), (21, o_aload 1 1), (22, o_cast [8]), (25, o_get 42), (28, o_aload 0 1), (29, o_get 42), (32, o_icmp (fun x y => decide (¬ x = y)) 39), (35, o_push 1 (.int 1)), (36, o_goto 40), (39, o_push 1 (.int 0)), (40, o_ret 5)] := lkp_c (P := OkP 281) ⟨(PuOK.ok (ok_aload_n dX20_equals_0 rfl)), m_aload⟩ (
  lkp_c (P := OkP 281) ⟨ok_inst q947 cst_12 notL_nil dX20_equals_1, m_inst⟩ (
  lkp_c (P := OkP 281) ⟨(PuOK.ok (ok_if_eq dX20_equals_4 rfl)), m_if⟩ (
  lkp_c (P := OkP 281) ⟨(PuOK.ok (ok_aload_n dX20_equals_7 rfl)), m_aload⟩ (
  lkp_c (P := OkP 281) ⟨ok_cast q947 cst_12 dX20_equals_8, m_cast⟩ (
  lkp_c (P := OkP 281) ⟨ok_get ⟨"TollRoad$Mark", q819, Or.inl rfl⟩ dX20_equals_11, m_get⟩ (
  lkp_c (P := OkP 281) ⟨(PuOK.ok (ok_aload_n dX20_equals_14 rfl)), m_aload⟩ (
  lkp_c (P := OkP 281) ⟨ok_get ⟨"TollRoad$Mark", q819, Or.inl rfl⟩ dX20_equals_15, m_get⟩ (
  lkp_c (P := OkP 281) ⟨(PuOK.ok (ok_icmp_ne dX20_equals_18 rfl)), m_icmp⟩ (
  lkp_c (P := OkP 281) ⟨(PuOK.ok (ok_aload_n dX20_equals_21 rfl)), m_aload⟩ (
  lkp_c (P := OkP 281) ⟨ok_cast q947 cst_12 dX20_equals_22, m_cast⟩ (
  lkp_c (P := OkP 281) ⟨ok_get ⟨"TollRoad$Mark", q820, Or.inl rfl⟩ dX20_equals_25, m_get⟩ (
  lkp_c (P := OkP 281) ⟨(PuOK.ok (ok_aload_n dX20_equals_28 rfl)), m_aload⟩ (
  lkp_c (P := OkP 281) ⟨ok_get ⟨"TollRoad$Mark", q820, Or.inl rfl⟩ dX20_equals_29, m_get⟩ (
  lkp_c (P := OkP 281) ⟨(PuOK.ok (ok_icmp_ne dX20_equals_32 rfl)), m_icmp⟩ (
  lkp_c (P := OkP 281) ⟨(PuOK.ok (ok_iconst dX20_equals_35 rfl)), m_push⟩ (
  lkp_c (P := OkP 281) ⟨(PuOK.ok (ok_goto dX20_equals_36 rfl)), m_goto⟩ (
  lkp_c (P := OkP 281) ⟨(PuOK.ok (ok_iconst dX20_equals_39 rfl)), m_push⟩ (
  lkp_c (P := OkP 281) ⟨ok_iret rfl rfl (by decide) dX20_equals_40, m_ret⟩ (
  trivial)))))))))))))))))))
theorem mt_281 : MtOK TB NT IT 281 := ⟨by decide +kernel, rfl, (fun h => by cases h), Or.inl ⟨rfl, rfl⟩, rfl, by decide, lk2_all (P := OkP 281) ⟨c_281_0, trivial⟩⟩
def dkwX3_init_0 : List UInt8 := [42, 183, 0, 3, 42, 16, 12, 188, 10, 181, 0, 9, 42, 17, 0, 144, 189, 0, 15, 181, 0, 17, 177]
abbrev dktX3_init_0 : List UInt8 := dkwX3_init_0 ++ []
theorem dksX3_init_0 : cX3_init.data.toList.drop 0 = dktX3_init_0 := by decide +kernel
theorem dX3_init_0 : decode cX3_init 0 = .ok (.aload_n 0, 1) := dk_42 (dk_at dksX3_init_0 0 rfl rfl)
theorem dX3_init_1 : decode cX3_init 1 = .ok (.invokespecial 3, 3) := dk_183 0 3 (dk_at dksX3_init_0 1 rfl rfl)
theorem dX3_init_4 : decode cX3_init 4 = .ok (.aload_n 0, 1) := dk_42 (dk_at dksX3_init_0 4 rfl rfl)
theorem dX3_init_5 : decode cX3_init 5 = .ok (.bipush 12, 2) := dk_16 12 (dk_at dksX3_init_0 5 rfl rfl)
theorem dX3_init_7 : decode cX3_init 7 = .ok (.newarray .int, 2) := dk_188_10 (dk_at dksX3_init_0 7 rfl rfl)
theorem dX3_init_9 : decode cX3_init 9 = .ok (.putfield 9, 3) := dk_181 0 9 (dk_at dksX3_init_0 9 rfl rfl)
theorem dX3_init_12 : decode cX3_init 12 = .ok (.aload_n 0, 1) := dk_42 (dk_at dksX3_init_0 12 rfl rfl)
theorem dX3_init_13 : decode cX3_init 13 = .ok (.sipush 144, 3) := dk_17 0 144 (dk_at dksX3_init_0 13 rfl rfl)
theorem dX3_init_16 : decode cX3_init 16 = .ok (.anewarray 15, 3) := dk_189 0 15 (dk_at dksX3_init_0 16 rfl rfl)
theorem dX3_init_19 : decode cX3_init 19 = .ok (.putfield 17, 3) := dk_181 0 17 (dk_at dksX3_init_0 19 rfl rfl)
theorem dX3_init_22 : decode cX3_init 22 = .ok (.return_, 1) := dk_177 (dk_at dksX3_init_0 22 rfl rfl)
theorem c_282_0 : LkP (OkP 282) [(0, o_aload 0 1), (1, o_oi), (4, o_aload 0 1), (5, o_push 2 (.int 12)), (7, o_newa 0 2), (9, o_put 14 0), (12, o_aload 0 1), (13, o_push 3 (.int 144)), (16, o_newa 6 3), (19, o_put 16 0), (22, o_vret)] := lkp_c (P := OkP 282) ⟨(PuOK.ok (ok_aload_n dX3_init_0 rfl)), m_aload⟩ (
  lkp_c (P := OkP 282) ⟨ok_oi q201 q188 q_oi dX3_init_1, m_oi⟩ (
  lkp_c (P := OkP 282) ⟨(PuOK.ok (ok_aload_n dX3_init_4 rfl)), m_aload⟩ (
  lkp_c (P := OkP 282) ⟨(PuOK.ok (ok_bipush dX3_init_5 rfl)), m_push⟩ (
  lkp_c (P := OkP 282) ⟨ok_newa (by decide) rfl q224 dX3_init_7, m_newa⟩ (
  lkp_c (P := OkP 282) ⟨ok_put ⟨"TollRoad$Network", q204, Or.inl rfl⟩ rfl fd_14 rfl dX3_init_9, m_put⟩ (
  lkp_c (P := OkP 282) ⟨(PuOK.ok (ok_aload_n dX3_init_12 rfl)), m_aload⟩ (
  lkp_c (P := OkP 282) ⟨(PuOK.ok (ok_sipush dX3_init_13 rfl)), m_push⟩ (
  lkp_c (P := OkP 282) ⟨ok_anew (by decide) (by decide) rfl q202 q203 dX3_init_16, m_newa⟩ (
  lkp_c (P := OkP 282) ⟨ok_put ⟨"TollRoad$Network", q211, Or.inl rfl⟩ rfl fd_16 rfl dX3_init_19, m_put⟩ (
  lkp_c (P := OkP 282) ⟨ok_vret rfl dX3_init_22, m_vret⟩ (
  trivial)))))))))))
theorem mt_282 : MtOK TB NT IT 282 := ⟨by decide +kernel, rfl, fun _ => rfl, Or.inl ⟨rfl, rfl⟩, rfl, by decide, lk2_all (P := OkP 282) ⟨c_282_0, trivial⟩⟩
def dkwX3_addGantry_1 : List UInt8 := [4, 100, 172]
abbrev dktX3_addGantry_1 : List UInt8 := dkwX3_addGantry_1 ++ []
def dkwX3_addGantry_0 : List UInt8 := [42, 180, 0, 9, 42, 180, 0, 27, 27, 79, 42, 89, 180, 0, 27, 4, 96, 181, 0, 27, 42, 180, 0, 27]
abbrev dktX3_addGantry_0 : List UInt8 := dkwX3_addGantry_0 ++ dktX3_addGantry_1
theorem dksX3_addGantry_0 : cX3_addGantry.data.toList.drop 0 = dktX3_addGantry_0 := by decide +kernel
theorem dksX3_addGantry_1 : cX3_addGantry.data.toList.drop 24 = dktX3_addGantry_1 := dk_seg dksX3_addGantry_0 24 rfl rfl
theorem dX3_addGantry_0 : decode cX3_addGantry 0 = .ok (.aload_n 0, 1) := dk_42 (dk_at dksX3_addGantry_0 0 rfl rfl)
theorem dX3_addGantry_1 : decode cX3_addGantry 1 = .ok (.getfield 9, 3) := dk_180 0 9 (dk_at dksX3_addGantry_0 1 rfl rfl)
theorem dX3_addGantry_4 : decode cX3_addGantry 4 = .ok (.aload_n 0, 1) := dk_42 (dk_at dksX3_addGantry_0 4 rfl rfl)
theorem dX3_addGantry_5 : decode cX3_addGantry 5 = .ok (.getfield 27, 3) := dk_180 0 27 (dk_at dksX3_addGantry_0 5 rfl rfl)
theorem dX3_addGantry_8 : decode cX3_addGantry 8 = .ok (.iload_n 1, 1) := dk_27 (dk_at dksX3_addGantry_0 8 rfl rfl)
theorem dX3_addGantry_9 : decode cX3_addGantry 9 = .ok (.iastore, 1) := dk_79 (dk_at dksX3_addGantry_0 9 rfl rfl)
theorem dX3_addGantry_10 : decode cX3_addGantry 10 = .ok (.aload_n 0, 1) := dk_42 (dk_at dksX3_addGantry_0 10 rfl rfl)
theorem dX3_addGantry_11 : decode cX3_addGantry 11 = .ok (.dup, 1) := dk_89 (dk_at dksX3_addGantry_0 11 rfl rfl)
theorem dX3_addGantry_12 : decode cX3_addGantry 12 = .ok (.getfield 27, 3) := dk_180 0 27 (dk_at dksX3_addGantry_0 12 rfl rfl)
theorem dX3_addGantry_15 : decode cX3_addGantry 15 = .ok (.iconst 1, 1) := dk_4 (dk_at dksX3_addGantry_0 15 rfl rfl)
theorem dX3_addGantry_16 : decode cX3_addGantry 16 = .ok (.iadd, 1) := dk_96 (dk_at dksX3_addGantry_0 16 rfl rfl)
theorem dX3_addGantry_17 : decode cX3_addGantry 17 = .ok (.putfield 27, 3) := dk_181 0 27 (dk_at dksX3_addGantry_0 17 rfl rfl)
theorem dX3_addGantry_20 : decode cX3_addGantry 20 = .ok (.aload_n 0, 1) := dk_42 (dk_at dksX3_addGantry_0 20 rfl rfl)
theorem dX3_addGantry_21 : decode cX3_addGantry 21 = .ok (.getfield 27, 3) := dk_180 0 27 (dk_at dksX3_addGantry_0 21 rfl rfl)
theorem dX3_addGantry_24 : decode cX3_addGantry 24 = .ok (.iconst 1, 1) := dk_4 (dk_at dksX3_addGantry_1 0 rfl rfl)
theorem dX3_addGantry_25 : decode cX3_addGantry 25 = .ok (.isub, 1) := dk_100 (dk_at dksX3_addGantry_1 1 rfl rfl)
theorem dX3_addGantry_26 : decode cX3_addGantry 26 = .ok (.ireturn, 1) := dk_172 (dk_at dksX3_addGantry_1 2 rfl rfl)
theorem c_283_0 : LkP (OkP 283) [(0, o_aload 0 1), (1, o_get 14), (4, o_aload 0 1), (5, o_get 15), (8, o_iload 1 1), (9, o_wrI 0), (10, o_aload 0 1), (11, o_dup), (12, o_get 15), (15, o_push 1 (.int 1)), (16, o_iop (fun x y => x + y)), (17, o_put 15 1), (20, o_aload 0 1), (21, o_get 15), (24, o_push 1 (.int 1)), (25, o_iop (fun x y => x - y)), (26, o_ret 1)] := lkp_c (P := OkP 283) ⟨(PuOK.ok (ok_aload_n dX3_addGantry_0 rfl)), m_aload⟩ (
  lkp_c (P := OkP 283) ⟨ok_get ⟨"TollRoad$Network", q204, Or.inl rfl⟩ dX3_addGantry_1, m_get⟩ (
  lkp_c (P := OkP 283) ⟨(PuOK.ok (ok_aload_n dX3_addGantry_4 rfl)), m_aload⟩ (
  lkp_c (P := OkP 283) ⟨ok_get ⟨"TollRoad$Network", q207, Or.inl rfl⟩ dX3_addGantry_5, m_get⟩ (
  lkp_c (P := OkP 283) ⟨(PuOK.ok (ok_iload_n dX3_addGantry_8 rfl)), m_iload⟩ (
  lkp_c (P := OkP 283) ⟨ok_iast dX3_addGantry_9, m_wrI⟩ (
  lkp_c (P := OkP 283) ⟨(PuOK.ok (ok_aload_n dX3_addGantry_10 rfl)), m_aload⟩ (
  lkp_c (P := OkP 283) ⟨(PuOK.ok (ok_dup dX3_addGantry_11)), m_dup⟩ (
  lkp_c (P := OkP 283) ⟨ok_get ⟨"TollRoad$Network", q207, Or.inl rfl⟩ dX3_addGantry_12, m_get⟩ (
  lkp_c (P := OkP 283) ⟨(PuOK.ok (ok_iconst dX3_addGantry_15 rfl)), m_push⟩ (
  lkp_c (P := OkP 283) ⟨(PuOK.ok (ok_iadd dX3_addGantry_16)), m_iop⟩ (
  lkp_c (P := OkP 283) ⟨ok_put ⟨"TollRoad$Network", q207, Or.inl rfl⟩ rfl fd_15 rfl dX3_addGantry_17, m_put⟩ (
  lkp_c (P := OkP 283) ⟨(PuOK.ok (ok_aload_n dX3_addGantry_20 rfl)), m_aload⟩ (
  lkp_c (P := OkP 283) ⟨ok_get ⟨"TollRoad$Network", q207, Or.inl rfl⟩ dX3_addGantry_21, m_get⟩ (
  lkp_c (P := OkP 283) ⟨(PuOK.ok (ok_iconst dX3_addGantry_24 rfl)), m_push⟩ (
  lkp_c (P := OkP 283) ⟨(PuOK.ok (ok_isub dX3_addGantry_25)), m_iop⟩ (
  lkp_c (P := OkP 283) ⟨ok_iret rfl rfl (by decide) dX3_addGantry_26, m_ret⟩ (
  trivial)))))))))))))))))
theorem mt_283 : MtOK TB NT IT 283 := ⟨by decide +kernel, rfl, (fun h => by cases h), Or.inl ⟨rfl, rfl⟩, rfl, by decide, lk2_all (P := OkP 283) ⟨c_283_0, trivial⟩⟩
def dkwX3_road_0 : List UInt8 := [42, 180, 0, 17, 16, 12, 27, 104, 28, 96, 50, 176]
abbrev dktX3_road_0 : List UInt8 := dkwX3_road_0 ++ []
theorem dksX3_road_0 : cX3_road.data.toList.drop 0 = dktX3_road_0 := by decide +kernel
theorem dX3_road_0 : decode cX3_road 0 = .ok (.aload_n 0, 1) := dk_42 (dk_at dksX3_road_0 0 rfl rfl)
theorem dX3_road_1 : decode cX3_road 1 = .ok (.getfield 17, 3) := dk_180 0 17 (dk_at dksX3_road_0 1 rfl rfl)
theorem dX3_road_4 : decode cX3_road 4 = .ok (.bipush 12, 2) := dk_16 12 (dk_at dksX3_road_0 4 rfl rfl)
theorem dX3_road_6 : decode cX3_road 6 = .ok (.iload_n 1, 1) := dk_27 (dk_at dksX3_road_0 6 rfl rfl)
theorem dX3_road_7 : decode cX3_road 7 = .ok (.imul, 1) := dk_104 (dk_at dksX3_road_0 7 rfl rfl)
theorem dX3_road_8 : decode cX3_road 8 = .ok (.iload_n 2, 1) := dk_28 (dk_at dksX3_road_0 8 rfl rfl)
theorem dX3_road_9 : decode cX3_road 9 = .ok (.iadd, 1) := dk_96 (dk_at dksX3_road_0 9 rfl rfl)
theorem dX3_road_10 : decode cX3_road 10 = .ok (.aaload, 1) := dk_50 (dk_at dksX3_road_0 10 rfl rfl)
theorem dX3_road_11 : decode cX3_road 11 = .ok (.areturn, 1) := dk_176 (dk_at dksX3_road_0 11 rfl rfl)
theorem c_284_0 : LkP (OkP 284) [(0, o_aload 0 1), (1, o_get 16), (4, o_push 2 (.int 12)), (6, o_iload 1 1), (7, o_iop (fun x y => x * y)), (8, o_iload 2 1), (9, o_iop (fun x y => x + y)), (10, o_rdQ), (11, o_ret 0)] := lkp_c (P := OkP 284) ⟨(PuOK.ok (ok_aload_n dX3_road_0 rfl)), m_aload⟩ (
  lkp_c (P := OkP 284) ⟨ok_get ⟨"TollRoad$Network", q211, Or.inl rfl⟩ dX3_road_1, m_get⟩ (
  lkp_c (P := OkP 284) ⟨(PuOK.ok (ok_bipush dX3_road_4 rfl)), m_push⟩ (
  lkp_c (P := OkP 284) ⟨(PuOK.ok (ok_iload_n dX3_road_6 rfl)), m_iload⟩ (
  lkp_c (P := OkP 284) ⟨(PuOK.ok (ok_imul dX3_road_7)), m_iop⟩ (
  lkp_c (P := OkP 284) ⟨(PuOK.ok (ok_iload_n dX3_road_8 rfl)), m_iload⟩ (
  lkp_c (P := OkP 284) ⟨(PuOK.ok (ok_iadd dX3_road_9)), m_iop⟩ (
  lkp_c (P := OkP 284) ⟨ok_aald dX3_road_10, m_rdQ⟩ (
  lkp_c (P := OkP 284) ⟨ok_aret rfl (Or.inl ⟨_, rfl⟩) dX3_road_11, m_ret⟩ (
  trivial)))))))))
theorem mt_284 : MtOK TB NT IT 284 := ⟨by decide +kernel, rfl, (fun h => by cases h), Or.inl ⟨rfl, rfl⟩, rfl, by decide, lk2_all (P := OkP 284) ⟨c_284_0, trivial⟩⟩
def dkwX3_add_1 : List UInt8 := [180, 0, 37, 4, 96, 181, 0, 37, 42, 180, 0, 37, 4, 100, 172]
abbrev dktX3_add_1 : List UInt8 := dkwX3_add_1 ++ []
def dkwX3_add_0 : List UInt8 := [42, 180, 0, 17, 16, 12, 27, 104, 28, 96, 187, 0, 15, 89, 28, 29, 21, 4, 183, 0, 40, 83, 42, 89]
abbrev dktX3_add_0 : List UInt8 := dkwX3_add_0 ++ dktX3_add_1
theorem dksX3_add_0 : cX3_add.data.toList.drop 0 = dktX3_add_0 := by decide +kernel
theorem dksX3_add_1 : cX3_add.data.toList.drop 24 = dktX3_add_1 := dk_seg dksX3_add_0 24 rfl rfl
theorem dX3_add_0 : decode cX3_add 0 = .ok (.aload_n 0, 1) := dk_42 (dk_at dksX3_add_0 0 rfl rfl)
theorem dX3_add_1 : decode cX3_add 1 = .ok (.getfield 17, 3) := dk_180 0 17 (dk_at dksX3_add_0 1 rfl rfl)
theorem dX3_add_4 : decode cX3_add 4 = .ok (.bipush 12, 2) := dk_16 12 (dk_at dksX3_add_0 4 rfl rfl)
theorem dX3_add_6 : decode cX3_add 6 = .ok (.iload_n 1, 1) := dk_27 (dk_at dksX3_add_0 6 rfl rfl)
theorem dX3_add_7 : decode cX3_add 7 = .ok (.imul, 1) := dk_104 (dk_at dksX3_add_0 7 rfl rfl)
theorem dX3_add_8 : decode cX3_add 8 = .ok (.iload_n 2, 1) := dk_28 (dk_at dksX3_add_0 8 rfl rfl)
theorem dX3_add_9 : decode cX3_add 9 = .ok (.iadd, 1) := dk_96 (dk_at dksX3_add_0 9 rfl rfl)
theorem dX3_add_10 : decode cX3_add 10 = .ok (.new 15, 3) := dk_187 0 15 (dk_at dksX3_add_0 10 rfl rfl)
theorem dX3_add_13 : decode cX3_add 13 = .ok (.dup, 1) := dk_89 (dk_at dksX3_add_0 13 rfl rfl)
theorem dX3_add_14 : decode cX3_add 14 = .ok (.iload_n 2, 1) := dk_28 (dk_at dksX3_add_0 14 rfl rfl)
theorem dX3_add_15 : decode cX3_add 15 = .ok (.iload_n 3, 1) := dk_29 (dk_at dksX3_add_0 15 rfl rfl)
theorem dX3_add_16 : decode cX3_add 16 = .ok (.iload 4, 2) := dk_21 4 (dk_at dksX3_add_0 16 rfl rfl)
theorem dX3_add_18 : decode cX3_add 18 = .ok (.invokespecial 40, 3) := dk_183 0 40 (dk_at dksX3_add_0 18 rfl rfl)
theorem dX3_add_21 : decode cX3_add 21 = .ok (.aastore, 1) := dk_83 (dk_at dksX3_add_0 21 rfl rfl)
theorem dX3_add_22 : decode cX3_add 22 = .ok (.aload_n 0, 1) := dk_42 (dk_at dksX3_add_0 22 rfl rfl)
theorem dX3_add_23 : decode cX3_add 23 = .ok (.dup, 1) := dk_89 (dk_at dksX3_add_0 23 rfl rfl)
theorem dX3_add_24 : decode cX3_add 24 = .ok (.getfield 37, 3) := dk_180 0 37 (dk_at dksX3_add_1 0 rfl rfl)
theorem dX3_add_27 : decode cX3_add 27 = .ok (.iconst 1, 1) := dk_4 (dk_at dksX3_add_1 3 rfl rfl)
theorem dX3_add_28 : decode cX3_add 28 = .ok (.iadd, 1) := dk_96 (dk_at dksX3_add_1 4 rfl rfl)
theorem dX3_add_29 : decode cX3_add 29 = .ok (.putfield 37, 3) := dk_181 0 37 (dk_at dksX3_add_1 5 rfl rfl)
theorem dX3_add_32 : decode cX3_add 32 = .ok (.aload_n 0, 1) := dk_42 (dk_at dksX3_add_1 8 rfl rfl)
theorem dX3_add_33 : decode cX3_add 33 = .ok (.getfield 37, 3) := dk_180 0 37 (dk_at dksX3_add_1 9 rfl rfl)
theorem dX3_add_36 : decode cX3_add 36 = .ok (.iconst 1, 1) := dk_4 (dk_at dksX3_add_1 12 rfl rfl)
theorem dX3_add_37 : decode cX3_add 37 = .ok (.isub, 1) := dk_100 (dk_at dksX3_add_1 13 rfl rfl)
theorem dX3_add_38 : decode cX3_add 38 = .ok (.ireturn, 1) := dk_172 (dk_at dksX3_add_1 14 rfl rfl)
theorem c_285_0 : LkP (OkP 285) [(0, o_aload 0 1), (1, o_get 16), (4, o_push 2 (.int 12)), (6, o_iload 1 1), (7, o_iop (fun x y => x * y)), (8, o_iload 2 1), (9, o_iop (fun x y => x + y)), (10, o_new 11 3 dv11), (13, o_dup), (14, o_iload 2 1), (15, o_iload 3 1), (16, o_iload 4 2), (18, o_ci 418 3), (21, o_wrQ 6 [11]), (22, o_aload 0 1), (23, o_dup), (24, o_get 17), (27, o_push 1 (.int 1)), (28, o_iop (fun x y => x + y)), (29, o_put 17 1), (32, o_aload 0 1), (33, o_get 17), (36, o_push 1 (.int 1)), (37, o_iop (fun x y => x - y)), (38, o_ret 1)] := lkp_c (P := OkP 285) ⟨(PuOK.ok (ok_aload_n dX3_add_0 rfl)), m_aload⟩ (
  lkp_c (P := OkP 285) ⟨ok_get ⟨"TollRoad$Network", q211, Or.inl rfl⟩ dX3_add_1, m_get⟩ (
  lkp_c (P := OkP 285) ⟨(PuOK.ok (ok_bipush dX3_add_4 rfl)), m_push⟩ (
  lkp_c (P := OkP 285) ⟨(PuOK.ok (ok_iload_n dX3_add_6 rfl)), m_iload⟩ (
  lkp_c (P := OkP 285) ⟨(PuOK.ok (ok_imul dX3_add_7)), m_iop⟩ (
  lkp_c (P := OkP 285) ⟨(PuOK.ok (ok_iload_n dX3_add_8 rfl)), m_iload⟩ (
  lkp_c (P := OkP 285) ⟨(PuOK.ok (ok_iadd dX3_add_9)), m_iop⟩ (
  lkp_c (P := OkP 285) ⟨ok_new (ci := 11) (r := CLr 11) rfl dvok_11 q202 q1431 q143 dX3_add_10, m_new⟩ (
  lkp_c (P := OkP 285) ⟨(PuOK.ok (ok_dup dX3_add_13)), m_dup⟩ (
  lkp_c (P := OkP 285) ⟨(PuOK.ok (ok_iload_n dX3_add_14 rfl)), m_iload⟩ (
  lkp_c (P := OkP 285) ⟨(PuOK.ok (ok_iload_n dX3_add_15 rfl)), m_iload⟩ (
  lkp_c (P := OkP 285) ⟨(PuOK.ok (ok_iload dX3_add_16)), m_iload⟩ (
  lkp_c (P := OkP 285) ⟨ok_ci (tg_I (rt := none) ⟨rfl, by decide⟩ rfl q1432 q1433 q143 q1434 ⟨cn_57.1, cn_57.2, pd_105⟩ dX3_add_18) hd_no, m_ci⟩ (
  lkp_c (P := OkP 285) ⟨ok_aast rfl cst_13 dX3_add_21, m_wrQ⟩ (
  lkp_c (P := OkP 285) ⟨(PuOK.ok (ok_aload_n dX3_add_22 rfl)), m_aload⟩ (
  lkp_c (P := OkP 285) ⟨(PuOK.ok (ok_dup dX3_add_23)), m_dup⟩ (
  lkp_c (P := OkP 285) ⟨ok_get ⟨"TollRoad$Network", q212, Or.inl rfl⟩ dX3_add_24, m_get⟩ (
  lkp_c (P := OkP 285) ⟨(PuOK.ok (ok_iconst dX3_add_27 rfl)), m_push⟩ (
  lkp_c (P := OkP 285) ⟨(PuOK.ok (ok_iadd dX3_add_28)), m_iop⟩ (
  lkp_c (P := OkP 285) ⟨ok_put ⟨"TollRoad$Network", q212, Or.inl rfl⟩ rfl fd_17 rfl dX3_add_29, m_put⟩ (
  lkp_c (P := OkP 285) ⟨(PuOK.ok (ok_aload_n dX3_add_32 rfl)), m_aload⟩ (
  lkp_c (P := OkP 285) ⟨ok_get ⟨"TollRoad$Network", q212, Or.inl rfl⟩ dX3_add_33, m_get⟩ (
  lkp_c (P := OkP 285) ⟨(PuOK.ok (ok_iconst dX3_add_36 rfl)), m_push⟩ (
  lkp_c (P := OkP 285) ⟨(PuOK.ok (ok_isub dX3_add_37)), m_iop⟩ (
  lkp_c (P := OkP 285) ⟨ok_iret rfl rfl (by decide) dX3_add_38, m_ret⟩ (
  trivial)))))))))))))))))))))))))
theorem mt_285 : MtOK TB NT IT 285 := ⟨by decide +kernel, rfl, (fun h => by cases h), Or.inl ⟨rfl, rfl⟩, rfl, by decide, lk2_all (P := OkP 285) ⟨c_285_0, trivial⟩⟩
def dkwX3_copy_2 : List UInt8 := [180, 0, 17, 3, 42, 180, 0, 17, 190, 184, 0, 31, 43, 42, 180, 0, 37, 181, 0, 37, 43, 176]
abbrev dktX3_copy_2 : List UInt8 := dkwX3_copy_2 ++ []
def dkwX3_copy_1 : List UInt8 := [180, 0, 27, 181, 0, 27, 43, 42, 180, 0, 17, 190, 189, 0, 15, 181, 0, 17, 42, 180, 0, 17, 3, 43]
abbrev dktX3_copy_1 : List UInt8 := dkwX3_copy_1 ++ dktX3_copy_2
def dkwX3_copy_0 : List UInt8 := [187, 0, 10, 89, 183, 0, 21, 76, 43, 42, 180, 0, 9, 182, 0, 22, 192, 0, 23, 181, 0, 9, 43, 42]
abbrev dktX3_copy_0 : List UInt8 := dkwX3_copy_0 ++ dktX3_copy_1
theorem dksX3_copy_0 : cX3_copy.data.toList.drop 0 = dktX3_copy_0 := by decide +kernel
theorem dksX3_copy_1 : cX3_copy.data.toList.drop 24 = dktX3_copy_1 := dk_seg dksX3_copy_0 24 rfl rfl
theorem dksX3_copy_2 : cX3_copy.data.toList.drop 48 = dktX3_copy_2 := dk_seg dksX3_copy_1 24 rfl rfl
theorem dX3_copy_0 : decode cX3_copy 0 = .ok (.new 10, 3) := dk_187 0 10 (dk_at dksX3_copy_0 0 rfl rfl)
theorem dX3_copy_3 : decode cX3_copy 3 = .ok (.dup, 1) := dk_89 (dk_at dksX3_copy_0 3 rfl rfl)
theorem dX3_copy_4 : decode cX3_copy 4 = .ok (.invokespecial 21, 3) := dk_183 0 21 (dk_at dksX3_copy_0 4 rfl rfl)
theorem dX3_copy_7 : decode cX3_copy 7 = .ok (.astore_n 1, 1) := dk_76 (dk_at dksX3_copy_0 7 rfl rfl)
theorem dX3_copy_8 : decode cX3_copy 8 = .ok (.aload_n 1, 1) := dk_43 (dk_at dksX3_copy_0 8 rfl rfl)
theorem dX3_copy_9 : decode cX3_copy 9 = .ok (.aload_n 0, 1) := dk_42 (dk_at dksX3_copy_0 9 rfl rfl)
theorem dX3_copy_10 : decode cX3_copy 10 = .ok (.getfield 9, 3) := dk_180 0 9 (dk_at dksX3_copy_0 10 rfl rfl)
theorem dX3_copy_13 : decode cX3_copy 13 = .ok (.invokevirtual 22, 3) := dk_182 0 22 (dk_at dksX3_copy_0 13 rfl rfl)
theorem dX3_copy_16 : decode cX3_copy 16 = .ok (.checkcast 23, 3) := dk_192 0 23 (dk_at dksX3_copy_0 16 rfl rfl)
theorem dX3_copy_19 : decode cX3_copy 19 = .ok (.putfield 9, 3) := dk_181 0 9 (dk_at dksX3_copy_0 19 rfl rfl)
theorem dX3_copy_22 : decode cX3_copy 22 = .ok (.aload_n 1, 1) := dk_43 (dk_at dksX3_copy_0 22 rfl rfl)
theorem dX3_copy_23 : decode cX3_copy 23 = .ok (.aload_n 0, 1) := dk_42 (dk_at dksX3_copy_0 23 rfl rfl)
theorem dX3_copy_24 : decode cX3_copy 24 = .ok (.getfield 27, 3) := dk_180 0 27 (dk_at dksX3_copy_1 0 rfl rfl)
theorem dX3_copy_27 : decode cX3_copy 27 = .ok (.putfield 27, 3) := dk_181 0 27 (dk_at dksX3_copy_1 3 rfl rfl)
theorem dX3_copy_30 : decode cX3_copy 30 = .ok (.aload_n 1, 1) := dk_43 (dk_at dksX3_copy_1 6 rfl rfl)
theorem dX3_copy_31 : decode cX3_copy 31 = .ok (.aload_n 0, 1) := dk_42 (dk_at dksX3_copy_1 7 rfl rfl)
theorem dX3_copy_32 : decode cX3_copy 32 = .ok (.getfield 17, 3) := dk_180 0 17 (dk_at dksX3_copy_1 8 rfl rfl)
theorem dX3_copy_35 : decode cX3_copy 35 = .ok (.arraylength, 1) := dk_190 (dk_at dksX3_copy_1 11 rfl rfl)
theorem dX3_copy_36 : decode cX3_copy 36 = .ok (.anewarray 15, 3) := dk_189 0 15 (dk_at dksX3_copy_1 12 rfl rfl)
theorem dX3_copy_39 : decode cX3_copy 39 = .ok (.putfield 17, 3) := dk_181 0 17 (dk_at dksX3_copy_1 15 rfl rfl)
theorem dX3_copy_42 : decode cX3_copy 42 = .ok (.aload_n 0, 1) := dk_42 (dk_at dksX3_copy_1 18 rfl rfl)
theorem dX3_copy_43 : decode cX3_copy 43 = .ok (.getfield 17, 3) := dk_180 0 17 (dk_at dksX3_copy_1 19 rfl rfl)
theorem dX3_copy_46 : decode cX3_copy 46 = .ok (.iconst 0, 1) := dk_3 (dk_at dksX3_copy_1 22 rfl rfl)
theorem dX3_copy_47 : decode cX3_copy 47 = .ok (.aload_n 1, 1) := dk_43 (dk_at dksX3_copy_1 23 rfl rfl)
theorem dX3_copy_48 : decode cX3_copy 48 = .ok (.getfield 17, 3) := dk_180 0 17 (dk_at dksX3_copy_2 0 rfl rfl)
theorem dX3_copy_51 : decode cX3_copy 51 = .ok (.iconst 0, 1) := dk_3 (dk_at dksX3_copy_2 3 rfl rfl)
theorem dX3_copy_52 : decode cX3_copy 52 = .ok (.aload_n 0, 1) := dk_42 (dk_at dksX3_copy_2 4 rfl rfl)
theorem dX3_copy_53 : decode cX3_copy 53 = .ok (.getfield 17, 3) := dk_180 0 17 (dk_at dksX3_copy_2 5 rfl rfl)
theorem dX3_copy_56 : decode cX3_copy 56 = .ok (.arraylength, 1) := dk_190 (dk_at dksX3_copy_2 8 rfl rfl)
theorem dX3_copy_57 : decode cX3_copy 57 = .ok (.invokestatic 31, 3) := dk_184 0 31 (dk_at dksX3_copy_2 9 rfl rfl)
theorem dX3_copy_60 : decode cX3_copy 60 = .ok (.aload_n 1, 1) := dk_43 (dk_at dksX3_copy_2 12 rfl rfl)
theorem dX3_copy_61 : decode cX3_copy 61 = .ok (.aload_n 0, 1) := dk_42 (dk_at dksX3_copy_2 13 rfl rfl)
theorem dX3_copy_62 : decode cX3_copy 62 = .ok (.getfield 37, 3) := dk_180 0 37 (dk_at dksX3_copy_2 14 rfl rfl)
theorem dX3_copy_65 : decode cX3_copy 65 = .ok (.putfield 37, 3) := dk_181 0 37 (dk_at dksX3_copy_2 17 rfl rfl)
theorem dX3_copy_68 : decode cX3_copy 68 = .ok (.aload_n 1, 1) := dk_43 (dk_at dksX3_copy_2 20 rfl rfl)
theorem dX3_copy_69 : decode cX3_copy 69 = .ok (.areturn, 1) := dk_176 (dk_at dksX3_copy_2 21 rfl rfl)
theorem c_286_0 : LkP (OkP 286) [(0, o_new 2 4 dv2), (3, o_dup), (4, o_ci 282 0), (7, o_astore 1 1), (8, o_aload 1 1), (9, o_aload 0 1), (10, o_get 14), (13, o_cln), (16, o_casta 0), (19, o_put 14 0), (22, o_aload 1 1), (23, o_aload 0 1), (24, o_get 15), (27, o_put 15 1), (30, o_aload 1 1), (31, o_aload 0 1), (32, o_get 16), (35, o_alen), (36, o_newa 6 3), (39, o_put 16 0), (42, o_aload 0 1), (43, o_get 16), (46, o_push 1 (.int 0)), (47, o_aload 1 1), (48, o_get 16), (51, o_push 1 (.int 0)), (52, o_aload 0 1), (53, o_get 16), (56, o_alen), (57, o_cpQ 6 [11]), (60, o_aload 1 1), (61, o_aload 0 1), (62, o_get 17)] := lkp_c (P := OkP 286) ⟨ok_new (ci := 2) (r := CLr 2) rfl dvok_2 q2970 q197 q117 dX3_copy_0, m_new⟩ (
  lkp_c (P := OkP 286) ⟨(PuOK.ok (ok_dup dX3_copy_3)), m_dup⟩ (
  lkp_c (P := OkP 286) ⟨ok_ci (tg_I (rt := none) ⟨rfl, by decide⟩ rfl q2971 q199 q117 q200 ⟨cn_40.1, cn_40.2, pd_0⟩ dX3_copy_4) hd_no, m_ci⟩ (
  lkp_c (P := OkP 286) ⟨(PuOK.ok (ok_astore_n dX3_copy_7 rfl)), m_astore⟩ (
  lkp_c (P := OkP 286) ⟨(PuOK.ok (ok_aload_n dX3_copy_8 rfl)), m_aload⟩ (
  lkp_c (P := OkP 286) ⟨(PuOK.ok (ok_aload_n dX3_copy_9 rfl)), m_aload⟩ (
  lkp_c (P := OkP 286) ⟨ok_get ⟨"TollRoad$Network", q204, Or.inl rfl⟩ dX3_copy_10, m_get⟩ (
  lkp_c (P := OkP 286) ⟨ok_cln rfl q2972 q2973 q368 q369 q2974 q2975 dX3_copy_13, m_cln⟩ (
  lkp_c (P := OkP 286) ⟨ok_casta rfl q2976 dX3_copy_16, m_casta⟩ (
  lkp_c (P := OkP 286) ⟨ok_put ⟨"TollRoad$Network", q204, Or.inl rfl⟩ rfl fd_14 rfl dX3_copy_19, m_put⟩ (
  lkp_c (P := OkP 286) ⟨(PuOK.ok (ok_aload_n dX3_copy_22 rfl)), m_aload⟩ (
  lkp_c (P := OkP 286) ⟨(PuOK.ok (ok_aload_n dX3_copy_23 rfl)), m_aload⟩ (
  lkp_c (P := OkP 286) ⟨ok_get ⟨"TollRoad$Network", q207, Or.inl rfl⟩ dX3_copy_24, m_get⟩ (
  lkp_c (P := OkP 286) ⟨ok_put ⟨"TollRoad$Network", q207, Or.inl rfl⟩ rfl fd_15 rfl dX3_copy_27, m_put⟩ (
  lkp_c (P := OkP 286) ⟨(PuOK.ok (ok_aload_n dX3_copy_30 rfl)), m_aload⟩ (
  lkp_c (P := OkP 286) ⟨(PuOK.ok (ok_aload_n dX3_copy_31 rfl)), m_aload⟩ (
  lkp_c (P := OkP 286) ⟨ok_get ⟨"TollRoad$Network", q211, Or.inl rfl⟩ dX3_copy_32, m_get⟩ (
  lkp_c (P := OkP 286) ⟨ok_alen dX3_copy_35, m_alen⟩ (
  lkp_c (P := OkP 286) ⟨ok_anew (by decide) (by decide) rfl q202 q203 dX3_copy_36, m_newa⟩ (
  lkp_c (P := OkP 286) ⟨ok_put ⟨"TollRoad$Network", q211, Or.inl rfl⟩ rfl fd_16 rfl dX3_copy_39, m_put⟩ (
  lkp_c (P := OkP 286) ⟨(PuOK.ok (ok_aload_n dX3_copy_42 rfl)), m_aload⟩ (
  lkp_c (P := OkP 286) ⟨ok_get ⟨"TollRoad$Network", q211, Or.inl rfl⟩ dX3_copy_43, m_get⟩ (
  lkp_c (P := OkP 286) ⟨(PuOK.ok (ok_iconst dX3_copy_46 rfl)), m_push⟩ (
  lkp_c (P := OkP 286) ⟨(PuOK.ok (ok_aload_n dX3_copy_47 rfl)), m_aload⟩ (
  lkp_c (P := OkP 286) ⟨ok_get ⟨"TollRoad$Network", q211, Or.inl rfl⟩ dX3_copy_48, m_get⟩ (
  lkp_c (P := OkP 286) ⟨(PuOK.ok (ok_iconst dX3_copy_51 rfl)), m_push⟩ (
  lkp_c (P := OkP 286) ⟨(PuOK.ok (ok_aload_n dX3_copy_52 rfl)), m_aload⟩ (
  lkp_c (P := OkP 286) ⟨ok_get ⟨"TollRoad$Network", q211, Or.inl rfl⟩ dX3_copy_53, m_get⟩ (
  lkp_c (P := OkP 286) ⟨ok_alen dX3_copy_56, m_alen⟩ (
  lkp_c (P := OkP 286) ⟨ok_cpQ rfl cst_13 q2977 q378 q377 q132 dX3_copy_57, m_cpQ⟩ (
  lkp_c (P := OkP 286) ⟨(PuOK.ok (ok_aload_n dX3_copy_60 rfl)), m_aload⟩ (
  lkp_c (P := OkP 286) ⟨(PuOK.ok (ok_aload_n dX3_copy_61 rfl)), m_aload⟩ (
  lkp_c (P := OkP 286) ⟨ok_get ⟨"TollRoad$Network", q212, Or.inl rfl⟩ dX3_copy_62, m_get⟩ (
  trivial)))))))))))))))))))))))))))))))))
theorem c_286_1 : LkP (OkP 286) [(65, o_put 17 1), (68, o_aload 1 1), (69, o_ret 0)] := lkp_c (P := OkP 286) ⟨ok_put ⟨"TollRoad$Network", q212, Or.inl rfl⟩ rfl fd_17 rfl dX3_copy_65, m_put⟩ (
  lkp_c (P := OkP 286) ⟨(PuOK.ok (ok_aload_n dX3_copy_68 rfl)), m_aload⟩ (
  lkp_c (P := OkP 286) ⟨ok_aret rfl (Or.inl ⟨_, rfl⟩) dX3_copy_69, m_ret⟩ (
  trivial)))
theorem mt_286 : MtOK TB NT IT 286 := ⟨by decide +kernel, rfl, (fun h => by cases h), Or.inl ⟨rfl, rfl⟩, rfl, by decide, lk2_all (P := OkP 286) ⟨c_286_0, c_286_1, trivial⟩⟩
def dkwX4_init_12 : List UInt8 := [42, 17, 3, 132, 188, 10, 181, 0, 72, 42, 17, 3, 132, 188, 4, 181, 0, 75, 42, 182, 0, 78, 177]
abbrev dktX4_init_12 : List UInt8 := dkwX4_init_12 ++ []
def dkwX4_init_11 : List UInt8 := [42, 16, 121, 188, 10, 181, 0, 63, 42, 16, 120, 188, 10, 181, 0, 66, 42, 16, 120, 188, 10, 181, 0, 69]
abbrev dktX4_init_11 : List UInt8 := dkwX4_init_11 ++ dktX4_init_12
def dkwX4_init_10 : List UInt8 := [42, 16, 7, 188, 10, 181, 0, 54, 42, 16, 120, 188, 10, 181, 0, 57, 42, 16, 120, 188, 10, 181, 0, 60]
abbrev dktX4_init_10 : List UInt8 := dkwX4_init_10 ++ dktX4_init_11
def dkwX4_init_9 : List UInt8 := [42, 16, 7, 188, 10, 181, 0, 45, 42, 16, 7, 188, 10, 181, 0, 48, 42, 16, 7, 188, 10, 181, 0, 51]
abbrev dktX4_init_9 : List UInt8 := dkwX4_init_9 ++ dktX4_init_10
def dkwX4_init_8 : List UInt8 := [181, 0, 32, 42, 2, 181, 0, 35, 42, 16, 7, 188, 10, 181, 0, 39, 42, 16, 7, 188, 10, 181, 0, 42]
abbrev dktX4_init_8 : List UInt8 := dkwX4_init_8 ++ dktX4_init_9
def dkwX4_init_7 : List UInt8 := [89, 16, 6, 17, 3, 231, 79, 89, 16, 7, 17, 3, 231, 79, 181, 0, 29, 42, 17, 2, 188, 188, 10]
abbrev dktX4_init_7 : List UInt8 := dkwX4_init_7 ++ dktX4_init_8
def dkwX4_init_6 : List UInt8 := [4, 16, 60, 79, 89, 5, 16, 20, 79, 89, 6, 16, 100, 79, 89, 7, 16, 100, 79, 89, 8, 16, 100, 79]
abbrev dktX4_init_6 : List UInt8 := dkwX4_init_6 ++ dktX4_init_7
def dkwX4_init_5 : List UInt8 := [16, 6, 3, 79, 89, 16, 7, 3, 79, 181, 0, 26, 42, 16, 8, 188, 10, 89, 3, 17, 2, 88, 79, 89]
abbrev dktX4_init_5 : List UInt8 := dkwX4_init_5 ++ dktX4_init_6
def dkwX4_init_4 : List UInt8 := [79, 89, 4, 3, 79, 89, 5, 3, 79, 89, 6, 16, 50, 79, 89, 7, 3, 79, 89, 8, 3, 79, 89]
abbrev dktX4_init_4 : List UInt8 := dkwX4_init_4 ++ dktX4_init_5
def dkwX4_init_3 : List UInt8 := [89, 16, 6, 16, 25, 79, 89, 16, 7, 17, 0, 150, 79, 181, 0, 23, 42, 16, 8, 188, 10, 89, 3, 4]
abbrev dktX4_init_3 : List UInt8 := dkwX4_init_3 ++ dktX4_init_4
def dkwX4_init_2 : List UInt8 := [79, 89, 4, 8, 79, 89, 5, 5, 79, 89, 6, 16, 80, 79, 89, 7, 16, 70, 79, 89, 8, 16, 90, 79]
abbrev dktX4_init_2 : List UInt8 := dkwX4_init_2 ++ dktX4_init_3
def dkwX4_init_1 : List UInt8 := [17, 24, 56, 188, 10, 181, 0, 16, 42, 5, 188, 4, 181, 0, 19, 42, 16, 8, 188, 10, 89, 3, 16, 120]
abbrev dktX4_init_1 : List UInt8 := dkwX4_init_1 ++ dktX4_init_2
def dkwX4_init_0 : List UInt8 := [42, 183, 0, 1, 42, 17, 12, 28, 188, 10, 181, 0, 7, 42, 17, 12, 28, 188, 10, 181, 0, 13, 42]
abbrev dktX4_init_0 : List UInt8 := dkwX4_init_0 ++ dktX4_init_1
theorem dksX4_init_0 : cX4_init.data.toList.drop 0 = dktX4_init_0 := by decide +kernel
theorem dksX4_init_1 : cX4_init.data.toList.drop 23 = dktX4_init_1 := dk_seg dksX4_init_0 23 rfl rfl
theorem dksX4_init_2 : cX4_init.data.toList.drop 47 = dktX4_init_2 := dk_seg dksX4_init_1 24 rfl rfl
theorem dksX4_init_3 : cX4_init.data.toList.drop 71 = dktX4_init_3 := dk_seg dksX4_init_2 24 rfl rfl
theorem dksX4_init_4 : cX4_init.data.toList.drop 95 = dktX4_init_4 := dk_seg dksX4_init_3 24 rfl rfl
theorem dksX4_init_5 : cX4_init.data.toList.drop 118 = dktX4_init_5 := dk_seg dksX4_init_4 23 rfl rfl
theorem dksX4_init_6 : cX4_init.data.toList.drop 142 = dktX4_init_6 := dk_seg dksX4_init_5 24 rfl rfl
theorem dksX4_init_7 : cX4_init.data.toList.drop 166 = dktX4_init_7 := dk_seg dksX4_init_6 24 rfl rfl
theorem dksX4_init_8 : cX4_init.data.toList.drop 189 = dktX4_init_8 := dk_seg dksX4_init_7 23 rfl rfl
theorem dksX4_init_9 : cX4_init.data.toList.drop 213 = dktX4_init_9 := dk_seg dksX4_init_8 24 rfl rfl
theorem dksX4_init_10 : cX4_init.data.toList.drop 237 = dktX4_init_10 := dk_seg dksX4_init_9 24 rfl rfl
theorem dksX4_init_11 : cX4_init.data.toList.drop 261 = dktX4_init_11 := dk_seg dksX4_init_10 24 rfl rfl
theorem dksX4_init_12 : cX4_init.data.toList.drop 285 = dktX4_init_12 := dk_seg dksX4_init_11 24 rfl rfl
theorem dX4_init_0 : decode cX4_init 0 = .ok (.aload_n 0, 1) := dk_42 (dk_at dksX4_init_0 0 rfl rfl)
theorem dX4_init_1 : decode cX4_init 1 = .ok (.invokespecial 1, 3) := dk_183 0 1 (dk_at dksX4_init_0 1 rfl rfl)
theorem dX4_init_4 : decode cX4_init 4 = .ok (.aload_n 0, 1) := dk_42 (dk_at dksX4_init_0 4 rfl rfl)
theorem dX4_init_5 : decode cX4_init 5 = .ok (.sipush 3100, 3) := dk_17 12 28 (dk_at dksX4_init_0 5 rfl rfl)
theorem dX4_init_8 : decode cX4_init 8 = .ok (.newarray .int, 2) := dk_188_10 (dk_at dksX4_init_0 8 rfl rfl)
theorem dX4_init_10 : decode cX4_init 10 = .ok (.putfield 7, 3) := dk_181 0 7 (dk_at dksX4_init_0 10 rfl rfl)
theorem dX4_init_13 : decode cX4_init 13 = .ok (.aload_n 0, 1) := dk_42 (dk_at dksX4_init_0 13 rfl rfl)
theorem dX4_init_14 : decode cX4_init 14 = .ok (.sipush 3100, 3) := dk_17 12 28 (dk_at dksX4_init_0 14 rfl rfl)
theorem dX4_init_17 : decode cX4_init 17 = .ok (.newarray .int, 2) := dk_188_10 (dk_at dksX4_init_0 17 rfl rfl)
theorem dX4_init_19 : decode cX4_init 19 = .ok (.putfield 13, 3) := dk_181 0 13 (dk_at dksX4_init_0 19 rfl rfl)
theorem dX4_init_22 : decode cX4_init 22 = .ok (.aload_n 0, 1) := dk_42 (dk_at dksX4_init_0 22 rfl rfl)
theorem dX4_init_23 : decode cX4_init 23 = .ok (.sipush 6200, 3) := dk_17 24 56 (dk_at dksX4_init_1 0 rfl rfl)
theorem dX4_init_26 : decode cX4_init 26 = .ok (.newarray .int, 2) := dk_188_10 (dk_at dksX4_init_1 3 rfl rfl)
theorem dX4_init_28 : decode cX4_init 28 = .ok (.putfield 16, 3) := dk_181 0 16 (dk_at dksX4_init_1 5 rfl rfl)
theorem dX4_init_31 : decode cX4_init 31 = .ok (.aload_n 0, 1) := dk_42 (dk_at dksX4_init_1 8 rfl rfl)
theorem dX4_init_32 : decode cX4_init 32 = .ok (.iconst 2, 1) := dk_5 (dk_at dksX4_init_1 9 rfl rfl)
theorem dX4_init_33 : decode cX4_init 33 = .ok (.newarray .boolean, 2) := dk_188_4 (dk_at dksX4_init_1 10 rfl rfl)
theorem dX4_init_35 : decode cX4_init 35 = .ok (.putfield 19, 3) := dk_181 0 19 (dk_at dksX4_init_1 12 rfl rfl)
theorem dX4_init_38 : decode cX4_init 38 = .ok (.aload_n 0, 1) := dk_42 (dk_at dksX4_init_1 15 rfl rfl)
theorem dX4_init_39 : decode cX4_init 39 = .ok (.bipush 8, 2) := dk_16 8 (dk_at dksX4_init_1 16 rfl rfl)
theorem dX4_init_41 : decode cX4_init 41 = .ok (.newarray .int, 2) := dk_188_10 (dk_at dksX4_init_1 18 rfl rfl)
theorem dX4_init_43 : decode cX4_init 43 = .ok (.dup, 1) := dk_89 (dk_at dksX4_init_1 20 rfl rfl)
theorem dX4_init_44 : decode cX4_init 44 = .ok (.iconst 0, 1) := dk_3 (dk_at dksX4_init_1 21 rfl rfl)
theorem dX4_init_45 : decode cX4_init 45 = .ok (.bipush 120, 2) := dk_16 120 (dk_at dksX4_init_1 22 rfl rfl)
theorem dX4_init_47 : decode cX4_init 47 = .ok (.iastore, 1) := dk_79 (dk_at dksX4_init_2 0 rfl rfl)
theorem dX4_init_48 : decode cX4_init 48 = .ok (.dup, 1) := dk_89 (dk_at dksX4_init_2 1 rfl rfl)
theorem dX4_init_49 : decode cX4_init 49 = .ok (.iconst 1, 1) := dk_4 (dk_at dksX4_init_2 2 rfl rfl)
theorem dX4_init_50 : decode cX4_init 50 = .ok (.iconst 5, 1) := dk_8 (dk_at dksX4_init_2 3 rfl rfl)
theorem dX4_init_51 : decode cX4_init 51 = .ok (.iastore, 1) := dk_79 (dk_at dksX4_init_2 4 rfl rfl)
theorem dX4_init_52 : decode cX4_init 52 = .ok (.dup, 1) := dk_89 (dk_at dksX4_init_2 5 rfl rfl)
theorem dX4_init_53 : decode cX4_init 53 = .ok (.iconst 2, 1) := dk_5 (dk_at dksX4_init_2 6 rfl rfl)
theorem dX4_init_54 : decode cX4_init 54 = .ok (.iconst 2, 1) := dk_5 (dk_at dksX4_init_2 7 rfl rfl)
theorem dX4_init_55 : decode cX4_init 55 = .ok (.iastore, 1) := dk_79 (dk_at dksX4_init_2 8 rfl rfl)
theorem dX4_init_56 : decode cX4_init 56 = .ok (.dup, 1) := dk_89 (dk_at dksX4_init_2 9 rfl rfl)
theorem dX4_init_57 : decode cX4_init 57 = .ok (.iconst 3, 1) := dk_6 (dk_at dksX4_init_2 10 rfl rfl)
theorem dX4_init_58 : decode cX4_init 58 = .ok (.bipush 80, 2) := dk_16 80 (dk_at dksX4_init_2 11 rfl rfl)
theorem dX4_init_60 : decode cX4_init 60 = .ok (.iastore, 1) := dk_79 (dk_at dksX4_init_2 13 rfl rfl)
theorem dX4_init_61 : decode cX4_init 61 = .ok (.dup, 1) := dk_89 (dk_at dksX4_init_2 14 rfl rfl)
theorem dX4_init_62 : decode cX4_init 62 = .ok (.iconst 4, 1) := dk_7 (dk_at dksX4_init_2 15 rfl rfl)
theorem dX4_init_63 : decode cX4_init 63 = .ok (.bipush 70, 2) := dk_16 70 (dk_at dksX4_init_2 16 rfl rfl)
theorem dX4_init_65 : decode cX4_init 65 = .ok (.iastore, 1) := dk_79 (dk_at dksX4_init_2 18 rfl rfl)
theorem dX4_init_66 : decode cX4_init 66 = .ok (.dup, 1) := dk_89 (dk_at dksX4_init_2 19 rfl rfl)
theorem dX4_init_67 : decode cX4_init 67 = .ok (.iconst 5, 1) := dk_8 (dk_at dksX4_init_2 20 rfl rfl)
theorem dX4_init_68 : decode cX4_init 68 = .ok (.bipush 90, 2) := dk_16 90 (dk_at dksX4_init_2 21 rfl rfl)
theorem dX4_init_70 : decode cX4_init 70 = .ok (.iastore, 1) := dk_79 (dk_at dksX4_init_2 23 rfl rfl)
theorem dX4_init_71 : decode cX4_init 71 = .ok (.dup, 1) := dk_89 (dk_at dksX4_init_3 0 rfl rfl)
theorem dX4_init_72 : decode cX4_init 72 = .ok (.bipush 6, 2) := dk_16 6 (dk_at dksX4_init_3 1 rfl rfl)
theorem dX4_init_74 : decode cX4_init 74 = .ok (.bipush 25, 2) := dk_16 25 (dk_at dksX4_init_3 3 rfl rfl)
theorem dX4_init_76 : decode cX4_init 76 = .ok (.iastore, 1) := dk_79 (dk_at dksX4_init_3 5 rfl rfl)
theorem dX4_init_77 : decode cX4_init 77 = .ok (.dup, 1) := dk_89 (dk_at dksX4_init_3 6 rfl rfl)
theorem dX4_init_78 : decode cX4_init 78 = .ok (.bipush 7, 2) := dk_16 7 (dk_at dksX4_init_3 7 rfl rfl)
theorem dX4_init_80 : decode cX4_init 80 = .ok (.sipush 150, 3) := dk_17 0 150 (dk_at dksX4_init_3 9 rfl rfl)
theorem dX4_init_83 : decode cX4_init 83 = .ok (.iastore, 1) := dk_79 (dk_at dksX4_init_3 12 rfl rfl)
theorem dX4_init_84 : decode cX4_init 84 = .ok (.putfield 23, 3) := dk_181 0 23 (dk_at dksX4_init_3 13 rfl rfl)
theorem dX4_init_87 : decode cX4_init 87 = .ok (.aload_n 0, 1) := dk_42 (dk_at dksX4_init_3 16 rfl rfl)
theorem dX4_init_88 : decode cX4_init 88 = .ok (.bipush 8, 2) := dk_16 8 (dk_at dksX4_init_3 17 rfl rfl)
theorem dX4_init_90 : decode cX4_init 90 = .ok (.newarray .int, 2) := dk_188_10 (dk_at dksX4_init_3 19 rfl rfl)
theorem dX4_init_92 : decode cX4_init 92 = .ok (.dup, 1) := dk_89 (dk_at dksX4_init_3 21 rfl rfl)
theorem dX4_init_93 : decode cX4_init 93 = .ok (.iconst 0, 1) := dk_3 (dk_at dksX4_init_3 22 rfl rfl)
theorem dX4_init_94 : decode cX4_init 94 = .ok (.iconst 1, 1) := dk_4 (dk_at dksX4_init_3 23 rfl rfl)
theorem dX4_init_95 : decode cX4_init 95 = .ok (.iastore, 1) := dk_79 (dk_at dksX4_init_4 0 rfl rfl)
theorem dX4_init_96 : decode cX4_init 96 = .ok (.dup, 1) := dk_89 (dk_at dksX4_init_4 1 rfl rfl)
theorem dX4_init_97 : decode cX4_init 97 = .ok (.iconst 1, 1) := dk_4 (dk_at dksX4_init_4 2 rfl rfl)
theorem dX4_init_98 : decode cX4_init 98 = .ok (.iconst 0, 1) := dk_3 (dk_at dksX4_init_4 3 rfl rfl)
theorem dX4_init_99 : decode cX4_init 99 = .ok (.iastore, 1) := dk_79 (dk_at dksX4_init_4 4 rfl rfl)
theorem dX4_init_100 : decode cX4_init 100 = .ok (.dup, 1) := dk_89 (dk_at dksX4_init_4 5 rfl rfl)
theorem dX4_init_101 : decode cX4_init 101 = .ok (.iconst 2, 1) := dk_5 (dk_at dksX4_init_4 6 rfl rfl)
theorem dX4_init_102 : decode cX4_init 102 = .ok (.iconst 0, 1) := dk_3 (dk_at dksX4_init_4 7 rfl rfl)
theorem dX4_init_103 : decode cX4_init 103 = .ok (.iastore, 1) := dk_79 (dk_at dksX4_init_4 8 rfl rfl)
theorem dX4_init_104 : decode cX4_init 104 = .ok (.dup, 1) := dk_89 (dk_at dksX4_init_4 9 rfl rfl)
theorem dX4_init_105 : decode cX4_init 105 = .ok (.iconst 3, 1) := dk_6 (dk_at dksX4_init_4 10 rfl rfl)
theorem dX4_init_106 : decode cX4_init 106 = .ok (.bipush 50, 2) := dk_16 50 (dk_at dksX4_init_4 11 rfl rfl)
theorem dX4_init_108 : decode cX4_init 108 = .ok (.iastore, 1) := dk_79 (dk_at dksX4_init_4 13 rfl rfl)
theorem dX4_init_109 : decode cX4_init 109 = .ok (.dup, 1) := dk_89 (dk_at dksX4_init_4 14 rfl rfl)
theorem dX4_init_110 : decode cX4_init 110 = .ok (.iconst 4, 1) := dk_7 (dk_at dksX4_init_4 15 rfl rfl)
theorem dX4_init_111 : decode cX4_init 111 = .ok (.iconst 0, 1) := dk_3 (dk_at dksX4_init_4 16 rfl rfl)
theorem dX4_init_112 : decode cX4_init 112 = .ok (.iastore, 1) := dk_79 (dk_at dksX4_init_4 17 rfl rfl)
theorem dX4_init_113 : decode cX4_init 113 = .ok (.dup, 1) := dk_89 (dk_at dksX4_init_4 18 rfl rfl)
theorem dX4_init_114 : decode cX4_init 114 = .ok (.iconst 5, 1) := dk_8 (dk_at dksX4_init_4 19 rfl rfl)
theorem dX4_init_115 : decode cX4_init 115 = .ok (.iconst 0, 1) := dk_3 (dk_at dksX4_init_4 20 rfl rfl)
theorem dX4_init_116 : decode cX4_init 116 = .ok (.iastore, 1) := dk_79 (dk_at dksX4_init_4 21 rfl rfl)
theorem dX4_init_117 : decode cX4_init 117 = .ok (.dup, 1) := dk_89 (dk_at dksX4_init_4 22 rfl rfl)
theorem dX4_init_118 : decode cX4_init 118 = .ok (.bipush 6, 2) := dk_16 6 (dk_at dksX4_init_5 0 rfl rfl)
theorem dX4_init_120 : decode cX4_init 120 = .ok (.iconst 0, 1) := dk_3 (dk_at dksX4_init_5 2 rfl rfl)
theorem dX4_init_121 : decode cX4_init 121 = .ok (.iastore, 1) := dk_79 (dk_at dksX4_init_5 3 rfl rfl)
theorem dX4_init_122 : decode cX4_init 122 = .ok (.dup, 1) := dk_89 (dk_at dksX4_init_5 4 rfl rfl)
theorem dX4_init_123 : decode cX4_init 123 = .ok (.bipush 7, 2) := dk_16 7 (dk_at dksX4_init_5 5 rfl rfl)
theorem dX4_init_125 : decode cX4_init 125 = .ok (.iconst 0, 1) := dk_3 (dk_at dksX4_init_5 7 rfl rfl)
theorem dX4_init_126 : decode cX4_init 126 = .ok (.iastore, 1) := dk_79 (dk_at dksX4_init_5 8 rfl rfl)
theorem dX4_init_127 : decode cX4_init 127 = .ok (.putfield 26, 3) := dk_181 0 26 (dk_at dksX4_init_5 9 rfl rfl)
theorem dX4_init_130 : decode cX4_init 130 = .ok (.aload_n 0, 1) := dk_42 (dk_at dksX4_init_5 12 rfl rfl)
theorem dX4_init_131 : decode cX4_init 131 = .ok (.bipush 8, 2) := dk_16 8 (dk_at dksX4_init_5 13 rfl rfl)
theorem dX4_init_133 : decode cX4_init 133 = .ok (.newarray .int, 2) := dk_188_10 (dk_at dksX4_init_5 15 rfl rfl)
theorem dX4_init_135 : decode cX4_init 135 = .ok (.dup, 1) := dk_89 (dk_at dksX4_init_5 17 rfl rfl)
theorem dX4_init_136 : decode cX4_init 136 = .ok (.iconst 0, 1) := dk_3 (dk_at dksX4_init_5 18 rfl rfl)
theorem dX4_init_137 : decode cX4_init 137 = .ok (.sipush 600, 3) := dk_17 2 88 (dk_at dksX4_init_5 19 rfl rfl)
theorem dX4_init_140 : decode cX4_init 140 = .ok (.iastore, 1) := dk_79 (dk_at dksX4_init_5 22 rfl rfl)
theorem dX4_init_141 : decode cX4_init 141 = .ok (.dup, 1) := dk_89 (dk_at dksX4_init_5 23 rfl rfl)
theorem dX4_init_142 : decode cX4_init 142 = .ok (.iconst 1, 1) := dk_4 (dk_at dksX4_init_6 0 rfl rfl)
theorem dX4_init_143 : decode cX4_init 143 = .ok (.bipush 60, 2) := dk_16 60 (dk_at dksX4_init_6 1 rfl rfl)
theorem dX4_init_145 : decode cX4_init 145 = .ok (.iastore, 1) := dk_79 (dk_at dksX4_init_6 3 rfl rfl)
theorem dX4_init_146 : decode cX4_init 146 = .ok (.dup, 1) := dk_89 (dk_at dksX4_init_6 4 rfl rfl)
theorem dX4_init_147 : decode cX4_init 147 = .ok (.iconst 2, 1) := dk_5 (dk_at dksX4_init_6 5 rfl rfl)
theorem dX4_init_148 : decode cX4_init 148 = .ok (.bipush 20, 2) := dk_16 20 (dk_at dksX4_init_6 6 rfl rfl)
theorem dX4_init_150 : decode cX4_init 150 = .ok (.iastore, 1) := dk_79 (dk_at dksX4_init_6 8 rfl rfl)
theorem dX4_init_151 : decode cX4_init 151 = .ok (.dup, 1) := dk_89 (dk_at dksX4_init_6 9 rfl rfl)
theorem dX4_init_152 : decode cX4_init 152 = .ok (.iconst 3, 1) := dk_6 (dk_at dksX4_init_6 10 rfl rfl)
theorem dX4_init_153 : decode cX4_init 153 = .ok (.bipush 100, 2) := dk_16 100 (dk_at dksX4_init_6 11 rfl rfl)
theorem dX4_init_155 : decode cX4_init 155 = .ok (.iastore, 1) := dk_79 (dk_at dksX4_init_6 13 rfl rfl)
theorem dX4_init_156 : decode cX4_init 156 = .ok (.dup, 1) := dk_89 (dk_at dksX4_init_6 14 rfl rfl)
theorem dX4_init_157 : decode cX4_init 157 = .ok (.iconst 4, 1) := dk_7 (dk_at dksX4_init_6 15 rfl rfl)
theorem dX4_init_158 : decode cX4_init 158 = .ok (.bipush 100, 2) := dk_16 100 (dk_at dksX4_init_6 16 rfl rfl)
theorem dX4_init_160 : decode cX4_init 160 = .ok (.iastore, 1) := dk_79 (dk_at dksX4_init_6 18 rfl rfl)
theorem dX4_init_161 : decode cX4_init 161 = .ok (.dup, 1) := dk_89 (dk_at dksX4_init_6 19 rfl rfl)
theorem dX4_init_162 : decode cX4_init 162 = .ok (.iconst 5, 1) := dk_8 (dk_at dksX4_init_6 20 rfl rfl)
theorem dX4_init_163 : decode cX4_init 163 = .ok (.bipush 100, 2) := dk_16 100 (dk_at dksX4_init_6 21 rfl rfl)
theorem dX4_init_165 : decode cX4_init 165 = .ok (.iastore, 1) := dk_79 (dk_at dksX4_init_6 23 rfl rfl)
theorem dX4_init_166 : decode cX4_init 166 = .ok (.dup, 1) := dk_89 (dk_at dksX4_init_7 0 rfl rfl)
theorem dX4_init_167 : decode cX4_init 167 = .ok (.bipush 6, 2) := dk_16 6 (dk_at dksX4_init_7 1 rfl rfl)
theorem dX4_init_169 : decode cX4_init 169 = .ok (.sipush 999, 3) := dk_17 3 231 (dk_at dksX4_init_7 3 rfl rfl)
theorem dX4_init_172 : decode cX4_init 172 = .ok (.iastore, 1) := dk_79 (dk_at dksX4_init_7 6 rfl rfl)
theorem dX4_init_173 : decode cX4_init 173 = .ok (.dup, 1) := dk_89 (dk_at dksX4_init_7 7 rfl rfl)
theorem dX4_init_174 : decode cX4_init 174 = .ok (.bipush 7, 2) := dk_16 7 (dk_at dksX4_init_7 8 rfl rfl)
theorem dX4_init_176 : decode cX4_init 176 = .ok (.sipush 999, 3) := dk_17 3 231 (dk_at dksX4_init_7 10 rfl rfl)
theorem dX4_init_179 : decode cX4_init 179 = .ok (.iastore, 1) := dk_79 (dk_at dksX4_init_7 13 rfl rfl)
theorem dX4_init_180 : decode cX4_init 180 = .ok (.putfield 29, 3) := dk_181 0 29 (dk_at dksX4_init_7 14 rfl rfl)
theorem dX4_init_183 : decode cX4_init 183 = .ok (.aload_n 0, 1) := dk_42 (dk_at dksX4_init_7 17 rfl rfl)
theorem dX4_init_184 : decode cX4_init 184 = .ok (.sipush 700, 3) := dk_17 2 188 (dk_at dksX4_init_7 18 rfl rfl)
theorem dX4_init_187 : decode cX4_init 187 = .ok (.newarray .int, 2) := dk_188_10 (dk_at dksX4_init_7 21 rfl rfl)
theorem dX4_init_189 : decode cX4_init 189 = .ok (.putfield 32, 3) := dk_181 0 32 (dk_at dksX4_init_8 0 rfl rfl)
theorem dX4_init_192 : decode cX4_init 192 = .ok (.aload_n 0, 1) := dk_42 (dk_at dksX4_init_8 3 rfl rfl)
theorem dX4_init_193 : decode cX4_init 193 = .ok (.iconst (-1), 1) := dk_2 (dk_at dksX4_init_8 4 rfl rfl)
theorem dX4_init_194 : decode cX4_init 194 = .ok (.putfield 35, 3) := dk_181 0 35 (dk_at dksX4_init_8 5 rfl rfl)
theorem dX4_init_197 : decode cX4_init 197 = .ok (.aload_n 0, 1) := dk_42 (dk_at dksX4_init_8 8 rfl rfl)
theorem dX4_init_198 : decode cX4_init 198 = .ok (.bipush 7, 2) := dk_16 7 (dk_at dksX4_init_8 9 rfl rfl)
theorem dX4_init_200 : decode cX4_init 200 = .ok (.newarray .int, 2) := dk_188_10 (dk_at dksX4_init_8 11 rfl rfl)
theorem dX4_init_202 : decode cX4_init 202 = .ok (.putfield 39, 3) := dk_181 0 39 (dk_at dksX4_init_8 13 rfl rfl)
theorem dX4_init_205 : decode cX4_init 205 = .ok (.aload_n 0, 1) := dk_42 (dk_at dksX4_init_8 16 rfl rfl)
theorem dX4_init_206 : decode cX4_init 206 = .ok (.bipush 7, 2) := dk_16 7 (dk_at dksX4_init_8 17 rfl rfl)
theorem dX4_init_208 : decode cX4_init 208 = .ok (.newarray .int, 2) := dk_188_10 (dk_at dksX4_init_8 19 rfl rfl)
theorem dX4_init_210 : decode cX4_init 210 = .ok (.putfield 42, 3) := dk_181 0 42 (dk_at dksX4_init_8 21 rfl rfl)
theorem dX4_init_213 : decode cX4_init 213 = .ok (.aload_n 0, 1) := dk_42 (dk_at dksX4_init_9 0 rfl rfl)
theorem dX4_init_214 : decode cX4_init 214 = .ok (.bipush 7, 2) := dk_16 7 (dk_at dksX4_init_9 1 rfl rfl)
theorem dX4_init_216 : decode cX4_init 216 = .ok (.newarray .int, 2) := dk_188_10 (dk_at dksX4_init_9 3 rfl rfl)
theorem dX4_init_218 : decode cX4_init 218 = .ok (.putfield 45, 3) := dk_181 0 45 (dk_at dksX4_init_9 5 rfl rfl)
theorem dX4_init_221 : decode cX4_init 221 = .ok (.aload_n 0, 1) := dk_42 (dk_at dksX4_init_9 8 rfl rfl)
theorem dX4_init_222 : decode cX4_init 222 = .ok (.bipush 7, 2) := dk_16 7 (dk_at dksX4_init_9 9 rfl rfl)
theorem dX4_init_224 : decode cX4_init 224 = .ok (.newarray .int, 2) := dk_188_10 (dk_at dksX4_init_9 11 rfl rfl)
theorem dX4_init_226 : decode cX4_init 226 = .ok (.putfield 48, 3) := dk_181 0 48 (dk_at dksX4_init_9 13 rfl rfl)
theorem dX4_init_229 : decode cX4_init 229 = .ok (.aload_n 0, 1) := dk_42 (dk_at dksX4_init_9 16 rfl rfl)
theorem dX4_init_230 : decode cX4_init 230 = .ok (.bipush 7, 2) := dk_16 7 (dk_at dksX4_init_9 17 rfl rfl)
theorem dX4_init_232 : decode cX4_init 232 = .ok (.newarray .int, 2) := dk_188_10 (dk_at dksX4_init_9 19 rfl rfl)
theorem dX4_init_234 : decode cX4_init 234 = .ok (.putfield 51, 3) := dk_181 0 51 (dk_at dksX4_init_9 21 rfl rfl)
theorem dX4_init_237 : decode cX4_init 237 = .ok (.aload_n 0, 1) := dk_42 (dk_at dksX4_init_10 0 rfl rfl)
theorem dX4_init_238 : decode cX4_init 238 = .ok (.bipush 7, 2) := dk_16 7 (dk_at dksX4_init_10 1 rfl rfl)
theorem dX4_init_240 : decode cX4_init 240 = .ok (.newarray .int, 2) := dk_188_10 (dk_at dksX4_init_10 3 rfl rfl)
theorem dX4_init_242 : decode cX4_init 242 = .ok (.putfield 54, 3) := dk_181 0 54 (dk_at dksX4_init_10 5 rfl rfl)
theorem dX4_init_245 : decode cX4_init 245 = .ok (.aload_n 0, 1) := dk_42 (dk_at dksX4_init_10 8 rfl rfl)
theorem dX4_init_246 : decode cX4_init 246 = .ok (.bipush 120, 2) := dk_16 120 (dk_at dksX4_init_10 9 rfl rfl)
theorem dX4_init_248 : decode cX4_init 248 = .ok (.newarray .int, 2) := dk_188_10 (dk_at dksX4_init_10 11 rfl rfl)
theorem dX4_init_250 : decode cX4_init 250 = .ok (.putfield 57, 3) := dk_181 0 57 (dk_at dksX4_init_10 13 rfl rfl)
theorem dX4_init_253 : decode cX4_init 253 = .ok (.aload_n 0, 1) := dk_42 (dk_at dksX4_init_10 16 rfl rfl)
theorem dX4_init_254 : decode cX4_init 254 = .ok (.bipush 120, 2) := dk_16 120 (dk_at dksX4_init_10 17 rfl rfl)
theorem dX4_init_256 : decode cX4_init 256 = .ok (.newarray .int, 2) := dk_188_10 (dk_at dksX4_init_10 19 rfl rfl)
theorem dX4_init_258 : decode cX4_init 258 = .ok (.putfield 60, 3) := dk_181 0 60 (dk_at dksX4_init_10 21 rfl rfl)
theorem dX4_init_261 : decode cX4_init 261 = .ok (.aload_n 0, 1) := dk_42 (dk_at dksX4_init_11 0 rfl rfl)
theorem dX4_init_262 : decode cX4_init 262 = .ok (.bipush 121, 2) := dk_16 121 (dk_at dksX4_init_11 1 rfl rfl)
theorem dX4_init_264 : decode cX4_init 264 = .ok (.newarray .int, 2) := dk_188_10 (dk_at dksX4_init_11 3 rfl rfl)
theorem dX4_init_266 : decode cX4_init 266 = .ok (.putfield 63, 3) := dk_181 0 63 (dk_at dksX4_init_11 5 rfl rfl)
theorem dX4_init_269 : decode cX4_init 269 = .ok (.aload_n 0, 1) := dk_42 (dk_at dksX4_init_11 8 rfl rfl)
theorem dX4_init_270 : decode cX4_init 270 = .ok (.bipush 120, 2) := dk_16 120 (dk_at dksX4_init_11 9 rfl rfl)
theorem dX4_init_272 : decode cX4_init 272 = .ok (.newarray .int, 2) := dk_188_10 (dk_at dksX4_init_11 11 rfl rfl)
theorem dX4_init_274 : decode cX4_init 274 = .ok (.putfield 66, 3) := dk_181 0 66 (dk_at dksX4_init_11 13 rfl rfl)
theorem dX4_init_277 : decode cX4_init 277 = .ok (.aload_n 0, 1) := dk_42 (dk_at dksX4_init_11 16 rfl rfl)
theorem dX4_init_278 : decode cX4_init 278 = .ok (.bipush 120, 2) := dk_16 120 (dk_at dksX4_init_11 17 rfl rfl)
theorem dX4_init_280 : decode cX4_init 280 = .ok (.newarray .int, 2) := dk_188_10 (dk_at dksX4_init_11 19 rfl rfl)
theorem dX4_init_282 : decode cX4_init 282 = .ok (.putfield 69, 3) := dk_181 0 69 (dk_at dksX4_init_11 21 rfl rfl)
theorem dX4_init_285 : decode cX4_init 285 = .ok (.aload_n 0, 1) := dk_42 (dk_at dksX4_init_12 0 rfl rfl)
theorem dX4_init_286 : decode cX4_init 286 = .ok (.sipush 900, 3) := dk_17 3 132 (dk_at dksX4_init_12 1 rfl rfl)
theorem dX4_init_289 : decode cX4_init 289 = .ok (.newarray .int, 2) := dk_188_10 (dk_at dksX4_init_12 4 rfl rfl)
theorem dX4_init_291 : decode cX4_init 291 = .ok (.putfield 72, 3) := dk_181 0 72 (dk_at dksX4_init_12 6 rfl rfl)
theorem dX4_init_294 : decode cX4_init 294 = .ok (.aload_n 0, 1) := dk_42 (dk_at dksX4_init_12 9 rfl rfl)
theorem dX4_init_295 : decode cX4_init 295 = .ok (.sipush 900, 3) := dk_17 3 132 (dk_at dksX4_init_12 10 rfl rfl)
theorem dX4_init_298 : decode cX4_init 298 = .ok (.newarray .boolean, 2) := dk_188_4 (dk_at dksX4_init_12 13 rfl rfl)
theorem dX4_init_300 : decode cX4_init 300 = .ok (.putfield 75, 3) := dk_181 0 75 (dk_at dksX4_init_12 15 rfl rfl)
theorem dX4_init_303 : decode cX4_init 303 = .ok (.aload_n 0, 1) := dk_42 (dk_at dksX4_init_12 18 rfl rfl)
theorem dX4_init_304 : decode cX4_init 304 = .ok (.invokevirtual 78, 3) := dk_182 0 78 (dk_at dksX4_init_12 19 rfl rfl)
theorem dX4_init_307 : decode cX4_init 307 = .ok (.return_, 1) := dk_177 (dk_at dksX4_init_12 22 rfl rfl)
theorem c_287_0 : LkP (OkP 287) [(0, o_aload 0 1), (1, o_oi), (4, o_aload 0 1), (5, o_push 3 (.int 3100)), (8, o_newa 0 2), (10, o_put 148 0), (13, o_aload 0 1), (14, o_push 3 (.int 3100)), (17, o_newa 0 2), (19, o_put 149 0), (22, o_aload 0 1), (23, o_push 3 (.int 6200)), (26, o_newa 0 2), (28, o_put 150 0), (31, o_aload 0 1), (32, o_push 1 (.int 2)), (33, o_newa 2 2), (35, o_put 151 0), (38, o_aload 0 1), (39, o_push 2 (.int 8)), (41, o_newa 0 2), (43, o_dup), (44, o_push 1 (.int 0)), (45, o_push 2 (.int 120)), (47, o_wrI 0), (48, o_dup), (49, o_push 1 (.int 1)), (50, o_push 1 (.int 5)), (51, o_wrI 0), (52, o_dup), (53, o_push 1 (.int 2)), (54, o_push 1 (.int 2)), (55, o_wrI 0), (56, o_dup), (57, o_push 1 (.int 3)), (58, o_push 2 (.int 80)), (60, o_wrI 0), (61, o_dup), (62, o_push 1 (.int 4)), (63, o_push 2 (.int 70))] := lkp_c (P := OkP 287) ⟨(PuOK.ok (ok_aload_n dX4_init_0 rfl)), m_aload⟩ (
  lkp_c (P := OkP 287) ⟨ok_oi q3075 q188 q_oi dX4_init_1, m_oi⟩ (
  lkp_c (P := OkP 287) ⟨(PuOK.ok (ok_aload_n dX4_init_4 rfl)), m_aload⟩ (
  lkp_c (P := OkP 287) ⟨(PuOK.ok (ok_sipush dX4_init_5 rfl)), m_push⟩ (
  lkp_c (P := OkP 287) ⟨ok_newa (by decide) rfl q224 dX4_init_8, m_newa⟩ (
  lkp_c (P := OkP 287) ⟨ok_putF q3080 rfl rfl rfl fd_148 rfl dX4_init_10, m_put⟩ (
  lkp_c (P := OkP 287) ⟨(PuOK.ok (ok_aload_n dX4_init_13 rfl)), m_aload⟩ (
  lkp_c (P := OkP 287) ⟨(PuOK.ok (ok_sipush dX4_init_14 rfl)), m_push⟩ (
  lkp_c (P := OkP 287) ⟨ok_newa (by decide) rfl q224 dX4_init_17, m_newa⟩ (
  lkp_c (P := OkP 287) ⟨ok_putF q3081 rfl rfl rfl fd_149 rfl dX4_init_19, m_put⟩ (
  lkp_c (P := OkP 287) ⟨(PuOK.ok (ok_aload_n dX4_init_22 rfl)), m_aload⟩ (
  lkp_c (P := OkP 287) ⟨(PuOK.ok (ok_sipush dX4_init_23 rfl)), m_push⟩ (
  lkp_c (P := OkP 287) ⟨ok_newa (by decide) rfl q224 dX4_init_26, m_newa⟩ (
  lkp_c (P := OkP 287) ⟨ok_putF q3082 rfl rfl rfl fd_150 rfl dX4_init_28, m_put⟩ (
  lkp_c (P := OkP 287) ⟨(PuOK.ok (ok_aload_n dX4_init_31 rfl)), m_aload⟩ (
  lkp_c (P := OkP 287) ⟨(PuOK.ok (ok_iconst dX4_init_32 rfl)), m_push⟩ (
  lkp_c (P := OkP 287) ⟨ok_newa (by decide) rfl q2755 dX4_init_33, m_newa⟩ (
  lkp_c (P := OkP 287) ⟨ok_putF q3083 rfl rfl rfl fd_151 rfl dX4_init_35, m_put⟩ (
  lkp_c (P := OkP 287) ⟨(PuOK.ok (ok_aload_n dX4_init_38 rfl)), m_aload⟩ (
  lkp_c (P := OkP 287) ⟨(PuOK.ok (ok_bipush dX4_init_39 rfl)), m_push⟩ (
  lkp_c (P := OkP 287) ⟨ok_newa (by decide) rfl q224 dX4_init_41, m_newa⟩ (
  lkp_c (P := OkP 287) ⟨(PuOK.ok (ok_dup dX4_init_43)), m_dup⟩ (
  lkp_c (P := OkP 287) ⟨(PuOK.ok (ok_iconst dX4_init_44 rfl)), m_push⟩ (
  lkp_c (P := OkP 287) ⟨(PuOK.ok (ok_bipush dX4_init_45 rfl)), m_push⟩ (
  lkp_c (P := OkP 287) ⟨ok_iast dX4_init_47, m_wrI⟩ (
  lkp_c (P := OkP 287) ⟨(PuOK.ok (ok_dup dX4_init_48)), m_dup⟩ (
  lkp_c (P := OkP 287) ⟨(PuOK.ok (ok_iconst dX4_init_49 rfl)), m_push⟩ (
  lkp_c (P := OkP 287) ⟨(PuOK.ok (ok_iconst dX4_init_50 rfl)), m_push⟩ (
  lkp_c (P := OkP 287) ⟨ok_iast dX4_init_51, m_wrI⟩ (
  lkp_c (P := OkP 287) ⟨(PuOK.ok (ok_dup dX4_init_52)), m_dup⟩ (
  lkp_c (P := OkP 287) ⟨(PuOK.ok (ok_iconst dX4_init_53 rfl)), m_push⟩ (
  lkp_c (P := OkP 287) ⟨(PuOK.ok (ok_iconst dX4_init_54 rfl)), m_push⟩ (
  lkp_c (P := OkP 287) ⟨ok_iast dX4_init_55, m_wrI⟩ (
  lkp_c (P := OkP 287) ⟨(PuOK.ok (ok_dup dX4_init_56)), m_dup⟩ (
  lkp_c (P := OkP 287) ⟨(PuOK.ok (ok_iconst dX4_init_57 rfl)), m_push⟩ (
  lkp_c (P := OkP 287) ⟨(PuOK.ok (ok_bipush dX4_init_58 rfl)), m_push⟩ (
  lkp_c (P := OkP 287) ⟨ok_iast dX4_init_60, m_wrI⟩ (
  lkp_c (P := OkP 287) ⟨(PuOK.ok (ok_dup dX4_init_61)), m_dup⟩ (
  lkp_c (P := OkP 287) ⟨(PuOK.ok (ok_iconst dX4_init_62 rfl)), m_push⟩ (
  lkp_c (P := OkP 287) ⟨(PuOK.ok (ok_bipush dX4_init_63 rfl)), m_push⟩ (
  trivial))))))))))))))))))))))))))))))))))))))))
theorem c_287_1 : LkP (OkP 287) [(65, o_wrI 0), (66, o_dup), (67, o_push 1 (.int 5)), (68, o_push 2 (.int 90)), (70, o_wrI 0), (71, o_dup), (72, o_push 2 (.int 6)), (74, o_push 2 (.int 25)), (76, o_wrI 0), (77, o_dup), (78, o_push 2 (.int 7)), (80, o_push 3 (.int 150)), (83, o_wrI 0), (84, o_put 152 0), (87, o_aload 0 1), (88, o_push 2 (.int 8)), (90, o_newa 0 2), (92, o_dup), (93, o_push 1 (.int 0)), (94, o_push 1 (.int 1)), (95, o_wrI 0), (96, o_dup), (97, o_push 1 (.int 1)), (98, o_push 1 (.int 0)), (99, o_wrI 0), (100, o_dup), (101, o_push 1 (.int 2)), (102, o_push 1 (.int 0)), (103, o_wrI 0), (104, o_dup), (105, o_push 1 (.int 3)), (106, o_push 2 (.int 50)), (108, o_wrI 0), (109, o_dup), (110, o_push 1 (.int 4)), (111, o_push 1 (.int 0)), (112, o_wrI 0), (113, o_dup), (114, o_push 1 (.int 5)), (115, o_push 1 (.int 0)), (116, o_wrI 0), (117, o_dup), (118, o_push 2 (.int 6)), (120, o_push 1 (.int 0)), (121, o_wrI 0), (122, o_dup), (123, o_push 2 (.int 7)), (125, o_push 1 (.int 0)), (126, o_wrI 0), (127, o_put 153 0)] := lkp_c (P := OkP 287) ⟨ok_iast dX4_init_65, m_wrI⟩ (
  lkp_c (P := OkP 287) ⟨(PuOK.ok (ok_dup dX4_init_66)), m_dup⟩ (
  lkp_c (P := OkP 287) ⟨(PuOK.ok (ok_iconst dX4_init_67 rfl)), m_push⟩ (
  lkp_c (P := OkP 287) ⟨(PuOK.ok (ok_bipush dX4_init_68 rfl)), m_push⟩ (
  lkp_c (P := OkP 287) ⟨ok_iast dX4_init_70, m_wrI⟩ (
  lkp_c (P := OkP 287) ⟨(PuOK.ok (ok_dup dX4_init_71)), m_dup⟩ (
  lkp_c (P := OkP 287) ⟨(PuOK.ok (ok_bipush dX4_init_72 rfl)), m_push⟩ (
  lkp_c (P := OkP 287) ⟨(PuOK.ok (ok_bipush dX4_init_74 rfl)), m_push⟩ (
  lkp_c (P := OkP 287) ⟨ok_iast dX4_init_76, m_wrI⟩ (
  lkp_c (P := OkP 287) ⟨(PuOK.ok (ok_dup dX4_init_77)), m_dup⟩ (
  lkp_c (P := OkP 287) ⟨(PuOK.ok (ok_bipush dX4_init_78 rfl)), m_push⟩ (
  lkp_c (P := OkP 287) ⟨(PuOK.ok (ok_sipush dX4_init_80 rfl)), m_push⟩ (
  lkp_c (P := OkP 287) ⟨ok_iast dX4_init_83, m_wrI⟩ (
  lkp_c (P := OkP 287) ⟨ok_putF q3084 rfl rfl rfl fd_152 rfl dX4_init_84, m_put⟩ (
  lkp_c (P := OkP 287) ⟨(PuOK.ok (ok_aload_n dX4_init_87 rfl)), m_aload⟩ (
  lkp_c (P := OkP 287) ⟨(PuOK.ok (ok_bipush dX4_init_88 rfl)), m_push⟩ (
  lkp_c (P := OkP 287) ⟨ok_newa (by decide) rfl q224 dX4_init_90, m_newa⟩ (
  lkp_c (P := OkP 287) ⟨(PuOK.ok (ok_dup dX4_init_92)), m_dup⟩ (
  lkp_c (P := OkP 287) ⟨(PuOK.ok (ok_iconst dX4_init_93 rfl)), m_push⟩ (
  lkp_c (P := OkP 287) ⟨(PuOK.ok (ok_iconst dX4_init_94 rfl)), m_push⟩ (
  lkp_c (P := OkP 287) ⟨ok_iast dX4_init_95, m_wrI⟩ (
  lkp_c (P := OkP 287) ⟨(PuOK.ok (ok_dup dX4_init_96)), m_dup⟩ (
  lkp_c (P := OkP 287) ⟨(PuOK.ok (ok_iconst dX4_init_97 rfl)), m_push⟩ (
  lkp_c (P := OkP 287) ⟨(PuOK.ok (ok_iconst dX4_init_98 rfl)), m_push⟩ (
  lkp_c (P := OkP 287) ⟨ok_iast dX4_init_99, m_wrI⟩ (
  lkp_c (P := OkP 287) ⟨(PuOK.ok (ok_dup dX4_init_100)), m_dup⟩ (
  lkp_c (P := OkP 287) ⟨(PuOK.ok (ok_iconst dX4_init_101 rfl)), m_push⟩ (
  lkp_c (P := OkP 287) ⟨(PuOK.ok (ok_iconst dX4_init_102 rfl)), m_push⟩ (
  lkp_c (P := OkP 287) ⟨ok_iast dX4_init_103, m_wrI⟩ (
  lkp_c (P := OkP 287) ⟨(PuOK.ok (ok_dup dX4_init_104)), m_dup⟩ (
  lkp_c (P := OkP 287) ⟨(PuOK.ok (ok_iconst dX4_init_105 rfl)), m_push⟩ (
  lkp_c (P := OkP 287) ⟨(PuOK.ok (ok_bipush dX4_init_106 rfl)), m_push⟩ (
  lkp_c (P := OkP 287) ⟨ok_iast dX4_init_108, m_wrI⟩ (
  lkp_c (P := OkP 287) ⟨(PuOK.ok (ok_dup dX4_init_109)), m_dup⟩ (
  lkp_c (P := OkP 287) ⟨(PuOK.ok (ok_iconst dX4_init_110 rfl)), m_push⟩ (
  lkp_c (P := OkP 287) ⟨(PuOK.ok (ok_iconst dX4_init_111 rfl)), m_push⟩ (
  lkp_c (P := OkP 287) ⟨ok_iast dX4_init_112, m_wrI⟩ (
  lkp_c (P := OkP 287) ⟨(PuOK.ok (ok_dup dX4_init_113)), m_dup⟩ (
  lkp_c (P := OkP 287) ⟨(PuOK.ok (ok_iconst dX4_init_114 rfl)), m_push⟩ (
  lkp_c (P := OkP 287) ⟨(PuOK.ok (ok_iconst dX4_init_115 rfl)), m_push⟩ (
  lkp_c (P := OkP 287) ⟨ok_iast dX4_init_116, m_wrI⟩ (
  lkp_c (P := OkP 287) ⟨(PuOK.ok (ok_dup dX4_init_117)), m_dup⟩ (
  lkp_c (P := OkP 287) ⟨(PuOK.ok (ok_bipush dX4_init_118 rfl)), m_push⟩ (
  lkp_c (P := OkP 287) ⟨(PuOK.ok (ok_iconst dX4_init_120 rfl)), m_push⟩ (
  lkp_c (P := OkP 287) ⟨ok_iast dX4_init_121, m_wrI⟩ (
  lkp_c (P := OkP 287) ⟨(PuOK.ok (ok_dup dX4_init_122)), m_dup⟩ (
  lkp_c (P := OkP 287) ⟨(PuOK.ok (ok_bipush dX4_init_123 rfl)), m_push⟩ (
  lkp_c (P := OkP 287) ⟨(PuOK.ok (ok_iconst dX4_init_125 rfl)), m_push⟩ (
  lkp_c (P := OkP 287) ⟨ok_iast dX4_init_126, m_wrI⟩ (
  lkp_c (P := OkP 287) ⟨ok_putF q3085 rfl rfl rfl fd_153 rfl dX4_init_127, m_put⟩ (
  trivial))))))))))))))))))))))))))))))))))))))))))))))))))
theorem c_287_2 : LkP (OkP 287) [(130, o_aload 0 1), (131, o_push 2 (.int 8)), (133, o_newa 0 2), (135, o_dup), (136, o_push 1 (.int 0)), (137, o_push 3 (.int 600)), (140, o_wrI 0), (141, o_dup), (142, o_push 1 (.int 1)), (143, o_push 2 (.int 60)), (145, o_wrI 0), (146, o_dup), (147, o_push 1 (.int 2)), (148, o_push 2 (.int 20)), (150, o_wrI 0), (151, o_dup), (152, o_push 1 (.int 3)), (153, o_push 2 (.int 100)), (155, o_wrI 0), (156, o_dup), (157, o_push 1 (.int 4)), (158, o_push 2 (.int 100)), (160, o_wrI 0), (161, o_dup), (162, o_push 1 (.int 5)), (163, o_push 2 (.int 100)), (165, o_wrI 0), (166, o_dup), (167, o_push 2 (.int 6)), (169, o_push 3 (.int 999)), (172, o_wrI 0), (173, o_dup), (174, o_push 2 (.int 7)), (176, o_push 3 (.int 999)), (179, o_wrI 0), (180, o_put 154 0), (183, o_aload 0 1), (184, o_push 3 (.int 700)), (187, o_newa 0 2), (189, o_put 156 0)] := lkp_c (P := OkP 287) ⟨(PuOK.ok (ok_aload_n dX4_init_130 rfl)), m_aload⟩ (
  lkp_c (P := OkP 287) ⟨(PuOK.ok (ok_bipush dX4_init_131 rfl)), m_push⟩ (
  lkp_c (P := OkP 287) ⟨ok_newa (by decide) rfl q224 dX4_init_133, m_newa⟩ (
  lkp_c (P := OkP 287) ⟨(PuOK.ok (ok_dup dX4_init_135)), m_dup⟩ (
  lkp_c (P := OkP 287) ⟨(PuOK.ok (ok_iconst dX4_init_136 rfl)), m_push⟩ (
  lkp_c (P := OkP 287) ⟨(PuOK.ok (ok_sipush dX4_init_137 rfl)), m_push⟩ (
  lkp_c (P := OkP 287) ⟨ok_iast dX4_init_140, m_wrI⟩ (
  lkp_c (P := OkP 287) ⟨(PuOK.ok (ok_dup dX4_init_141)), m_dup⟩ (
  lkp_c (P := OkP 287) ⟨(PuOK.ok (ok_iconst dX4_init_142 rfl)), m_push⟩ (
  lkp_c (P := OkP 287) ⟨(PuOK.ok (ok_bipush dX4_init_143 rfl)), m_push⟩ (
  lkp_c (P := OkP 287) ⟨ok_iast dX4_init_145, m_wrI⟩ (
  lkp_c (P := OkP 287) ⟨(PuOK.ok (ok_dup dX4_init_146)), m_dup⟩ (
  lkp_c (P := OkP 287) ⟨(PuOK.ok (ok_iconst dX4_init_147 rfl)), m_push⟩ (
  lkp_c (P := OkP 287) ⟨(PuOK.ok (ok_bipush dX4_init_148 rfl)), m_push⟩ (
  lkp_c (P := OkP 287) ⟨ok_iast dX4_init_150, m_wrI⟩ (
  lkp_c (P := OkP 287) ⟨(PuOK.ok (ok_dup dX4_init_151)), m_dup⟩ (
  lkp_c (P := OkP 287) ⟨(PuOK.ok (ok_iconst dX4_init_152 rfl)), m_push⟩ (
  lkp_c (P := OkP 287) ⟨(PuOK.ok (ok_bipush dX4_init_153 rfl)), m_push⟩ (
  lkp_c (P := OkP 287) ⟨ok_iast dX4_init_155, m_wrI⟩ (
  lkp_c (P := OkP 287) ⟨(PuOK.ok (ok_dup dX4_init_156)), m_dup⟩ (
  lkp_c (P := OkP 287) ⟨(PuOK.ok (ok_iconst dX4_init_157 rfl)), m_push⟩ (
  lkp_c (P := OkP 287) ⟨(PuOK.ok (ok_bipush dX4_init_158 rfl)), m_push⟩ (
  lkp_c (P := OkP 287) ⟨ok_iast dX4_init_160, m_wrI⟩ (
  lkp_c (P := OkP 287) ⟨(PuOK.ok (ok_dup dX4_init_161)), m_dup⟩ (
  lkp_c (P := OkP 287) ⟨(PuOK.ok (ok_iconst dX4_init_162 rfl)), m_push⟩ (
  lkp_c (P := OkP 287) ⟨(PuOK.ok (ok_bipush dX4_init_163 rfl)), m_push⟩ (
  lkp_c (P := OkP 287) ⟨ok_iast dX4_init_165, m_wrI⟩ (
  lkp_c (P := OkP 287) ⟨(PuOK.ok (ok_dup dX4_init_166)), m_dup⟩ (
  lkp_c (P := OkP 287) ⟨(PuOK.ok (ok_bipush dX4_init_167 rfl)), m_push⟩ (
  lkp_c (P := OkP 287) ⟨(PuOK.ok (ok_sipush dX4_init_169 rfl)), m_push⟩ (
  lkp_c (P := OkP 287) ⟨ok_iast dX4_init_172, m_wrI⟩ (
  lkp_c (P := OkP 287) ⟨(PuOK.ok (ok_dup dX4_init_173)), m_dup⟩ (
  lkp_c (P := OkP 287) ⟨(PuOK.ok (ok_bipush dX4_init_174 rfl)), m_push⟩ (
  lkp_c (P := OkP 287) ⟨(PuOK.ok (ok_sipush dX4_init_176 rfl)), m_push⟩ (
  lkp_c (P := OkP 287) ⟨ok_iast dX4_init_179, m_wrI⟩ (
  lkp_c (P := OkP 287) ⟨ok_putF q3086 rfl rfl rfl fd_154 rfl dX4_init_180, m_put⟩ (
  lkp_c (P := OkP 287) ⟨(PuOK.ok (ok_aload_n dX4_init_183 rfl)), m_aload⟩ (
  lkp_c (P := OkP 287) ⟨(PuOK.ok (ok_sipush dX4_init_184 rfl)), m_push⟩ (
  lkp_c (P := OkP 287) ⟨ok_newa (by decide) rfl q224 dX4_init_187, m_newa⟩ (
  lkp_c (P := OkP 287) ⟨ok_putF q3088 rfl rfl rfl fd_156 rfl dX4_init_189, m_put⟩ (
  trivial))))))))))))))))))))))))))))))))))))))))
theorem c_287_3 : LkP (OkP 287) [(192, o_aload 0 1), (193, o_push 1 (.int (-1))), (194, o_put 164 1), (197, o_aload 0 1), (198, o_push 2 (.int 7)), (200, o_newa 0 2), (202, o_put 166 0), (205, o_aload 0 1), (206, o_push 2 (.int 7)), (208, o_newa 0 2), (210, o_put 167 0), (213, o_aload 0 1), (214, o_push 2 (.int 7)), (216, o_newa 0 2), (218, o_put 168 0), (221, o_aload 0 1), (222, o_push 2 (.int 7)), (224, o_newa 0 2), (226, o_put 169 0), (229, o_aload 0 1), (230, o_push 2 (.int 7)), (232, o_newa 0 2), (234, o_put 170 0), (237, o_aload 0 1), (238, o_push 2 (.int 7)), (240, o_newa 0 2), (242, o_put 171 0), (245, o_aload 0 1), (246, o_push 2 (.int 120)), (248, o_newa 0 2), (250, o_put 177 0), (253, o_aload 0 1), (254, o_push 2 (.int 120))] := lkp_c (P := OkP 287) ⟨(PuOK.ok (ok_aload_n dX4_init_192 rfl)), m_aload⟩ (
  lkp_c (P := OkP 287) ⟨(PuOK.ok (ok_iconst dX4_init_193 rfl)), m_push⟩ (
  lkp_c (P := OkP 287) ⟨ok_put ⟨"TollRoadModel", q3096, Or.inl rfl⟩ rfl fd_164 rfl dX4_init_194, m_put⟩ (
  lkp_c (P := OkP 287) ⟨(PuOK.ok (ok_aload_n dX4_init_197 rfl)), m_aload⟩ (
  lkp_c (P := OkP 287) ⟨(PuOK.ok (ok_bipush dX4_init_198 rfl)), m_push⟩ (
  lkp_c (P := OkP 287) ⟨ok_newa (by decide) rfl q224 dX4_init_200, m_newa⟩ (
  lkp_c (P := OkP 287) ⟨ok_putF q3098 rfl rfl rfl fd_166 rfl dX4_init_202, m_put⟩ (
  lkp_c (P := OkP 287) ⟨(PuOK.ok (ok_aload_n dX4_init_205 rfl)), m_aload⟩ (
  lkp_c (P := OkP 287) ⟨(PuOK.ok (ok_bipush dX4_init_206 rfl)), m_push⟩ (
  lkp_c (P := OkP 287) ⟨ok_newa (by decide) rfl q224 dX4_init_208, m_newa⟩ (
  lkp_c (P := OkP 287) ⟨ok_putF q3099 rfl rfl rfl fd_167 rfl dX4_init_210, m_put⟩ (
  lkp_c (P := OkP 287) ⟨(PuOK.ok (ok_aload_n dX4_init_213 rfl)), m_aload⟩ (
  lkp_c (P := OkP 287) ⟨(PuOK.ok (ok_bipush dX4_init_214 rfl)), m_push⟩ (
  lkp_c (P := OkP 287) ⟨ok_newa (by decide) rfl q224 dX4_init_216, m_newa⟩ (
  lkp_c (P := OkP 287) ⟨ok_putF q3100 rfl rfl rfl fd_168 rfl dX4_init_218, m_put⟩ (
  lkp_c (P := OkP 287) ⟨(PuOK.ok (ok_aload_n dX4_init_221 rfl)), m_aload⟩ (
  lkp_c (P := OkP 287) ⟨(PuOK.ok (ok_bipush dX4_init_222 rfl)), m_push⟩ (
  lkp_c (P := OkP 287) ⟨ok_newa (by decide) rfl q224 dX4_init_224, m_newa⟩ (
  lkp_c (P := OkP 287) ⟨ok_putF q3101 rfl rfl rfl fd_169 rfl dX4_init_226, m_put⟩ (
  lkp_c (P := OkP 287) ⟨(PuOK.ok (ok_aload_n dX4_init_229 rfl)), m_aload⟩ (
  lkp_c (P := OkP 287) ⟨(PuOK.ok (ok_bipush dX4_init_230 rfl)), m_push⟩ (
  lkp_c (P := OkP 287) ⟨ok_newa (by decide) rfl q224 dX4_init_232, m_newa⟩ (
  lkp_c (P := OkP 287) ⟨ok_putF q3102 rfl rfl rfl fd_170 rfl dX4_init_234, m_put⟩ (
  lkp_c (P := OkP 287) ⟨(PuOK.ok (ok_aload_n dX4_init_237 rfl)), m_aload⟩ (
  lkp_c (P := OkP 287) ⟨(PuOK.ok (ok_bipush dX4_init_238 rfl)), m_push⟩ (
  lkp_c (P := OkP 287) ⟨ok_newa (by decide) rfl q224 dX4_init_240, m_newa⟩ (
  lkp_c (P := OkP 287) ⟨ok_putF q3103 rfl rfl rfl fd_171 rfl dX4_init_242, m_put⟩ (
  lkp_c (P := OkP 287) ⟨(PuOK.ok (ok_aload_n dX4_init_245 rfl)), m_aload⟩ (
  lkp_c (P := OkP 287) ⟨(PuOK.ok (ok_bipush dX4_init_246 rfl)), m_push⟩ (
  lkp_c (P := OkP 287) ⟨ok_newa (by decide) rfl q224 dX4_init_248, m_newa⟩ (
  lkp_c (P := OkP 287) ⟨ok_putF q3109 rfl rfl rfl fd_177 rfl dX4_init_250, m_put⟩ (
  lkp_c (P := OkP 287) ⟨(PuOK.ok (ok_aload_n dX4_init_253 rfl)), m_aload⟩ (
  lkp_c (P := OkP 287) ⟨(PuOK.ok (ok_bipush dX4_init_254 rfl)), m_push⟩ (
  trivial)))))))))))))))))))))))))))))))))
theorem c_287_4 : LkP (OkP 287) [(256, o_newa 0 2), (258, o_put 178 0), (261, o_aload 0 1), (262, o_push 2 (.int 121)), (264, o_newa 0 2), (266, o_put 179 0), (269, o_aload 0 1), (270, o_push 2 (.int 120)), (272, o_newa 0 2), (274, o_put 180 0), (277, o_aload 0 1), (278, o_push 2 (.int 120)), (280, o_newa 0 2), (282, o_put 181 0), (285, o_aload 0 1), (286, o_push 3 (.int 900)), (289, o_newa 0 2), (291, o_put 182 0), (294, o_aload 0 1), (295, o_push 3 (.int 900)), (298, o_newa 2 2), (300, o_put 183 0), (303, o_aload 0 1), (304, o_cv [(30, 288)] 0 3 true none), (307, o_vret)] := lkp_c (P := OkP 287) ⟨ok_newa (by decide) rfl q224 dX4_init_256, m_newa⟩ (
  lkp_c (P := OkP 287) ⟨ok_putF q3110 rfl rfl rfl fd_178 rfl dX4_init_258, m_put⟩ (
  lkp_c (P := OkP 287) ⟨(PuOK.ok (ok_aload_n dX4_init_261 rfl)), m_aload⟩ (
  lkp_c (P := OkP 287) ⟨(PuOK.ok (ok_bipush dX4_init_262 rfl)), m_push⟩ (
  lkp_c (P := OkP 287) ⟨ok_newa (by decide) rfl q224 dX4_init_264, m_newa⟩ (
  lkp_c (P := OkP 287) ⟨ok_putF q3111 rfl rfl rfl fd_179 rfl dX4_init_266, m_put⟩ (
  lkp_c (P := OkP 287) ⟨(PuOK.ok (ok_aload_n dX4_init_269 rfl)), m_aload⟩ (
  lkp_c (P := OkP 287) ⟨(PuOK.ok (ok_bipush dX4_init_270 rfl)), m_push⟩ (
  lkp_c (P := OkP 287) ⟨ok_newa (by decide) rfl q224 dX4_init_272, m_newa⟩ (
  lkp_c (P := OkP 287) ⟨ok_putF q3112 rfl rfl rfl fd_180 rfl dX4_init_274, m_put⟩ (
  lkp_c (P := OkP 287) ⟨(PuOK.ok (ok_aload_n dX4_init_277 rfl)), m_aload⟩ (
  lkp_c (P := OkP 287) ⟨(PuOK.ok (ok_bipush dX4_init_278 rfl)), m_push⟩ (
  lkp_c (P := OkP 287) ⟨ok_newa (by decide) rfl q224 dX4_init_280, m_newa⟩ (
  lkp_c (P := OkP 287) ⟨ok_putF q3113 rfl rfl rfl fd_181 rfl dX4_init_282, m_put⟩ (
  lkp_c (P := OkP 287) ⟨(PuOK.ok (ok_aload_n dX4_init_285 rfl)), m_aload⟩ (
  lkp_c (P := OkP 287) ⟨(PuOK.ok (ok_sipush dX4_init_286 rfl)), m_push⟩ (
  lkp_c (P := OkP 287) ⟨ok_newa (by decide) rfl q224 dX4_init_289, m_newa⟩ (
  lkp_c (P := OkP 287) ⟨ok_putF q3114 rfl rfl rfl fd_182 rfl dX4_init_291, m_put⟩ (
  lkp_c (P := OkP 287) ⟨(PuOK.ok (ok_aload_n dX4_init_294 rfl)), m_aload⟩ (
  lkp_c (P := OkP 287) ⟨(PuOK.ok (ok_sipush dX4_init_295 rfl)), m_push⟩ (
  lkp_c (P := OkP 287) ⟨ok_newa (by decide) rfl q2755 dX4_init_298, m_newa⟩ (
  lkp_c (P := OkP 287) ⟨ok_putF q3115 rfl rfl rfl fd_183 rfl dX4_init_300, m_put⟩ (
  lkp_c (P := OkP 287) ⟨(PuOK.ok (ok_aload_n dX4_init_303 rfl)), m_aload⟩ (
  lkp_c (P := OkP 287) ⟨ok_cv (List.forall_mem_cons.mpr ⟨tg_V (ci := 30) (r := CLr 30) (y := 288) rfl ⟨rfl, by decide⟩ rfl q3076 q3078 qs41 q139 q3079 ⟨cn_34.1, cn_34.2, pd_0⟩ dX4_init_304, (List.forall_mem_nil _)⟩) hd_no, m_cv⟩ (
  lkp_c (P := OkP 287) ⟨ok_vret rfl dX4_init_307, m_vret⟩ (
  trivial)))))))))))))))))))))))))
theorem mt_287 : MtOK TB NT IT 287 := ⟨by decide +kernel, rfl, fun _ => rfl, Or.inl ⟨rfl, rfl⟩, rfl, by decide, lk2_all (P := OkP 287) ⟨c_287_0, c_287_1, c_287_2, c_287_3, c_287_4, trivial⟩⟩
def dkwX4_clear_2 : List UInt8 := [167, 255, 233, 177]
abbrev dktX4_clear_2 : List UInt8 := dkwX4_clear_2 ++ []
def dkwX4_clear_1 : List UInt8 := [27, 16, 8, 162, 0, 23, 42, 180, 0, 7, 3, 27, 96, 42, 180, 0, 23, 27, 46, 79, 132, 1, 1]
abbrev dktX4_clear_1 : List UInt8 := dkwX4_clear_1 ++ dktX4_clear_2
def dkwX4_clear_0 : List UInt8 := [3, 60, 27, 17, 12, 28, 162, 0, 16, 42, 180, 0, 7, 27, 3, 79, 132, 1, 1, 167, 255, 239, 3, 60]
abbrev dktX4_clear_0 : List UInt8 := dkwX4_clear_0 ++ dktX4_clear_1
theorem dksX4_clear_0 : cX4_clear.data.toList.drop 0 = dktX4_clear_0 := by decide +kernel
theorem dksX4_clear_1 : cX4_clear.data.toList.drop 24 = dktX4_clear_1 := dk_seg dksX4_clear_0 24 rfl rfl
theorem dksX4_clear_2 : cX4_clear.data.toList.drop 47 = dktX4_clear_2 := dk_seg dksX4_clear_1 23 rfl rfl
theorem dX4_clear_0 : decode cX4_clear 0 = .ok (.iconst 0, 1) := dk_3 (dk_at dksX4_clear_0 0 rfl rfl)
theorem dX4_clear_1 : decode cX4_clear 1 = .ok (.istore_n 1, 1) := dk_60 (dk_at dksX4_clear_0 1 rfl rfl)
theorem dX4_clear_2 : decode cX4_clear 2 = .ok (.iload_n 1, 1) := dk_27 (dk_at dksX4_clear_0 2 rfl rfl)
theorem dX4_clear_3 : decode cX4_clear 3 = .ok (.sipush 3100, 3) := dk_17 12 28 (dk_at dksX4_clear_0 3 rfl rfl)
theorem dX4_clear_6 : decode cX4_clear 6 = .ok (.if_icmp .ge 16, 3) := dk_162 0 16 (dk_at dksX4_clear_0 6 rfl rfl)
theorem dX4_clear_9 : decode cX4_clear 9 = .ok (.aload_n 0, 1) := dk_42 (dk_at dksX4_clear_0 9 rfl rfl)
theorem dX4_clear_10 : decode cX4_clear 10 = .ok (.getfield 7, 3) := dk_180 0 7 (dk_at dksX4_clear_0 10 rfl rfl)
theorem dX4_clear_13 : decode cX4_clear 13 = .ok (.iload_n 1, 1) := dk_27 (dk_at dksX4_clear_0 13 rfl rfl)
theorem dX4_clear_14 : decode cX4_clear 14 = .ok (.iconst 0, 1) := dk_3 (dk_at dksX4_clear_0 14 rfl rfl)
theorem dX4_clear_15 : decode cX4_clear 15 = .ok (.iastore, 1) := dk_79 (dk_at dksX4_clear_0 15 rfl rfl)
theorem dX4_clear_16 : decode cX4_clear 16 = .ok (.iinc 1 1, 3) := dk_132 1 1 (dk_at dksX4_clear_0 16 rfl rfl)
theorem dX4_clear_19 : decode cX4_clear 19 = .ok (.goto (-17), 3) := dk_167 255 239 (dk_at dksX4_clear_0 19 rfl rfl)
theorem dX4_clear_22 : decode cX4_clear 22 = .ok (.iconst 0, 1) := dk_3 (dk_at dksX4_clear_0 22 rfl rfl)
theorem dX4_clear_23 : decode cX4_clear 23 = .ok (.istore_n 1, 1) := dk_60 (dk_at dksX4_clear_0 23 rfl rfl)
theorem dX4_clear_24 : decode cX4_clear 24 = .ok (.iload_n 1, 1) := dk_27 (dk_at dksX4_clear_1 0 rfl rfl)
theorem dX4_clear_25 : decode cX4_clear 25 = .ok (.bipush 8, 2) := dk_16 8 (dk_at dksX4_clear_1 1 rfl rfl)
theorem dX4_clear_27 : decode cX4_clear 27 = .ok (.if_icmp .ge 23, 3) := dk_162 0 23 (dk_at dksX4_clear_1 3 rfl rfl)
theorem dX4_clear_30 : decode cX4_clear 30 = .ok (.aload_n 0, 1) := dk_42 (dk_at dksX4_clear_1 6 rfl rfl)
theorem dX4_clear_31 : decode cX4_clear 31 = .ok (.getfield 7, 3) := dk_180 0 7 (dk_at dksX4_clear_1 7 rfl rfl)
theorem dX4_clear_34 : decode cX4_clear 34 = .ok (.iconst 0, 1) := dk_3 (dk_at dksX4_clear_1 10 rfl rfl)
theorem dX4_clear_35 : decode cX4_clear 35 = .ok (.iload_n 1, 1) := dk_27 (dk_at dksX4_clear_1 11 rfl rfl)
theorem dX4_clear_36 : decode cX4_clear 36 = .ok (.iadd, 1) := dk_96 (dk_at dksX4_clear_1 12 rfl rfl)
theorem dX4_clear_37 : decode cX4_clear 37 = .ok (.aload_n 0, 1) := dk_42 (dk_at dksX4_clear_1 13 rfl rfl)
theorem dX4_clear_38 : decode cX4_clear 38 = .ok (.getfield 23, 3) := dk_180 0 23 (dk_at dksX4_clear_1 14 rfl rfl)
theorem dX4_clear_41 : decode cX4_clear 41 = .ok (.iload_n 1, 1) := dk_27 (dk_at dksX4_clear_1 17 rfl rfl)
theorem dX4_clear_42 : decode cX4_clear 42 = .ok (.iaload, 1) := dk_46 (dk_at dksX4_clear_1 18 rfl rfl)
theorem dX4_clear_43 : decode cX4_clear 43 = .ok (.iastore, 1) := dk_79 (dk_at dksX4_clear_1 19 rfl rfl)
theorem dX4_clear_44 : decode cX4_clear 44 = .ok (.iinc 1 1, 3) := dk_132 1 1 (dk_at dksX4_clear_1 20 rfl rfl)
theorem dX4_clear_47 : decode cX4_clear 47 = .ok (.goto (-23), 3) := dk_167 255 233 (dk_at dksX4_clear_2 0 rfl rfl)
theorem dX4_clear_50 : decode cX4_clear 50 = .ok (.return_, 1) := dk_177 (dk_at dksX4_clear_2 3 rfl rfl)
theorem c_288_0 : LkP (OkP 288) [(0, o_push 1 (.int 0)), (1, o_istore 1 1), (2, o_iload 1 1), (3, o_push 3 (.int 3100)), (6, o_icmp (fun x y => decide (y ≤ x)) 22), (9, o_aload 0 1), (10, o_get 148), (13, o_iload 1 1), (14, o_push 1 (.int 0)), (15, o_wrI 0), (16, o_iinc 1 1), (19, o_goto 2), (22, o_push 1 (.int 0)), (23, o_istore 1 1), (24, o_iload 1 1), (25, o_push 2 (.int 8)), (27, o_icmp (fun x y => decide (y ≤ x)) 50), (30, o_aload 0 1), (31, o_get 148), (34, o_push 1 (.int 0)), (35, o_iload 1 1), (36, o_iop (fun x y => x + y)), (37, o_aload 0 1), (38, o_get 152), (41, o_iload 1 1), (42, o_rdI 0), (43, o_wrI 0), (44, o_iinc 1 1), (47, o_goto 24), (50, o_vret)] := lkp_c (P := OkP 288) ⟨(PuOK.ok (ok_iconst dX4_clear_0 rfl)), m_push⟩ (
  lkp_c (P := OkP 288) ⟨(PuOK.ok (ok_istore_n dX4_clear_1 rfl)), m_istore⟩ (
  lkp_c (P := OkP 288) ⟨(PuOK.ok (ok_iload_n dX4_clear_2 rfl)), m_iload⟩ (
  lkp_c (P := OkP 288) ⟨(PuOK.ok (ok_sipush dX4_clear_3 rfl)), m_push⟩ (
  lkp_c (P := OkP 288) ⟨(PuOK.ok (ok_icmp_ge dX4_clear_6 rfl)), m_icmp⟩ (
  lkp_c (P := OkP 288) ⟨(PuOK.ok (ok_aload_n dX4_clear_9 rfl)), m_aload⟩ (
  lkp_c (P := OkP 288) ⟨ok_get ⟨"TollRoadModel", q3080, Or.inl rfl⟩ dX4_clear_10, m_get⟩ (
  lkp_c (P := OkP 288) ⟨(PuOK.ok (ok_iload_n dX4_clear_13 rfl)), m_iload⟩ (
  lkp_c (P := OkP 288) ⟨(PuOK.ok (ok_iconst dX4_clear_14 rfl)), m_push⟩ (
  lkp_c (P := OkP 288) ⟨ok_iast dX4_clear_15, m_wrI⟩ (
  lkp_c (P := OkP 288) ⟨(PuOK.ok (ok_iinc dX4_clear_16 rfl)), m_iinc⟩ (
  lkp_c (P := OkP 288) ⟨(PuOK.ok (ok_goto dX4_clear_19 rfl)), m_goto⟩ (
  lkp_c (P := OkP 288) ⟨(PuOK.ok (ok_iconst dX4_clear_22 rfl)), m_push⟩ (
  lkp_c (P := OkP 288) ⟨(PuOK.ok (ok_istore_n dX4_clear_23 rfl)), m_istore⟩ (
  lkp_c (P := OkP 288) ⟨(PuOK.ok (ok_iload_n dX4_clear_24 rfl)), m_iload⟩ (
  lkp_c (P := OkP 288) ⟨(PuOK.ok (ok_bipush dX4_clear_25 rfl)), m_push⟩ (
  lkp_c (P := OkP 288) ⟨(PuOK.ok (ok_icmp_ge dX4_clear_27 rfl)), m_icmp⟩ (
  lkp_c (P := OkP 288) ⟨(PuOK.ok (ok_aload_n dX4_clear_30 rfl)), m_aload⟩ (
  lkp_c (P := OkP 288) ⟨ok_get ⟨"TollRoadModel", q3080, Or.inl rfl⟩ dX4_clear_31, m_get⟩ (
  lkp_c (P := OkP 288) ⟨(PuOK.ok (ok_iconst dX4_clear_34 rfl)), m_push⟩ (
  lkp_c (P := OkP 288) ⟨(PuOK.ok (ok_iload_n dX4_clear_35 rfl)), m_iload⟩ (
  lkp_c (P := OkP 288) ⟨(PuOK.ok (ok_iadd dX4_clear_36)), m_iop⟩ (
  lkp_c (P := OkP 288) ⟨(PuOK.ok (ok_aload_n dX4_clear_37 rfl)), m_aload⟩ (
  lkp_c (P := OkP 288) ⟨ok_get ⟨"TollRoadModel", q3084, Or.inl rfl⟩ dX4_clear_38, m_get⟩ (
  lkp_c (P := OkP 288) ⟨(PuOK.ok (ok_iload_n dX4_clear_41 rfl)), m_iload⟩ (
  lkp_c (P := OkP 288) ⟨ok_iald dX4_clear_42, m_rdI⟩ (
  lkp_c (P := OkP 288) ⟨ok_iast dX4_clear_43, m_wrI⟩ (
  lkp_c (P := OkP 288) ⟨(PuOK.ok (ok_iinc dX4_clear_44 rfl)), m_iinc⟩ (
  lkp_c (P := OkP 288) ⟨(PuOK.ok (ok_goto dX4_clear_47 rfl)), m_goto⟩ (
  lkp_c (P := OkP 288) ⟨ok_vret rfl dX4_clear_50, m_vret⟩ (
  trivial))))))))))))))))))))))))))))))
theorem mt_288 : MtOK TB NT IT 288 := ⟨by decide +kernel, rfl, (fun h => by cases h), Or.inl ⟨rfl, rfl⟩, rfl, by decide, lk2_all (P := OkP 288) ⟨c_288_0, trivial⟩⟩
theorem dX4_thrown_0 : decode cX4_thrown 0 = .ok (.aload_n 0, 1) := by decide +kernel
theorem dX4_thrown_1 : decode cX4_thrown 1 = .ok (.getfield 81, 3) := by decide +kernel
theorem dX4_thrown_4 : decode cX4_thrown 4 = .ok (.ireturn, 1) := by decide +kernel
theorem c_289_0 : LkP (OkP 289) [(0, o_aload 0 1), (1, o_get 155), (4, o_ret 1)] := lkp_c (P := OkP 289) ⟨(PuOK.ok (ok_aload_n dX4_thrown_0 rfl)), m_aload⟩ (
  lkp_c (P := OkP 289) ⟨ok_get ⟨"TollRoadModel", q3087, Or.inl rfl⟩ dX4_thrown_1, m_get⟩ (
  lkp_c (P := OkP 289) ⟨ok_iret rfl rfl (by decide) dX4_thrown_4, m_ret⟩ (
  trivial)))
theorem mt_289 : MtOK TB NT IT 289 := ⟨by decide +kernel, rfl, (fun h => by cases h), Or.inl ⟨rfl, rfl⟩, rfl, by decide, lk2_all (P := OkP 289) ⟨c_289_0, trivial⟩⟩
def dkwX4_appendText_2 : List UInt8 := [89, 180, 0, 84, 4, 96, 181, 0, 84, 132, 2, 248, 167, 255, 223, 42, 180, 0, 84, 172]
abbrev dktX4_appendText_2 : List UInt8 := dkwX4_appendText_2 ++ []
def dkwX4_appendText_1 : List UInt8 := [16, 24, 61, 28, 155, 0, 35, 42, 180, 0, 32, 42, 180, 0, 84, 27, 28, 122, 17, 0, 255, 126, 79, 42]
abbrev dktX4_appendText_1 : List UInt8 := dkwX4_appendText_1 ++ dktX4_appendText_2
def dkwX4_appendText_0 : List UInt8 := [42, 3, 181, 0, 81, 42, 180, 0, 84, 7, 96, 17, 2, 188, 164, 0, 9, 42, 4, 182, 0, 87, 172]
abbrev dktX4_appendText_0 : List UInt8 := dkwX4_appendText_0 ++ dktX4_appendText_1
theorem dksX4_appendText_0 : cX4_appendText.data.toList.drop 0 = dktX4_appendText_0 := by decide +kernel
theorem dksX4_appendText_1 : cX4_appendText.data.toList.drop 23 = dktX4_appendText_1 := dk_seg dksX4_appendText_0 23 rfl rfl
theorem dksX4_appendText_2 : cX4_appendText.data.toList.drop 47 = dktX4_appendText_2 := dk_seg dksX4_appendText_1 24 rfl rfl
theorem dX4_appendText_0 : decode cX4_appendText 0 = .ok (.aload_n 0, 1) := dk_42 (dk_at dksX4_appendText_0 0 rfl rfl)
theorem dX4_appendText_1 : decode cX4_appendText 1 = .ok (.iconst 0, 1) := dk_3 (dk_at dksX4_appendText_0 1 rfl rfl)
theorem dX4_appendText_2 : decode cX4_appendText 2 = .ok (.putfield 81, 3) := dk_181 0 81 (dk_at dksX4_appendText_0 2 rfl rfl)
theorem dX4_appendText_5 : decode cX4_appendText 5 = .ok (.aload_n 0, 1) := dk_42 (dk_at dksX4_appendText_0 5 rfl rfl)
theorem dX4_appendText_6 : decode cX4_appendText 6 = .ok (.getfield 84, 3) := dk_180 0 84 (dk_at dksX4_appendText_0 6 rfl rfl)
theorem dX4_appendText_9 : decode cX4_appendText 9 = .ok (.iconst 4, 1) := dk_7 (dk_at dksX4_appendText_0 9 rfl rfl)
theorem dX4_appendText_10 : decode cX4_appendText 10 = .ok (.iadd, 1) := dk_96 (dk_at dksX4_appendText_0 10 rfl rfl)
theorem dX4_appendText_11 : decode cX4_appendText 11 = .ok (.sipush 700, 3) := dk_17 2 188 (dk_at dksX4_appendText_0 11 rfl rfl)
theorem dX4_appendText_14 : decode cX4_appendText 14 = .ok (.if_icmp .le 9, 3) := dk_164 0 9 (dk_at dksX4_appendText_0 14 rfl rfl)
theorem dX4_appendText_17 : decode cX4_appendText 17 = .ok (.aload_n 0, 1) := dk_42 (dk_at dksX4_appendText_0 17 rfl rfl)
theorem dX4_appendText_18 : decode cX4_appendText 18 = .ok (.iconst 1, 1) := dk_4 (dk_at dksX4_appendText_0 18 rfl rfl)
theorem dX4_appendText_19 : decode cX4_appendText 19 = .ok (.invokevirtual 87, 3) := dk_182 0 87 (dk_at dksX4_appendText_0 19 rfl rfl)
theorem dX4_appendText_22 : decode cX4_appendText 22 = .ok (.ireturn, 1) := dk_172 (dk_at dksX4_appendText_0 22 rfl rfl)
theorem dX4_appendText_23 : decode cX4_appendText 23 = .ok (.bipush 24, 2) := dk_16 24 (dk_at dksX4_appendText_1 0 rfl rfl)
theorem dX4_appendText_25 : decode cX4_appendText 25 = .ok (.istore_n 2, 1) := dk_61 (dk_at dksX4_appendText_1 2 rfl rfl)
theorem dX4_appendText_26 : decode cX4_appendText 26 = .ok (.iload_n 2, 1) := dk_28 (dk_at dksX4_appendText_1 3 rfl rfl)
theorem dX4_appendText_27 : decode cX4_appendText 27 = .ok (.ifCond .lt 35, 3) := dk_155 0 35 (dk_at dksX4_appendText_1 4 rfl rfl)
theorem dX4_appendText_30 : decode cX4_appendText 30 = .ok (.aload_n 0, 1) := dk_42 (dk_at dksX4_appendText_1 7 rfl rfl)
theorem dX4_appendText_31 : decode cX4_appendText 31 = .ok (.getfield 32, 3) := dk_180 0 32 (dk_at dksX4_appendText_1 8 rfl rfl)
theorem dX4_appendText_34 : decode cX4_appendText 34 = .ok (.aload_n 0, 1) := dk_42 (dk_at dksX4_appendText_1 11 rfl rfl)
theorem dX4_appendText_35 : decode cX4_appendText 35 = .ok (.getfield 84, 3) := dk_180 0 84 (dk_at dksX4_appendText_1 12 rfl rfl)
theorem dX4_appendText_38 : decode cX4_appendText 38 = .ok (.iload_n 1, 1) := dk_27 (dk_at dksX4_appendText_1 15 rfl rfl)
theorem dX4_appendText_39 : decode cX4_appendText 39 = .ok (.iload_n 2, 1) := dk_28 (dk_at dksX4_appendText_1 16 rfl rfl)
theorem dX4_appendText_40 : decode cX4_appendText 40 = .ok (.ishr, 1) := dk_122 (dk_at dksX4_appendText_1 17 rfl rfl)
theorem dX4_appendText_41 : decode cX4_appendText 41 = .ok (.sipush 255, 3) := dk_17 0 255 (dk_at dksX4_appendText_1 18 rfl rfl)
theorem dX4_appendText_44 : decode cX4_appendText 44 = .ok (.iand, 1) := dk_126 (dk_at dksX4_appendText_1 21 rfl rfl)
theorem dX4_appendText_45 : decode cX4_appendText 45 = .ok (.iastore, 1) := dk_79 (dk_at dksX4_appendText_1 22 rfl rfl)
theorem dX4_appendText_46 : decode cX4_appendText 46 = .ok (.aload_n 0, 1) := dk_42 (dk_at dksX4_appendText_1 23 rfl rfl)
theorem dX4_appendText_47 : decode cX4_appendText 47 = .ok (.dup, 1) := dk_89 (dk_at dksX4_appendText_2 0 rfl rfl)
theorem dX4_appendText_48 : decode cX4_appendText 48 = .ok (.getfield 84, 3) := dk_180 0 84 (dk_at dksX4_appendText_2 1 rfl rfl)
theorem dX4_appendText_51 : decode cX4_appendText 51 = .ok (.iconst 1, 1) := dk_4 (dk_at dksX4_appendText_2 4 rfl rfl)
theorem dX4_appendText_52 : decode cX4_appendText 52 = .ok (.iadd, 1) := dk_96 (dk_at dksX4_appendText_2 5 rfl rfl)
theorem dX4_appendText_53 : decode cX4_appendText 53 = .ok (.putfield 84, 3) := dk_181 0 84 (dk_at dksX4_appendText_2 6 rfl rfl)
theorem dX4_appendText_56 : decode cX4_appendText 56 = .ok (.iinc 2 (-8), 3) := dk_132 2 248 (dk_at dksX4_appendText_2 9 rfl rfl)
theorem dX4_appendText_59 : decode cX4_appendText 59 = .ok (.goto (-33), 3) := dk_167 255 223 (dk_at dksX4_appendText_2 12 rfl rfl)
theorem dX4_appendText_62 : decode cX4_appendText 62 = .ok (.aload_n 0, 1) := dk_42 (dk_at dksX4_appendText_2 15 rfl rfl)
theorem dX4_appendText_63 : decode cX4_appendText 63 = .ok (.getfield 84, 3) := dk_180 0 84 (dk_at dksX4_appendText_2 16 rfl rfl)
theorem dX4_appendText_66 : decode cX4_appendText 66 = .ok (.ireturn, 1) := dk_172 (dk_at dksX4_appendText_2 19 rfl rfl)
theorem c_290_0 : LkP (OkP 290) [(0, o_aload 0 1), (1, o_push 1 (.int 0)), (2, o_put 155 1), (5, o_aload 0 1), (6, o_get 157), (9, o_push 1 (.int 4)), (10, o_iop (fun x y => x + y)), (11, o_push 3 (.int 700)), (14, o_icmp (fun x y => decide (x ≤ y)) 23), (17, o_aload 0 1), (18, o_push 1 (.int 1)), (19, o_cv [(30, 291)] 1 3 false none), (22, o_ret 1), (23, o_push 2 (.int 24)), (25, o_istore 2 1), (26, o_iload 2 1), (27, o_if (fun x => decide (x < 0)) 62), (30, o_aload 0 1), (31, o_get 156), (34, o_aload 0 1), (35, o_get 157), (38, o_iload 1 1), (39, o_iload 2 1), (40, o_iop (fun x y => x >>> (y &&& 31))), (41, o_push 3 (.int 255)), (44, o_iop (fun x y => x &&& y)), (45, o_wrI 0), (46, o_aload 0 1), (47, o_dup), (48, o_get 157), (51, o_push 1 (.int 1)), (52, o_iop (fun x y => x + y)), (53, o_put 157 1), (56, o_iinc 2 (-8)), (59, o_goto 26), (62, o_aload 0 1), (63, o_get 157)] := lkp_c (P := OkP 290) ⟨(PuOK.ok (ok_aload_n dX4_appendText_0 rfl)), m_aload⟩ (
  lkp_c (P := OkP 290) ⟨(PuOK.ok (ok_iconst dX4_appendText_1 rfl)), m_push⟩ (
  lkp_c (P := OkP 290) ⟨ok_put ⟨"TollRoadModel", q3087, Or.inl rfl⟩ rfl fd_155 rfl dX4_appendText_2, m_put⟩ (
  lkp_c (P := OkP 290) ⟨(PuOK.ok (ok_aload_n dX4_appendText_5 rfl)), m_aload⟩ (
  lkp_c (P := OkP 290) ⟨ok_get ⟨"TollRoadModel", q3089, Or.inl rfl⟩ dX4_appendText_6, m_get⟩ (
  lkp_c (P := OkP 290) ⟨(PuOK.ok (ok_iconst dX4_appendText_9 rfl)), m_push⟩ (
  lkp_c (P := OkP 290) ⟨(PuOK.ok (ok_iadd dX4_appendText_10)), m_iop⟩ (
  lkp_c (P := OkP 290) ⟨(PuOK.ok (ok_sipush dX4_appendText_11 rfl)), m_push⟩ (
  lkp_c (P := OkP 290) ⟨(PuOK.ok (ok_icmp_le dX4_appendText_14 rfl)), m_icmp⟩ (
  lkp_c (P := OkP 290) ⟨(PuOK.ok (ok_aload_n dX4_appendText_17 rfl)), m_aload⟩ (
  lkp_c (P := OkP 290) ⟨(PuOK.ok (ok_iconst dX4_appendText_18 rfl)), m_push⟩ (
  lkp_c (P := OkP 290) ⟨ok_cv (List.forall_mem_cons.mpr ⟨tg_V (ci := 30) (r := CLr 30) (y := 291) rfl ⟨rfl, by decide⟩ rfl q3206 q3208 qs42 q139 q3209 ⟨cn_34.1, cn_34.2, pd_48⟩ dX4_appendText_19, (List.forall_mem_nil _)⟩) hd_no, m_cv⟩ (
  lkp_c (P := OkP 290) ⟨ok_iret rfl rfl (by decide) dX4_appendText_22, m_ret⟩ (
  lkp_c (P := OkP 290) ⟨(PuOK.ok (ok_bipush dX4_appendText_23 rfl)), m_push⟩ (
  lkp_c (P := OkP 290) ⟨(PuOK.ok (ok_istore_n dX4_appendText_25 rfl)), m_istore⟩ (
  lkp_c (P := OkP 290) ⟨(PuOK.ok (ok_iload_n dX4_appendText_26 rfl)), m_iload⟩ (
  lkp_c (P := OkP 290) ⟨(PuOK.ok (ok_if_lt dX4_appendText_27 rfl)), m_if⟩ (
  lkp_c (P := OkP 290) ⟨(PuOK.ok (ok_aload_n dX4_appendText_30 rfl)), m_aload⟩ (
  lkp_c (P := OkP 290) ⟨ok_get ⟨"TollRoadModel", q3088, Or.inl rfl⟩ dX4_appendText_31, m_get⟩ (
  lkp_c (P := OkP 290) ⟨(PuOK.ok (ok_aload_n dX4_appendText_34 rfl)), m_aload⟩ (
  lkp_c (P := OkP 290) ⟨ok_get ⟨"TollRoadModel", q3089, Or.inl rfl⟩ dX4_appendText_35, m_get⟩ (
  lkp_c (P := OkP 290) ⟨(PuOK.ok (ok_iload_n dX4_appendText_38 rfl)), m_iload⟩ (
  lkp_c (P := OkP 290) ⟨(PuOK.ok (ok_iload_n dX4_appendText_39 rfl)), m_iload⟩ (
  lkp_c (P := OkP 290) ⟨(PuOK.ok (ok_ishr dX4_appendText_40)), m_iop⟩ (
  lkp_c (P := OkP 290) ⟨(PuOK.ok (ok_sipush dX4_appendText_41 rfl)), m_push⟩ (
  lkp_c (P := OkP 290) ⟨(PuOK.ok (ok_iand dX4_appendText_44)), m_iop⟩ (
  lkp_c (P := OkP 290) ⟨ok_iast dX4_appendText_45, m_wrI⟩ (
  lkp_c (P := OkP 290) ⟨(PuOK.ok (ok_aload_n dX4_appendText_46 rfl)), m_aload⟩ (
  lkp_c (P := OkP 290) ⟨(PuOK.ok (ok_dup dX4_appendText_47)), m_dup⟩ (
  lkp_c (P := OkP 290) ⟨ok_get ⟨"TollRoadModel", q3089, Or.inl rfl⟩ dX4_appendText_48, m_get⟩ (
  lkp_c (P := OkP 290) ⟨(PuOK.ok (ok_iconst dX4_appendText_51 rfl)), m_push⟩ (
  lkp_c (P := OkP 290) ⟨(PuOK.ok (ok_iadd dX4_appendText_52)), m_iop⟩ (
  lkp_c (P := OkP 290) ⟨ok_put ⟨"TollRoadModel", q3089, Or.inl rfl⟩ rfl fd_157 rfl dX4_appendText_53, m_put⟩ (
  lkp_c (P := OkP 290) ⟨(PuOK.ok (ok_iinc dX4_appendText_56 rfl)), m_iinc⟩ (
  lkp_c (P := OkP 290) ⟨(PuOK.ok (ok_goto dX4_appendText_59 rfl)), m_goto⟩ (
  lkp_c (P := OkP 290) ⟨(PuOK.ok (ok_aload_n dX4_appendText_62 rfl)), m_aload⟩ (
  lkp_c (P := OkP 290) ⟨ok_get ⟨"TollRoadModel", q3089, Or.inl rfl⟩ dX4_appendText_63, m_get⟩ (
  trivial)))))))))))))))))))))))))))))))))))))
theorem c_290_1 : LkP (OkP 290) [(66, o_ret 1)] := lkp_c (P := OkP 290) ⟨ok_iret rfl rfl (by decide) dX4_appendText_66, m_ret⟩ (
  trivial)
theorem mt_290 : MtOK TB NT IT 290 := ⟨by decide +kernel, rfl, (fun h => by cases h), Or.inl ⟨rfl, rfl⟩, rfl, by decide, lk2_all (P := OkP 290) ⟨c_290_0, c_290_1, trivial⟩⟩
def dkwX4_fail_0 : List UInt8 := [42, 27, 181, 0, 81, 3, 172]
abbrev dktX4_fail_0 : List UInt8 := dkwX4_fail_0 ++ []
theorem dksX4_fail_0 : cX4_fail.data.toList.drop 0 = dktX4_fail_0 := by decide +kernel
theorem dX4_fail_0 : decode cX4_fail 0 = .ok (.aload_n 0, 1) := dk_42 (dk_at dksX4_fail_0 0 rfl rfl)
theorem dX4_fail_1 : decode cX4_fail 1 = .ok (.iload_n 1, 1) := dk_27 (dk_at dksX4_fail_0 1 rfl rfl)
theorem dX4_fail_2 : decode cX4_fail 2 = .ok (.putfield 81, 3) := dk_181 0 81 (dk_at dksX4_fail_0 2 rfl rfl)
theorem dX4_fail_5 : decode cX4_fail 5 = .ok (.iconst 0, 1) := dk_3 (dk_at dksX4_fail_0 5 rfl rfl)
theorem dX4_fail_6 : decode cX4_fail 6 = .ok (.ireturn, 1) := dk_172 (dk_at dksX4_fail_0 6 rfl rfl)
theorem c_291_0 : LkP (OkP 291) [(0, o_aload 0 1), (1, o_iload 1 1), (2, o_put 155 1), (5, o_push 1 (.int 0)), (6, o_ret 1)] := lkp_c (P := OkP 291) ⟨(PuOK.ok (ok_aload_n dX4_fail_0 rfl)), m_aload⟩ (
  lkp_c (P := OkP 291) ⟨(PuOK.ok (ok_iload_n dX4_fail_1 rfl)), m_iload⟩ (
  lkp_c (P := OkP 291) ⟨ok_put ⟨"TollRoadModel", q3087, Or.inl rfl⟩ rfl fd_155 rfl dX4_fail_2, m_put⟩ (
  lkp_c (P := OkP 291) ⟨(PuOK.ok (ok_iconst dX4_fail_5 rfl)), m_push⟩ (
  lkp_c (P := OkP 291) ⟨ok_iret rfl rfl (by decide) dX4_fail_6, m_ret⟩ (
  trivial)))))
theorem mt_291 : MtOK TB NT IT 291 := ⟨by decide +kernel, rfl, (fun h => by cases h), Or.inl ⟨rfl, rfl⟩, rfl, by decide, lk2_all (P := OkP 291) ⟨c_291_0, trivial⟩⟩
def dkwX4_truncateText_1 : List UInt8 := [27, 181, 0, 84, 42, 180, 0, 84, 172]
abbrev dktX4_truncateText_1 : List UInt8 := dkwX4_truncateText_1 ++ []
def dkwX4_truncateText_0 : List UInt8 := [42, 3, 181, 0, 81, 27, 3, 42, 180, 0, 84, 184, 0, 91, 154, 0, 9, 42, 4, 182, 0, 87, 172, 42]
abbrev dktX4_truncateText_0 : List UInt8 := dkwX4_truncateText_0 ++ dktX4_truncateText_1
theorem dksX4_truncateText_0 : cX4_truncateText.data.toList.drop 0 = dktX4_truncateText_0 := by decide +kernel
theorem dksX4_truncateText_1 : cX4_truncateText.data.toList.drop 24 = dktX4_truncateText_1 := dk_seg dksX4_truncateText_0 24 rfl rfl
theorem dX4_truncateText_0 : decode cX4_truncateText 0 = .ok (.aload_n 0, 1) := dk_42 (dk_at dksX4_truncateText_0 0 rfl rfl)
theorem dX4_truncateText_1 : decode cX4_truncateText 1 = .ok (.iconst 0, 1) := dk_3 (dk_at dksX4_truncateText_0 1 rfl rfl)
theorem dX4_truncateText_2 : decode cX4_truncateText 2 = .ok (.putfield 81, 3) := dk_181 0 81 (dk_at dksX4_truncateText_0 2 rfl rfl)
theorem dX4_truncateText_5 : decode cX4_truncateText 5 = .ok (.iload_n 1, 1) := dk_27 (dk_at dksX4_truncateText_0 5 rfl rfl)
theorem dX4_truncateText_6 : decode cX4_truncateText 6 = .ok (.iconst 0, 1) := dk_3 (dk_at dksX4_truncateText_0 6 rfl rfl)
theorem dX4_truncateText_7 : decode cX4_truncateText 7 = .ok (.aload_n 0, 1) := dk_42 (dk_at dksX4_truncateText_0 7 rfl rfl)
theorem dX4_truncateText_8 : decode cX4_truncateText 8 = .ok (.getfield 84, 3) := dk_180 0 84 (dk_at dksX4_truncateText_0 8 rfl rfl)
theorem dX4_truncateText_11 : decode cX4_truncateText 11 = .ok (.invokestatic 91, 3) := dk_184 0 91 (dk_at dksX4_truncateText_0 11 rfl rfl)
theorem dX4_truncateText_14 : decode cX4_truncateText 14 = .ok (.ifCond .ne 9, 3) := dk_154 0 9 (dk_at dksX4_truncateText_0 14 rfl rfl)
theorem dX4_truncateText_17 : decode cX4_truncateText 17 = .ok (.aload_n 0, 1) := dk_42 (dk_at dksX4_truncateText_0 17 rfl rfl)
theorem dX4_truncateText_18 : decode cX4_truncateText 18 = .ok (.iconst 1, 1) := dk_4 (dk_at dksX4_truncateText_0 18 rfl rfl)
theorem dX4_truncateText_19 : decode cX4_truncateText 19 = .ok (.invokevirtual 87, 3) := dk_182 0 87 (dk_at dksX4_truncateText_0 19 rfl rfl)
theorem dX4_truncateText_22 : decode cX4_truncateText 22 = .ok (.ireturn, 1) := dk_172 (dk_at dksX4_truncateText_0 22 rfl rfl)
theorem dX4_truncateText_23 : decode cX4_truncateText 23 = .ok (.aload_n 0, 1) := dk_42 (dk_at dksX4_truncateText_0 23 rfl rfl)
theorem dX4_truncateText_24 : decode cX4_truncateText 24 = .ok (.iload_n 1, 1) := dk_27 (dk_at dksX4_truncateText_1 0 rfl rfl)
theorem dX4_truncateText_25 : decode cX4_truncateText 25 = .ok (.putfield 84, 3) := dk_181 0 84 (dk_at dksX4_truncateText_1 1 rfl rfl)
theorem dX4_truncateText_28 : decode cX4_truncateText 28 = .ok (.aload_n 0, 1) := dk_42 (dk_at dksX4_truncateText_1 4 rfl rfl)
theorem dX4_truncateText_29 : decode cX4_truncateText 29 = .ok (.getfield 84, 3) := dk_180 0 84 (dk_at dksX4_truncateText_1 5 rfl rfl)
theorem dX4_truncateText_32 : decode cX4_truncateText 32 = .ok (.ireturn, 1) := dk_172 (dk_at dksX4_truncateText_1 8 rfl rfl)
theorem c_292_0 : LkP (OkP 292) [(0, o_aload 0 1), (1, o_push 1 (.int 0)), (2, o_put 155 1), (5, o_iload 1 1), (6, o_push 1 (.int 0)), (7, o_aload 0 1), (8, o_get 157), (11, o_cs 293 3 false none), (14, o_if (fun x => decide (¬ x = 0)) 23), (17, o_aload 0 1), (18, o_push 1 (.int 1)), (19, o_cv [(30, 291)] 1 3 false none), (22, o_ret 1), (23, o_aload 0 1), (24, o_iload 1 1), (25, o_put 157 1), (28, o_aload 0 1), (29, o_get 157), (32, o_ret 1)] := lkp_c (P := OkP 292) ⟨(PuOK.ok (ok_aload_n dX4_truncateText_0 rfl)), m_aload⟩ (
  lkp_c (P := OkP 292) ⟨(PuOK.ok (ok_iconst dX4_truncateText_1 rfl)), m_push⟩ (
  lkp_c (P := OkP 292) ⟨ok_put ⟨"TollRoadModel", q3087, Or.inl rfl⟩ rfl fd_155 rfl dX4_truncateText_2, m_put⟩ (
  lkp_c (P := OkP 292) ⟨(PuOK.ok (ok_iload_n dX4_truncateText_5 rfl)), m_iload⟩ (
  lkp_c (P := OkP 292) ⟨(PuOK.ok (ok_iconst dX4_truncateText_6 rfl)), m_push⟩ (
  lkp_c (P := OkP 292) ⟨(PuOK.ok (ok_aload_n dX4_truncateText_7 rfl)), m_aload⟩ (
  lkp_c (P := OkP 292) ⟨ok_get ⟨"TollRoadModel", q3089, Or.inl rfl⟩ dX4_truncateText_8, m_get⟩ (
  lkp_c (P := OkP 292) ⟨ok_cs (tg_S ⟨rfl, by decide⟩ q3214 q3215 q139 q3216 ⟨cn_34.1, cn_34.2, pd_121⟩ dX4_truncateText_11) hd_no, m_cs⟩ (
  lkp_c (P := OkP 292) ⟨(PuOK.ok (ok_if_ne dX4_truncateText_14 rfl)), m_if⟩ (
  lkp_c (P := OkP 292) ⟨(PuOK.ok (ok_aload_n dX4_truncateText_17 rfl)), m_aload⟩ (
  lkp_c (P := OkP 292) ⟨(PuOK.ok (ok_iconst dX4_truncateText_18 rfl)), m_push⟩ (
  lkp_c (P := OkP 292) ⟨ok_cv (List.forall_mem_cons.mpr ⟨tg_V (ci := 30) (r := CLr 30) (y := 291) rfl ⟨rfl, by decide⟩ rfl q3206 q3208 qs42 q139 q3209 ⟨cn_34.1, cn_34.2, pd_48⟩ dX4_truncateText_19, (List.forall_mem_nil _)⟩) hd_no, m_cv⟩ (
  lkp_c (P := OkP 292) ⟨ok_iret rfl rfl (by decide) dX4_truncateText_22, m_ret⟩ (
  lkp_c (P := OkP 292) ⟨(PuOK.ok (ok_aload_n dX4_truncateText_23 rfl)), m_aload⟩ (
  lkp_c (P := OkP 292) ⟨(PuOK.ok (ok_iload_n dX4_truncateText_24 rfl)), m_iload⟩ (
  lkp_c (P := OkP 292) ⟨ok_put ⟨"TollRoadModel", q3089, Or.inl rfl⟩ rfl fd_157 rfl dX4_truncateText_25, m_put⟩ (
  lkp_c (P := OkP 292) ⟨(PuOK.ok (ok_aload_n dX4_truncateText_28 rfl)), m_aload⟩ (
  lkp_c (P := OkP 292) ⟨ok_get ⟨"TollRoadModel", q3089, Or.inl rfl⟩ dX4_truncateText_29, m_get⟩ (
  lkp_c (P := OkP 292) ⟨ok_iret rfl rfl (by decide) dX4_truncateText_32, m_ret⟩ (
  trivial)))))))))))))))))))
theorem mt_292 : MtOK TB NT IT 292 := ⟨by decide +kernel, rfl, (fun h => by cases h), Or.inl ⟨rfl, rfl⟩, rfl, by decide, lk2_all (P := OkP 292) ⟨c_292_0, trivial⟩⟩
def dkwX4_isBetween_0 : List UInt8 := [26, 27, 161, 0, 12, 26, 28, 163, 0, 7, 4, 167, 0, 4, 3, 172]
abbrev dktX4_isBetween_0 : List UInt8 := dkwX4_isBetween_0 ++ []
theorem dksX4_isBetween_0 : cX4_isBetween.data.toList.drop 0 = dktX4_isBetween_0 := by decide +kernel
theorem dX4_isBetween_0 : decode cX4_isBetween 0 = .ok (.iload_n 0, 1) := dk_26 (dk_at dksX4_isBetween_0 0 rfl rfl)
theorem dX4_isBetween_1 : decode cX4_isBetween 1 = .ok (.iload_n 1, 1) := dk_27 (dk_at dksX4_isBetween_0 1 rfl rfl)
theorem dX4_isBetween_2 : decode cX4_isBetween 2 = .ok (.if_icmp .lt 12, 3) := dk_161 0 12 (dk_at dksX4_isBetween_0 2 rfl rfl)
theorem dX4_isBetween_5 : decode cX4_isBetween 5 = .ok (.iload_n 0, 1) := dk_26 (dk_at dksX4_isBetween_0 5 rfl rfl)
theorem dX4_isBetween_6 : decode cX4_isBetween 6 = .ok (.iload_n 2, 1) := dk_28 (dk_at dksX4_isBetween_0 6 rfl rfl)
theorem dX4_isBetween_7 : decode cX4_isBetween 7 = .ok (.if_icmp .gt 7, 3) := dk_163 0 7 (dk_at dksX4_isBetween_0 7 rfl rfl)
theorem dX4_isBetween_10 : decode cX4_isBetween 10 = .ok (.iconst 1, 1) := dk_4 (dk_at dksX4_isBetween_0 10 rfl rfl)
theorem dX4_isBetween_11 : decode cX4_isBetween 11 = .ok (.goto 4, 3) := dk_167 0 4 (dk_at dksX4_isBetween_0 11 rfl rfl)
theorem dX4_isBetween_14 : decode cX4_isBetween 14 = .ok (.iconst 0, 1) := dk_3 (dk_at dksX4_isBetween_0 14 rfl rfl)
theorem dX4_isBetween_15 : decode cX4_isBetween 15 = .ok (.ireturn, 1) := dk_172 (dk_at dksX4_isBetween_0 15 rfl rfl)
theorem c_293_0 : LkP (OkP 293) [(0, o_iload 0 1), (1, o_iload 1 1), (2, o_icmp (fun x y => decide (x < y)) 14), (5, o_iload 0 1), (6, o_iload 2 1), (7, o_icmp (fun x y => decide (y < x)) 14), (10, o_push 1 (.int 1)), (11, o_goto 15), (14, o_push 1 (.int 0)), (15, o_ret 5)] := lkp_c (P := OkP 293) ⟨(PuOK.ok (ok_iload_n dX4_isBetween_0 rfl)), m_iload⟩ (
  lkp_c (P := OkP 293) ⟨(PuOK.ok (ok_iload_n dX4_isBetween_1 rfl)), m_iload⟩ (
  lkp_c (P := OkP 293) ⟨(PuOK.ok (ok_icmp_lt dX4_isBetween_2 rfl)), m_icmp⟩ (
  lkp_c (P := OkP 293) ⟨(PuOK.ok (ok_iload_n dX4_isBetween_5 rfl)), m_iload⟩ (
  lkp_c (P := OkP 293) ⟨(PuOK.ok (ok_iload_n dX4_isBetween_6 rfl)), m_iload⟩ (
  lkp_c (P := OkP 293) ⟨(PuOK.ok (ok_icmp_gt dX4_isBetween_7 rfl)), m_icmp⟩ (
  lkp_c (P := OkP 293) ⟨(PuOK.ok (ok_iconst dX4_isBetween_10 rfl)), m_push⟩ (
  lkp_c (P := OkP 293) ⟨(PuOK.ok (ok_goto dX4_isBetween_11 rfl)), m_goto⟩ (
  lkp_c (P := OkP 293) ⟨(PuOK.ok (ok_iconst dX4_isBetween_14 rfl)), m_push⟩ (
  lkp_c (P := OkP 293) ⟨ok_iret rfl rfl (by decide) dX4_isBetween_15, m_ret⟩ (
  trivial))))))))))
theorem mt_293 : MtOK TB NT IT 293 := ⟨by decide +kernel, rfl, (fun h => by cases h), Or.inl ⟨rfl, rfl⟩, rfl, by decide, lk2_all (P := OkP 293) ⟨c_293_0, trivial⟩⟩
def dkwX4_load_4 : List UInt8 := [172, 27, 172]
abbrev dktX4_load_4 : List UInt8 := dkwX4_load_4 ++ []
def dkwX4_load_3 : List UInt8 := [181, 0, 84, 42, 182, 0, 142, 154, 0, 18, 42, 180, 0, 13, 3, 42, 180, 0, 7, 3, 184, 0, 214, 2]
abbrev dktX4_load_3 : List UInt8 := dkwX4_load_3 ++ dktX4_load_4
def dkwX4_load_2 : List UInt8 := [153, 0, 20, 42, 180, 0, 114, 153, 0, 13, 42, 182, 0, 218, 132, 1, 1, 167, 255, 235, 42, 3]
abbrev dktX4_load_2 : List UInt8 := dkwX4_load_2 ++ dktX4_load_3
def dkwX4_load_1 : List UInt8 := [181, 0, 139, 42, 2, 181, 0, 35, 42, 3, 181, 0, 95, 42, 182, 0, 146, 3, 60, 42, 182, 0, 142]
abbrev dktX4_load_1 : List UInt8 := dkwX4_load_1 ++ dktX4_load_2
def dkwX4_load_0 : List UInt8 := [42, 3, 181, 0, 81, 42, 180, 0, 7, 3, 42, 180, 0, 13, 3, 184, 0, 214, 42, 182, 0, 78, 42, 3]
abbrev dktX4_load_0 : List UInt8 := dkwX4_load_0 ++ dktX4_load_1
theorem dksX4_load_0 : cX4_load.data.toList.drop 0 = dktX4_load_0 := by decide +kernel
theorem dksX4_load_1 : cX4_load.data.toList.drop 24 = dktX4_load_1 := dk_seg dksX4_load_0 24 rfl rfl
theorem dksX4_load_2 : cX4_load.data.toList.drop 47 = dktX4_load_2 := dk_seg dksX4_load_1 23 rfl rfl
theorem dksX4_load_3 : cX4_load.data.toList.drop 69 = dktX4_load_3 := dk_seg dksX4_load_2 22 rfl rfl
theorem dksX4_load_4 : cX4_load.data.toList.drop 93 = dktX4_load_4 := dk_seg dksX4_load_3 24 rfl rfl
theorem dX4_load_0 : decode cX4_load 0 = .ok (.aload_n 0, 1) := dk_42 (dk_at dksX4_load_0 0 rfl rfl)
theorem dX4_load_1 : decode cX4_load 1 = .ok (.iconst 0, 1) := dk_3 (dk_at dksX4_load_0 1 rfl rfl)
theorem dX4_load_2 : decode cX4_load 2 = .ok (.putfield 81, 3) := dk_181 0 81 (dk_at dksX4_load_0 2 rfl rfl)
theorem dX4_load_5 : decode cX4_load 5 = .ok (.aload_n 0, 1) := dk_42 (dk_at dksX4_load_0 5 rfl rfl)
theorem dX4_load_6 : decode cX4_load 6 = .ok (.getfield 7, 3) := dk_180 0 7 (dk_at dksX4_load_0 6 rfl rfl)
theorem dX4_load_9 : decode cX4_load 9 = .ok (.iconst 0, 1) := dk_3 (dk_at dksX4_load_0 9 rfl rfl)
theorem dX4_load_10 : decode cX4_load 10 = .ok (.aload_n 0, 1) := dk_42 (dk_at dksX4_load_0 10 rfl rfl)
theorem dX4_load_11 : decode cX4_load 11 = .ok (.getfield 13, 3) := dk_180 0 13 (dk_at dksX4_load_0 11 rfl rfl)
theorem dX4_load_14 : decode cX4_load 14 = .ok (.iconst 0, 1) := dk_3 (dk_at dksX4_load_0 14 rfl rfl)
theorem dX4_load_15 : decode cX4_load 15 = .ok (.invokestatic 214, 3) := dk_184 0 214 (dk_at dksX4_load_0 15 rfl rfl)
theorem dX4_load_18 : decode cX4_load 18 = .ok (.aload_n 0, 1) := dk_42 (dk_at dksX4_load_0 18 rfl rfl)
theorem dX4_load_19 : decode cX4_load 19 = .ok (.invokevirtual 78, 3) := dk_182 0 78 (dk_at dksX4_load_0 19 rfl rfl)
theorem dX4_load_22 : decode cX4_load 22 = .ok (.aload_n 0, 1) := dk_42 (dk_at dksX4_load_0 22 rfl rfl)
theorem dX4_load_23 : decode cX4_load 23 = .ok (.iconst 0, 1) := dk_3 (dk_at dksX4_load_0 23 rfl rfl)
theorem dX4_load_24 : decode cX4_load 24 = .ok (.putfield 139, 3) := dk_181 0 139 (dk_at dksX4_load_1 0 rfl rfl)
theorem dX4_load_27 : decode cX4_load 27 = .ok (.aload_n 0, 1) := dk_42 (dk_at dksX4_load_1 3 rfl rfl)
theorem dX4_load_28 : decode cX4_load 28 = .ok (.iconst (-1), 1) := dk_2 (dk_at dksX4_load_1 4 rfl rfl)
theorem dX4_load_29 : decode cX4_load 29 = .ok (.putfield 35, 3) := dk_181 0 35 (dk_at dksX4_load_1 5 rfl rfl)
theorem dX4_load_32 : decode cX4_load 32 = .ok (.aload_n 0, 1) := dk_42 (dk_at dksX4_load_1 8 rfl rfl)
theorem dX4_load_33 : decode cX4_load 33 = .ok (.iconst 0, 1) := dk_3 (dk_at dksX4_load_1 9 rfl rfl)
theorem dX4_load_34 : decode cX4_load 34 = .ok (.putfield 95, 3) := dk_181 0 95 (dk_at dksX4_load_1 10 rfl rfl)
theorem dX4_load_37 : decode cX4_load 37 = .ok (.aload_n 0, 1) := dk_42 (dk_at dksX4_load_1 13 rfl rfl)
theorem dX4_load_38 : decode cX4_load 38 = .ok (.invokevirtual 146, 3) := dk_182 0 146 (dk_at dksX4_load_1 14 rfl rfl)
theorem dX4_load_41 : decode cX4_load 41 = .ok (.iconst 0, 1) := dk_3 (dk_at dksX4_load_1 17 rfl rfl)
theorem dX4_load_42 : decode cX4_load 42 = .ok (.istore_n 1, 1) := dk_60 (dk_at dksX4_load_1 18 rfl rfl)
theorem dX4_load_43 : decode cX4_load 43 = .ok (.aload_n 0, 1) := dk_42 (dk_at dksX4_load_1 19 rfl rfl)
theorem dX4_load_44 : decode cX4_load 44 = .ok (.invokevirtual 142, 3) := dk_182 0 142 (dk_at dksX4_load_1 20 rfl rfl)
theorem dX4_load_47 : decode cX4_load 47 = .ok (.ifCond .eq 20, 3) := dk_153 0 20 (dk_at dksX4_load_2 0 rfl rfl)
theorem dX4_load_50 : decode cX4_load 50 = .ok (.aload_n 0, 1) := dk_42 (dk_at dksX4_load_2 3 rfl rfl)
theorem dX4_load_51 : decode cX4_load 51 = .ok (.getfield 114, 3) := dk_180 0 114 (dk_at dksX4_load_2 4 rfl rfl)
theorem dX4_load_54 : decode cX4_load 54 = .ok (.ifCond .eq 13, 3) := dk_153 0 13 (dk_at dksX4_load_2 7 rfl rfl)
theorem dX4_load_57 : decode cX4_load 57 = .ok (.aload_n 0, 1) := dk_42 (dk_at dksX4_load_2 10 rfl rfl)
theorem dX4_load_58 : decode cX4_load 58 = .ok (.invokevirtual 218, 3) := dk_182 0 218 (dk_at dksX4_load_2 11 rfl rfl)
theorem dX4_load_61 : decode cX4_load 61 = .ok (.iinc 1 1, 3) := dk_132 1 1 (dk_at dksX4_load_2 14 rfl rfl)
theorem dX4_load_64 : decode cX4_load 64 = .ok (.goto (-21), 3) := dk_167 255 235 (dk_at dksX4_load_2 17 rfl rfl)
theorem dX4_load_67 : decode cX4_load 67 = .ok (.aload_n 0, 1) := dk_42 (dk_at dksX4_load_2 20 rfl rfl)
theorem dX4_load_68 : decode cX4_load 68 = .ok (.iconst 0, 1) := dk_3 (dk_at dksX4_load_2 21 rfl rfl)
theorem dX4_load_69 : decode cX4_load 69 = .ok (.putfield 84, 3) := dk_181 0 84 (dk_at dksX4_load_3 0 rfl rfl)
theorem dX4_load_72 : decode cX4_load 72 = .ok (.aload_n 0, 1) := dk_42 (dk_at dksX4_load_3 3 rfl rfl)
theorem dX4_load_73 : decode cX4_load 73 = .ok (.invokevirtual 142, 3) := dk_182 0 142 (dk_at dksX4_load_3 4 rfl rfl)
theorem dX4_load_76 : decode cX4_load 76 = .ok (.ifCond .ne 18, 3) := dk_154 0 18 (dk_at dksX4_load_3 7 rfl rfl)
theorem dX4_load_79 : decode cX4_load 79 = .ok (.aload_n 0, 1) := dk_42 (dk_at dksX4_load_3 10 rfl rfl)
theorem dX4_load_80 : decode cX4_load 80 = .ok (.getfield 13, 3) := dk_180 0 13 (dk_at dksX4_load_3 11 rfl rfl)
theorem dX4_load_83 : decode cX4_load 83 = .ok (.iconst 0, 1) := dk_3 (dk_at dksX4_load_3 14 rfl rfl)
theorem dX4_load_84 : decode cX4_load 84 = .ok (.aload_n 0, 1) := dk_42 (dk_at dksX4_load_3 15 rfl rfl)
theorem dX4_load_85 : decode cX4_load 85 = .ok (.getfield 7, 3) := dk_180 0 7 (dk_at dksX4_load_3 16 rfl rfl)
theorem dX4_load_88 : decode cX4_load 88 = .ok (.iconst 0, 1) := dk_3 (dk_at dksX4_load_3 19 rfl rfl)
theorem dX4_load_89 : decode cX4_load 89 = .ok (.invokestatic 214, 3) := dk_184 0 214 (dk_at dksX4_load_3 20 rfl rfl)
theorem dX4_load_92 : decode cX4_load 92 = .ok (.iconst (-1), 1) := dk_2 (dk_at dksX4_load_3 23 rfl rfl)
theorem dX4_load_93 : decode cX4_load 93 = .ok (.ireturn, 1) := dk_172 (dk_at dksX4_load_4 0 rfl rfl)
theorem dX4_load_94 : decode cX4_load 94 = .ok (.iload_n 1, 1) := dk_27 (dk_at dksX4_load_4 1 rfl rfl)
theorem dX4_load_95 : decode cX4_load 95 = .ok (.ireturn, 1) := dk_172 (dk_at dksX4_load_4 2 rfl rfl)
theorem c_294_0 : LkP (OkP 294) [(0, o_aload 0 1), (1, o_push 1 (.int 0)), (2, o_put 155 1), (5, o_aload 0 1), (6, o_get 148), (9, o_push 1 (.int 0)), (10, o_aload 0 1), (11, o_get 149), (14, o_push 1 (.int 0)), (15, o_cs 295 4 true none), (18, o_aload 0 1), (19, o_cv [(30, 288)] 0 3 true none), (22, o_aload 0 1), (23, o_push 1 (.int 0)), (24, o_put 163 1), (27, o_aload 0 1), (28, o_push 1 (.int (-1))), (29, o_put 164 1), (32, o_aload 0 1), (33, o_push 1 (.int 0)), (34, o_put 158 1), (37, o_aload 0 1), (38, o_cv [(30, 296)] 0 3 true none), (41, o_push 1 (.int 0)), (42, o_istore 1 1), (43, o_aload 0 1), (44, o_cv [(30, 300)] 0 3 false none), (47, o_if (fun x => decide (x = 0)) 67), (50, o_aload 0 1), (51, o_get 160), (54, o_if (fun x => decide (x = 0)) 67), (57, o_aload 0 1), (58, o_cv [(30, 301)] 0 3 true none), (61, o_iinc 1 1)] := lkp_c (P := OkP 294) ⟨(PuOK.ok (ok_aload_n dX4_load_0 rfl)), m_aload⟩ (
  lkp_c (P := OkP 294) ⟨(PuOK.ok (ok_iconst dX4_load_1 rfl)), m_push⟩ (
  lkp_c (P := OkP 294) ⟨ok_put ⟨"TollRoadModel", q3087, Or.inl rfl⟩ rfl fd_155 rfl dX4_load_2, m_put⟩ (
  lkp_c (P := OkP 294) ⟨(PuOK.ok (ok_aload_n dX4_load_5 rfl)), m_aload⟩ (
  lkp_c (P := OkP 294) ⟨ok_get ⟨"TollRoadModel", q3080, Or.inl rfl⟩ dX4_load_6, m_get⟩ (
  lkp_c (P := OkP 294) ⟨(PuOK.ok (ok_iconst dX4_load_9 rfl)), m_push⟩ (
  lkp_c (P := OkP 294) ⟨(PuOK.ok (ok_aload_n dX4_load_10 rfl)), m_aload⟩ (
  lkp_c (P := OkP 294) ⟨ok_get ⟨"TollRoadModel", q3081, Or.inl rfl⟩ dX4_load_11, m_get⟩ (
  lkp_c (P := OkP 294) ⟨(PuOK.ok (ok_iconst dX4_load_14 rfl)), m_push⟩ (
  lkp_c (P := OkP 294) ⟨ok_cs (tg_S ⟨rfl, by decide⟩ q3221 q3222 q139 q3223 ⟨cn_34.1, cn_34.2, pd_122⟩ dX4_load_15) hd_no, m_cs⟩ (
  lkp_c (P := OkP 294) ⟨(PuOK.ok (ok_aload_n dX4_load_18 rfl)), m_aload⟩ (
  lkp_c (P := OkP 294) ⟨ok_cv (List.forall_mem_cons.mpr ⟨tg_V (ci := 30) (r := CLr 30) (y := 288) rfl ⟨rfl, by decide⟩ rfl q3076 q3078 qs41 q139 q3079 ⟨cn_34.1, cn_34.2, pd_0⟩ dX4_load_19, (List.forall_mem_nil _)⟩) hd_no, m_cv⟩ (
  lkp_c (P := OkP 294) ⟨(PuOK.ok (ok_aload_n dX4_load_22 rfl)), m_aload⟩ (
  lkp_c (P := OkP 294) ⟨(PuOK.ok (ok_iconst dX4_load_23 rfl)), m_push⟩ (
  lkp_c (P := OkP 294) ⟨ok_put ⟨"TollRoadModel", q3095, Or.inl rfl⟩ rfl fd_163 rfl dX4_load_24, m_put⟩ (
  lkp_c (P := OkP 294) ⟨(PuOK.ok (ok_aload_n dX4_load_27 rfl)), m_aload⟩ (
  lkp_c (P := OkP 294) ⟨(PuOK.ok (ok_iconst dX4_load_28 rfl)), m_push⟩ (
  lkp_c (P := OkP 294) ⟨ok_put ⟨"TollRoadModel", q3096, Or.inl rfl⟩ rfl fd_164 rfl dX4_load_29, m_put⟩ (
  lkp_c (P := OkP 294) ⟨(PuOK.ok (ok_aload_n dX4_load_32 rfl)), m_aload⟩ (
  lkp_c (P := OkP 294) ⟨(PuOK.ok (ok_iconst dX4_load_33 rfl)), m_push⟩ (
  lkp_c (P := OkP 294) ⟨ok_put ⟨"TollRoadModel", q3090, Or.inl rfl⟩ rfl fd_158 rfl dX4_load_34, m_put⟩ (
  lkp_c (P := OkP 294) ⟨(PuOK.ok (ok_aload_n dX4_load_37 rfl)), m_aload⟩ (
  lkp_c (P := OkP 294) ⟨ok_cv (List.forall_mem_cons.mpr ⟨tg_V (ci := 30) (r := CLr 30) (y := 296) rfl ⟨rfl, by decide⟩ rfl q3224 q3226 qs43 q139 q3227 ⟨cn_34.1, cn_34.2, pd_0⟩ dX4_load_38, (List.forall_mem_nil _)⟩) hd_no, m_cv⟩ (
  lkp_c (P := OkP 294) ⟨(PuOK.ok (ok_iconst dX4_load_41 rfl)), m_push⟩ (
  lkp_c (P := OkP 294) ⟨(PuOK.ok (ok_istore_n dX4_load_42 rfl)), m_istore⟩ (
  lkp_c (P := OkP 294) ⟨(PuOK.ok (ok_aload_n dX4_load_43 rfl)), m_aload⟩ (
  lkp_c (P := OkP 294) ⟨ok_cv (List.forall_mem_cons.mpr ⟨tg_V (ci := 30) (r := CLr 30) (y := 300) rfl ⟨rfl, by decide⟩ rfl q3241 q3243 qs45 q139 q3244 ⟨cn_34.1, cn_34.2, pd_50⟩ dX4_load_44, (List.forall_mem_nil _)⟩) hd_no, m_cv⟩ (
  lkp_c (P := OkP 294) ⟨(PuOK.ok (ok_if_eq dX4_load_47 rfl)), m_if⟩ (
  lkp_c (P := OkP 294) ⟨(PuOK.ok (ok_aload_n dX4_load_50 rfl)), m_aload⟩ (
  lkp_c (P := OkP 294) ⟨ok_get ⟨"TollRoadModel", q3092, Or.inl rfl⟩ dX4_load_51, m_get⟩ (
  lkp_c (P := OkP 294) ⟨(PuOK.ok (ok_if_eq dX4_load_54 rfl)), m_if⟩ (
  lkp_c (P := OkP 294) ⟨(PuOK.ok (ok_aload_n dX4_load_57 rfl)), m_aload⟩ (
  lkp_c (P := OkP 294) ⟨ok_cv (List.forall_mem_cons.mpr ⟨tg_V (ci := 30) (r := CLr 30) (y := 301) rfl ⟨rfl, by decide⟩ rfl q3245 q3247 qs46 q139 q3248 ⟨cn_34.1, cn_34.2, pd_0⟩ dX4_load_58, (List.forall_mem_nil _)⟩) hd_no, m_cv⟩ (
  lkp_c (P := OkP 294) ⟨(PuOK.ok (ok_iinc dX4_load_61 rfl)), m_iinc⟩ (
  trivial))))))))))))))))))))))))))))))))))
theorem c_294_1 : LkP (OkP 294) [(64, o_goto 43), (67, o_aload 0 1), (68, o_push 1 (.int 0)), (69, o_put 157 1), (72, o_aload 0 1), (73, o_cv [(30, 300)] 0 3 false none), (76, o_if (fun x => decide (¬ x = 0)) 94), (79, o_aload 0 1), (80, o_get 149), (83, o_push 1 (.int 0)), (84, o_aload 0 1), (85, o_get 148), (88, o_push 1 (.int 0)), (89, o_cs 295 4 true none), (92, o_push 1 (.int (-1))), (93, o_ret 1), (94, o_iload 1 1), (95, o_ret 1)] := lkp_c (P := OkP 294) ⟨(PuOK.ok (ok_goto dX4_load_64 rfl)), m_goto⟩ (
  lkp_c (P := OkP 294) ⟨(PuOK.ok (ok_aload_n dX4_load_67 rfl)), m_aload⟩ (
  lkp_c (P := OkP 294) ⟨(PuOK.ok (ok_iconst dX4_load_68 rfl)), m_push⟩ (
  lkp_c (P := OkP 294) ⟨ok_put ⟨"TollRoadModel", q3089, Or.inl rfl⟩ rfl fd_157 rfl dX4_load_69, m_put⟩ (
  lkp_c (P := OkP 294) ⟨(PuOK.ok (ok_aload_n dX4_load_72 rfl)), m_aload⟩ (
  lkp_c (P := OkP 294) ⟨ok_cv (List.forall_mem_cons.mpr ⟨tg_V (ci := 30) (r := CLr 30) (y := 300) rfl ⟨rfl, by decide⟩ rfl q3241 q3243 qs45 q139 q3244 ⟨cn_34.1, cn_34.2, pd_50⟩ dX4_load_73, (List.forall_mem_nil _)⟩) hd_no, m_cv⟩ (
  lkp_c (P := OkP 294) ⟨(PuOK.ok (ok_if_ne dX4_load_76 rfl)), m_if⟩ (
  lkp_c (P := OkP 294) ⟨(PuOK.ok (ok_aload_n dX4_load_79 rfl)), m_aload⟩ (
  lkp_c (P := OkP 294) ⟨ok_get ⟨"TollRoadModel", q3081, Or.inl rfl⟩ dX4_load_80, m_get⟩ (
  lkp_c (P := OkP 294) ⟨(PuOK.ok (ok_iconst dX4_load_83 rfl)), m_push⟩ (
  lkp_c (P := OkP 294) ⟨(PuOK.ok (ok_aload_n dX4_load_84 rfl)), m_aload⟩ (
  lkp_c (P := OkP 294) ⟨ok_get ⟨"TollRoadModel", q3080, Or.inl rfl⟩ dX4_load_85, m_get⟩ (
  lkp_c (P := OkP 294) ⟨(PuOK.ok (ok_iconst dX4_load_88 rfl)), m_push⟩ (
  lkp_c (P := OkP 294) ⟨ok_cs (tg_S ⟨rfl, by decide⟩ q3221 q3222 q139 q3223 ⟨cn_34.1, cn_34.2, pd_122⟩ dX4_load_89) hd_no, m_cs⟩ (
  lkp_c (P := OkP 294) ⟨(PuOK.ok (ok_iconst dX4_load_92 rfl)), m_push⟩ (
  lkp_c (P := OkP 294) ⟨ok_iret rfl rfl (by decide) dX4_load_93, m_ret⟩ (
  lkp_c (P := OkP 294) ⟨(PuOK.ok (ok_iload_n dX4_load_94 rfl)), m_iload⟩ (
  lkp_c (P := OkP 294) ⟨ok_iret rfl rfl (by decide) dX4_load_95, m_ret⟩ (
  trivial))))))))))))))))))
theorem mt_294 : MtOK TB NT IT 294 := ⟨by decide +kernel, rfl, (fun h => by cases h), Or.inl ⟨rfl, rfl⟩, rfl, by decide, lk2_all (P := OkP 294) ⟨c_294_0, c_294_1, trivial⟩⟩
def dkwX4_copy_1 : List UInt8 := [132, 4, 1, 167, 255, 233, 177]
abbrev dktX4_copy_1 : List UInt8 := dkwX4_copy_1 ++ []
def dkwX4_copy_0 : List UInt8 := [3, 54, 4, 21, 4, 17, 12, 28, 162, 0, 21, 44, 29, 21, 4, 96, 42, 27, 21, 4, 96, 46, 79]
abbrev dktX4_copy_0 : List UInt8 := dkwX4_copy_0 ++ dktX4_copy_1
theorem dksX4_copy_0 : cX4_copy.data.toList.drop 0 = dktX4_copy_0 := by decide +kernel
theorem dksX4_copy_1 : cX4_copy.data.toList.drop 23 = dktX4_copy_1 := dk_seg dksX4_copy_0 23 rfl rfl
theorem dX4_copy_0 : decode cX4_copy 0 = .ok (.iconst 0, 1) := dk_3 (dk_at dksX4_copy_0 0 rfl rfl)
theorem dX4_copy_1 : decode cX4_copy 1 = .ok (.istore 4, 2) := dk_54 4 (dk_at dksX4_copy_0 1 rfl rfl)
theorem dX4_copy_3 : decode cX4_copy 3 = .ok (.iload 4, 2) := dk_21 4 (dk_at dksX4_copy_0 3 rfl rfl)
theorem dX4_copy_5 : decode cX4_copy 5 = .ok (.sipush 3100, 3) := dk_17 12 28 (dk_at dksX4_copy_0 5 rfl rfl)
theorem dX4_copy_8 : decode cX4_copy 8 = .ok (.if_icmp .ge 21, 3) := dk_162 0 21 (dk_at dksX4_copy_0 8 rfl rfl)
theorem dX4_copy_11 : decode cX4_copy 11 = .ok (.aload_n 2, 1) := dk_44 (dk_at dksX4_copy_0 11 rfl rfl)
theorem dX4_copy_12 : decode cX4_copy 12 = .ok (.iload_n 3, 1) := dk_29 (dk_at dksX4_copy_0 12 rfl rfl)
theorem dX4_copy_13 : decode cX4_copy 13 = .ok (.iload 4, 2) := dk_21 4 (dk_at dksX4_copy_0 13 rfl rfl)
theorem dX4_copy_15 : decode cX4_copy 15 = .ok (.iadd, 1) := dk_96 (dk_at dksX4_copy_0 15 rfl rfl)
theorem dX4_copy_16 : decode cX4_copy 16 = .ok (.aload_n 0, 1) := dk_42 (dk_at dksX4_copy_0 16 rfl rfl)
theorem dX4_copy_17 : decode cX4_copy 17 = .ok (.iload_n 1, 1) := dk_27 (dk_at dksX4_copy_0 17 rfl rfl)
theorem dX4_copy_18 : decode cX4_copy 18 = .ok (.iload 4, 2) := dk_21 4 (dk_at dksX4_copy_0 18 rfl rfl)
theorem dX4_copy_20 : decode cX4_copy 20 = .ok (.iadd, 1) := dk_96 (dk_at dksX4_copy_0 20 rfl rfl)
theorem dX4_copy_21 : decode cX4_copy 21 = .ok (.iaload, 1) := dk_46 (dk_at dksX4_copy_0 21 rfl rfl)
theorem dX4_copy_22 : decode cX4_copy 22 = .ok (.iastore, 1) := dk_79 (dk_at dksX4_copy_0 22 rfl rfl)
theorem dX4_copy_23 : decode cX4_copy 23 = .ok (.iinc 4 1, 3) := dk_132 4 1 (dk_at dksX4_copy_1 0 rfl rfl)
theorem dX4_copy_26 : decode cX4_copy 26 = .ok (.goto (-23), 3) := dk_167 255 233 (dk_at dksX4_copy_1 3 rfl rfl)
theorem dX4_copy_29 : decode cX4_copy 29 = .ok (.return_, 1) := dk_177 (dk_at dksX4_copy_1 6 rfl rfl)
theorem c_295_0 : LkP (OkP 295) [(0, o_push 1 (.int 0)), (1, o_istore 4 2), (3, o_iload 4 2), (5, o_push 3 (.int 3100)), (8, o_icmp (fun x y => decide (y ≤ x)) 29), (11, o_aload 2 1), (12, o_iload 3 1), (13, o_iload 4 2), (15, o_iop (fun x y => x + y)), (16, o_aload 0 1), (17, o_iload 1 1), (18, o_iload 4 2), (20, o_iop (fun x y => x + y)), (21, o_rdI 0), (22, o_wrI 0), (23, o_iinc 4 1), (26, o_goto 3), (29, o_vret)] := lkp_c (P := OkP 295) ⟨(PuOK.ok (ok_iconst dX4_copy_0 rfl)), m_push⟩ (
  lkp_c (P := OkP 295) ⟨(PuOK.ok (ok_istore dX4_copy_1)), m_istore⟩ (
  lkp_c (P := OkP 295) ⟨(PuOK.ok (ok_iload dX4_copy_3)), m_iload⟩ (
  lkp_c (P := OkP 295) ⟨(PuOK.ok (ok_sipush dX4_copy_5 rfl)), m_push⟩ (
  lkp_c (P := OkP 295) ⟨(PuOK.ok (ok_icmp_ge dX4_copy_8 rfl)), m_icmp⟩ (
  lkp_c (P := OkP 295) ⟨(PuOK.ok (ok_aload_n dX4_copy_11 rfl)), m_aload⟩ (
  lkp_c (P := OkP 295) ⟨(PuOK.ok (ok_iload_n dX4_copy_12 rfl)), m_iload⟩ (
  lkp_c (P := OkP 295) ⟨(PuOK.ok (ok_iload dX4_copy_13)), m_iload⟩ (
  lkp_c (P := OkP 295) ⟨(PuOK.ok (ok_iadd dX4_copy_15)), m_iop⟩ (
  lkp_c (P := OkP 295) ⟨(PuOK.ok (ok_aload_n dX4_copy_16 rfl)), m_aload⟩ (
  lkp_c (P := OkP 295) ⟨(PuOK.ok (ok_iload_n dX4_copy_17 rfl)), m_iload⟩ (
  lkp_c (P := OkP 295) ⟨(PuOK.ok (ok_iload dX4_copy_18)), m_iload⟩ (
  lkp_c (P := OkP 295) ⟨(PuOK.ok (ok_iadd dX4_copy_20)), m_iop⟩ (
  lkp_c (P := OkP 295) ⟨ok_iald dX4_copy_21, m_rdI⟩ (
  lkp_c (P := OkP 295) ⟨ok_iast dX4_copy_22, m_wrI⟩ (
  lkp_c (P := OkP 295) ⟨(PuOK.ok (ok_iinc dX4_copy_23 rfl)), m_iinc⟩ (
  lkp_c (P := OkP 295) ⟨(PuOK.ok (ok_goto dX4_copy_26 rfl)), m_goto⟩ (
  lkp_c (P := OkP 295) ⟨ok_vret rfl dX4_copy_29, m_vret⟩ (
  trivial))))))))))))))))))
theorem mt_295 : MtOK TB NT IT 295 := ⟨by decide +kernel, rfl, (fun h => by cases h), Or.inl ⟨rfl, rfl⟩, rfl, by decide, lk2_all (P := OkP 295) ⟨c_295_0, trivial⟩⟩
def dkwX4_nextToken_11 : List UInt8 := [7, 167, 0, 4, 4, 181, 0, 114, 42, 89, 180, 0, 95, 4, 96, 181, 0, 95, 177]
abbrev dktX4_nextToken_11 : List UInt8 := dkwX4_nextToken_11 ++ []
def dkwX4_nextToken_10 : List UInt8 := [100, 181, 0, 111, 42, 89, 180, 0, 95, 4, 96, 181, 0, 95, 167, 255, 193, 42, 27, 16, 59, 160, 0, 7]
abbrev dktX4_nextToken_10 : List UInt8 := dkwX4_nextToken_10 ++ dktX4_nextToken_11
def dkwX4_nextToken_9 : List UInt8 := [180, 0, 111, 167, 0, 22, 16, 10, 42, 180, 0, 111, 104, 42, 42, 180, 0, 95, 182, 0, 98, 96, 16, 48]
abbrev dktX4_nextToken_9 : List UInt8 := dkwX4_nextToken_9 ++ dktX4_nextToken_10
def dkwX4_nextToken_8 : List UInt8 := [42, 180, 0, 95, 182, 0, 98, 184, 0, 125, 153, 0, 80, 42, 42, 180, 0, 111, 18, 128, 164, 0, 10, 42]
abbrev dktX4_nextToken_8 : List UInt8 := dkwX4_nextToken_8 ++ dktX4_nextToken_9
def dkwX4_nextToken_7 : List UInt8 := [180, 0, 95, 4, 96, 181, 0, 95, 167, 255, 180, 27, 184, 0, 125, 153, 0, 74, 42, 6, 181, 0, 114, 42]
abbrev dktX4_nextToken_7 : List UInt8 := dkwX4_nextToken_7 ++ dktX4_nextToken_8
def dkwX4_nextToken_6 : List UInt8 := [101, 167, 0, 7, 42, 180, 0, 107, 181, 0, 107, 42, 89, 180, 0, 104, 4, 96, 181, 0, 104, 42, 89]
abbrev dktX4_nextToken_6 : List UInt8 := dkwX4_nextToken_6 ++ dktX4_nextToken_7
def dkwX4_nextToken_5 : List UInt8 := [162, 0, 28, 20, 0, 121, 42, 180, 0, 107, 105, 42, 42, 180, 0, 95, 182, 0, 98, 133, 97, 20, 0, 123]
abbrev dktX4_nextToken_5 : List UInt8 := dkwX4_nextToken_5 ++ dktX4_nextToken_6
def dkwX4_nextToken_4 : List UInt8 := [181, 0, 114, 42, 42, 180, 0, 95, 182, 0, 98, 184, 0, 117, 153, 0, 171, 42, 42, 180, 0, 104, 16, 11]
abbrev dktX4_nextToken_4 : List UInt8 := dkwX4_nextToken_4 ++ dktX4_nextToken_5
def dkwX4_nextToken_3 : List UInt8 := [27, 2, 160, 0, 11, 42, 3, 181, 0, 114, 167, 0, 197, 27, 184, 0, 117, 153, 0, 87, 42, 5]
abbrev dktX4_nextToken_3 : List UInt8 := dkwX4_nextToken_3 ++ dktX4_nextToken_4
def dkwX4_nextToken_2 : List UInt8 := [42, 3, 181, 0, 104, 42, 9, 181, 0, 107, 42, 3, 181, 0, 111, 42, 42, 180, 0, 95, 182, 0, 98, 60]
abbrev dktX4_nextToken_2 : List UInt8 := dkwX4_nextToken_2 ++ dktX4_nextToken_3
def dkwX4_nextToken_1 : List UInt8 := [160, 0, 16, 42, 89, 180, 0, 95, 4, 96, 181, 0, 95, 167, 255, 220, 42, 42, 180, 0, 95, 181, 0, 101]
abbrev dktX4_nextToken_1 : List UInt8 := dkwX4_nextToken_1 ++ dktX4_nextToken_2
def dkwX4_nextToken_0 : List UInt8 := [42, 42, 180, 0, 95, 182, 0, 98, 16, 32, 159, 0, 16, 42, 42, 180, 0, 95, 182, 0, 98, 16, 10]
abbrev dktX4_nextToken_0 : List UInt8 := dkwX4_nextToken_0 ++ dktX4_nextToken_1
theorem dksX4_nextToken_0 : cX4_nextToken.data.toList.drop 0 = dktX4_nextToken_0 := by decide +kernel
theorem dksX4_nextToken_1 : cX4_nextToken.data.toList.drop 23 = dktX4_nextToken_1 := dk_seg dksX4_nextToken_0 23 rfl rfl
theorem dksX4_nextToken_2 : cX4_nextToken.data.toList.drop 47 = dktX4_nextToken_2 := dk_seg dksX4_nextToken_1 24 rfl rfl
theorem dksX4_nextToken_3 : cX4_nextToken.data.toList.drop 71 = dktX4_nextToken_3 := dk_seg dksX4_nextToken_2 24 rfl rfl
theorem dksX4_nextToken_4 : cX4_nextToken.data.toList.drop 93 = dktX4_nextToken_4 := dk_seg dksX4_nextToken_3 22 rfl rfl
theorem dksX4_nextToken_5 : cX4_nextToken.data.toList.drop 117 = dktX4_nextToken_5 := dk_seg dksX4_nextToken_4 24 rfl rfl
theorem dksX4_nextToken_6 : cX4_nextToken.data.toList.drop 141 = dktX4_nextToken_6 := dk_seg dksX4_nextToken_5 24 rfl rfl
theorem dksX4_nextToken_7 : cX4_nextToken.data.toList.drop 164 = dktX4_nextToken_7 := dk_seg dksX4_nextToken_6 23 rfl rfl
theorem dksX4_nextToken_8 : cX4_nextToken.data.toList.drop 188 = dktX4_nextToken_8 := dk_seg dksX4_nextToken_7 24 rfl rfl
theorem dksX4_nextToken_9 : cX4_nextToken.data.toList.drop 212 = dktX4_nextToken_9 := dk_seg dksX4_nextToken_8 24 rfl rfl
theorem dksX4_nextToken_10 : cX4_nextToken.data.toList.drop 236 = dktX4_nextToken_10 := dk_seg dksX4_nextToken_9 24 rfl rfl
theorem dksX4_nextToken_11 : cX4_nextToken.data.toList.drop 260 = dktX4_nextToken_11 := dk_seg dksX4_nextToken_10 24 rfl rfl
theorem dX4_nextToken_0 : decode cX4_nextToken 0 = .ok (.aload_n 0, 1) := dk_42 (dk_at dksX4_nextToken_0 0 rfl rfl)
theorem dX4_nextToken_1 : decode cX4_nextToken 1 = .ok (.aload_n 0, 1) := dk_42 (dk_at dksX4_nextToken_0 1 rfl rfl)
theorem dX4_nextToken_2 : decode cX4_nextToken 2 = .ok (.getfield 95, 3) := dk_180 0 95 (dk_at dksX4_nextToken_0 2 rfl rfl)
theorem dX4_nextToken_5 : decode cX4_nextToken 5 = .ok (.invokevirtual 98, 3) := dk_182 0 98 (dk_at dksX4_nextToken_0 5 rfl rfl)
theorem dX4_nextToken_8 : decode cX4_nextToken 8 = .ok (.bipush 32, 2) := dk_16 32 (dk_at dksX4_nextToken_0 8 rfl rfl)
theorem dX4_nextToken_10 : decode cX4_nextToken 10 = .ok (.if_icmp .eq 16, 3) := dk_159 0 16 (dk_at dksX4_nextToken_0 10 rfl rfl)
theorem dX4_nextToken_13 : decode cX4_nextToken 13 = .ok (.aload_n 0, 1) := dk_42 (dk_at dksX4_nextToken_0 13 rfl rfl)
theorem dX4_nextToken_14 : decode cX4_nextToken 14 = .ok (.aload_n 0, 1) := dk_42 (dk_at dksX4_nextToken_0 14 rfl rfl)
theorem dX4_nextToken_15 : decode cX4_nextToken 15 = .ok (.getfield 95, 3) := dk_180 0 95 (dk_at dksX4_nextToken_0 15 rfl rfl)
theorem dX4_nextToken_18 : decode cX4_nextToken 18 = .ok (.invokevirtual 98, 3) := dk_182 0 98 (dk_at dksX4_nextToken_0 18 rfl rfl)
theorem dX4_nextToken_21 : decode cX4_nextToken 21 = .ok (.bipush 10, 2) := dk_16 10 (dk_at dksX4_nextToken_0 21 rfl rfl)
theorem dX4_nextToken_23 : decode cX4_nextToken 23 = .ok (.if_icmp .ne 16, 3) := dk_160 0 16 (dk_at dksX4_nextToken_1 0 rfl rfl)
theorem dX4_nextToken_26 : decode cX4_nextToken 26 = .ok (.aload_n 0, 1) := dk_42 (dk_at dksX4_nextToken_1 3 rfl rfl)
theorem dX4_nextToken_27 : decode cX4_nextToken 27 = .ok (.dup, 1) := dk_89 (dk_at dksX4_nextToken_1 4 rfl rfl)
theorem dX4_nextToken_28 : decode cX4_nextToken 28 = .ok (.getfield 95, 3) := dk_180 0 95 (dk_at dksX4_nextToken_1 5 rfl rfl)
theorem dX4_nextToken_31 : decode cX4_nextToken 31 = .ok (.iconst 1, 1) := dk_4 (dk_at dksX4_nextToken_1 8 rfl rfl)
theorem dX4_nextToken_32 : decode cX4_nextToken 32 = .ok (.iadd, 1) := dk_96 (dk_at dksX4_nextToken_1 9 rfl rfl)
theorem dX4_nextToken_33 : decode cX4_nextToken 33 = .ok (.putfield 95, 3) := dk_181 0 95 (dk_at dksX4_nextToken_1 10 rfl rfl)
theorem dX4_nextToken_36 : decode cX4_nextToken 36 = .ok (.goto (-36), 3) := dk_167 255 220 (dk_at dksX4_nextToken_1 13 rfl rfl)
theorem dX4_nextToken_39 : decode cX4_nextToken 39 = .ok (.aload_n 0, 1) := dk_42 (dk_at dksX4_nextToken_1 16 rfl rfl)
theorem dX4_nextToken_40 : decode cX4_nextToken 40 = .ok (.aload_n 0, 1) := dk_42 (dk_at dksX4_nextToken_1 17 rfl rfl)
theorem dX4_nextToken_41 : decode cX4_nextToken 41 = .ok (.getfield 95, 3) := dk_180 0 95 (dk_at dksX4_nextToken_1 18 rfl rfl)
theorem dX4_nextToken_44 : decode cX4_nextToken 44 = .ok (.putfield 101, 3) := dk_181 0 101 (dk_at dksX4_nextToken_1 21 rfl rfl)
theorem dX4_nextToken_47 : decode cX4_nextToken 47 = .ok (.aload_n 0, 1) := dk_42 (dk_at dksX4_nextToken_2 0 rfl rfl)
theorem dX4_nextToken_48 : decode cX4_nextToken 48 = .ok (.iconst 0, 1) := dk_3 (dk_at dksX4_nextToken_2 1 rfl rfl)
theorem dX4_nextToken_49 : decode cX4_nextToken 49 = .ok (.putfield 104, 3) := dk_181 0 104 (dk_at dksX4_nextToken_2 2 rfl rfl)
theorem dX4_nextToken_52 : decode cX4_nextToken 52 = .ok (.aload_n 0, 1) := dk_42 (dk_at dksX4_nextToken_2 5 rfl rfl)
theorem dX4_nextToken_53 : decode cX4_nextToken 53 = .ok (.lconst 0, 1) := dk_9 (dk_at dksX4_nextToken_2 6 rfl rfl)
theorem dX4_nextToken_54 : decode cX4_nextToken 54 = .ok (.putfield 107, 3) := dk_181 0 107 (dk_at dksX4_nextToken_2 7 rfl rfl)
theorem dX4_nextToken_57 : decode cX4_nextToken 57 = .ok (.aload_n 0, 1) := dk_42 (dk_at dksX4_nextToken_2 10 rfl rfl)
theorem dX4_nextToken_58 : decode cX4_nextToken 58 = .ok (.iconst 0, 1) := dk_3 (dk_at dksX4_nextToken_2 11 rfl rfl)
theorem dX4_nextToken_59 : decode cX4_nextToken 59 = .ok (.putfield 111, 3) := dk_181 0 111 (dk_at dksX4_nextToken_2 12 rfl rfl)
theorem dX4_nextToken_62 : decode cX4_nextToken 62 = .ok (.aload_n 0, 1) := dk_42 (dk_at dksX4_nextToken_2 15 rfl rfl)
theorem dX4_nextToken_63 : decode cX4_nextToken 63 = .ok (.aload_n 0, 1) := dk_42 (dk_at dksX4_nextToken_2 16 rfl rfl)
theorem dX4_nextToken_64 : decode cX4_nextToken 64 = .ok (.getfield 95, 3) := dk_180 0 95 (dk_at dksX4_nextToken_2 17 rfl rfl)
theorem dX4_nextToken_67 : decode cX4_nextToken 67 = .ok (.invokevirtual 98, 3) := dk_182 0 98 (dk_at dksX4_nextToken_2 20 rfl rfl)
theorem dX4_nextToken_70 : decode cX4_nextToken 70 = .ok (.istore_n 1, 1) := dk_60 (dk_at dksX4_nextToken_2 23 rfl rfl)
theorem dX4_nextToken_71 : decode cX4_nextToken 71 = .ok (.iload_n 1, 1) := dk_27 (dk_at dksX4_nextToken_3 0 rfl rfl)
theorem dX4_nextToken_72 : decode cX4_nextToken 72 = .ok (.iconst (-1), 1) := dk_2 (dk_at dksX4_nextToken_3 1 rfl rfl)
theorem dX4_nextToken_73 : decode cX4_nextToken 73 = .ok (.if_icmp .ne 11, 3) := dk_160 0 11 (dk_at dksX4_nextToken_3 2 rfl rfl)
theorem dX4_nextToken_76 : decode cX4_nextToken 76 = .ok (.aload_n 0, 1) := dk_42 (dk_at dksX4_nextToken_3 5 rfl rfl)
theorem dX4_nextToken_77 : decode cX4_nextToken 77 = .ok (.iconst 0, 1) := dk_3 (dk_at dksX4_nextToken_3 6 rfl rfl)
theorem dX4_nextToken_78 : decode cX4_nextToken 78 = .ok (.putfield 114, 3) := dk_181 0 114 (dk_at dksX4_nextToken_3 7 rfl rfl)
theorem dX4_nextToken_81 : decode cX4_nextToken 81 = .ok (.goto 197, 3) := dk_167 0 197 (dk_at dksX4_nextToken_3 10 rfl rfl)
theorem dX4_nextToken_84 : decode cX4_nextToken 84 = .ok (.iload_n 1, 1) := dk_27 (dk_at dksX4_nextToken_3 13 rfl rfl)
theorem dX4_nextToken_85 : decode cX4_nextToken 85 = .ok (.invokestatic 117, 3) := dk_184 0 117 (dk_at dksX4_nextToken_3 14 rfl rfl)
theorem dX4_nextToken_88 : decode cX4_nextToken 88 = .ok (.ifCond .eq 87, 3) := dk_153 0 87 (dk_at dksX4_nextToken_3 17 rfl rfl)
theorem dX4_nextToken_91 : decode cX4_nextToken 91 = .ok (.aload_n 0, 1) := dk_42 (dk_at dksX4_nextToken_3 20 rfl rfl)
theorem dX4_nextToken_92 : decode cX4_nextToken 92 = .ok (.iconst 2, 1) := dk_5 (dk_at dksX4_nextToken_3 21 rfl rfl)
theorem dX4_nextToken_93 : decode cX4_nextToken 93 = .ok (.putfield 114, 3) := dk_181 0 114 (dk_at dksX4_nextToken_4 0 rfl rfl)
theorem dX4_nextToken_96 : decode cX4_nextToken 96 = .ok (.aload_n 0, 1) := dk_42 (dk_at dksX4_nextToken_4 3 rfl rfl)
theorem dX4_nextToken_97 : decode cX4_nextToken 97 = .ok (.aload_n 0, 1) := dk_42 (dk_at dksX4_nextToken_4 4 rfl rfl)
theorem dX4_nextToken_98 : decode cX4_nextToken 98 = .ok (.getfield 95, 3) := dk_180 0 95 (dk_at dksX4_nextToken_4 5 rfl rfl)
theorem dX4_nextToken_101 : decode cX4_nextToken 101 = .ok (.invokevirtual 98, 3) := dk_182 0 98 (dk_at dksX4_nextToken_4 8 rfl rfl)
theorem dX4_nextToken_104 : decode cX4_nextToken 104 = .ok (.invokestatic 117, 3) := dk_184 0 117 (dk_at dksX4_nextToken_4 11 rfl rfl)
theorem dX4_nextToken_107 : decode cX4_nextToken 107 = .ok (.ifCond .eq 171, 3) := dk_153 0 171 (dk_at dksX4_nextToken_4 14 rfl rfl)
theorem dX4_nextToken_110 : decode cX4_nextToken 110 = .ok (.aload_n 0, 1) := dk_42 (dk_at dksX4_nextToken_4 17 rfl rfl)
theorem dX4_nextToken_111 : decode cX4_nextToken 111 = .ok (.aload_n 0, 1) := dk_42 (dk_at dksX4_nextToken_4 18 rfl rfl)
theorem dX4_nextToken_112 : decode cX4_nextToken 112 = .ok (.getfield 104, 3) := dk_180 0 104 (dk_at dksX4_nextToken_4 19 rfl rfl)
theorem dX4_nextToken_115 : decode cX4_nextToken 115 = .ok (.bipush 11, 2) := dk_16 11 (dk_at dksX4_nextToken_4 22 rfl rfl)
theorem dX4_nextToken_117 : decode cX4_nextToken 117 = .ok (.if_icmp .ge 28, 3) := dk_162 0 28 (dk_at dksX4_nextToken_5 0 rfl rfl)
theorem dX4_nextToken_120 : decode cX4_nextToken 120 = .ok (.ldc2_w 121, 3) := dk_20 0 121 (dk_at dksX4_nextToken_5 3 rfl rfl)
theorem dX4_nextToken_123 : decode cX4_nextToken 123 = .ok (.aload_n 0, 1) := dk_42 (dk_at dksX4_nextToken_5 6 rfl rfl)
theorem dX4_nextToken_124 : decode cX4_nextToken 124 = .ok (.getfield 107, 3) := dk_180 0 107 (dk_at dksX4_nextToken_5 7 rfl rfl)
theorem dX4_nextToken_127 : decode cX4_nextToken 127 = .ok (.lmul, 1) := dk_105 (dk_at dksX4_nextToken_5 10 rfl rfl)
theorem dX4_nextToken_128 : decode cX4_nextToken 128 = .ok (.aload_n 0, 1) := dk_42 (dk_at dksX4_nextToken_5 11 rfl rfl)
theorem dX4_nextToken_129 : decode cX4_nextToken 129 = .ok (.aload_n 0, 1) := dk_42 (dk_at dksX4_nextToken_5 12 rfl rfl)
theorem dX4_nextToken_130 : decode cX4_nextToken 130 = .ok (.getfield 95, 3) := dk_180 0 95 (dk_at dksX4_nextToken_5 13 rfl rfl)
theorem dX4_nextToken_133 : decode cX4_nextToken 133 = .ok (.invokevirtual 98, 3) := dk_182 0 98 (dk_at dksX4_nextToken_5 16 rfl rfl)
theorem dX4_nextToken_136 : decode cX4_nextToken 136 = .ok (.i2l, 1) := dk_133 (dk_at dksX4_nextToken_5 19 rfl rfl)
theorem dX4_nextToken_137 : decode cX4_nextToken 137 = .ok (.ladd, 1) := dk_97 (dk_at dksX4_nextToken_5 20 rfl rfl)
theorem dX4_nextToken_138 : decode cX4_nextToken 138 = .ok (.ldc2_w 123, 3) := dk_20 0 123 (dk_at dksX4_nextToken_5 21 rfl rfl)
theorem dX4_nextToken_141 : decode cX4_nextToken 141 = .ok (.lsub, 1) := dk_101 (dk_at dksX4_nextToken_6 0 rfl rfl)
theorem dX4_nextToken_142 : decode cX4_nextToken 142 = .ok (.goto 7, 3) := dk_167 0 7 (dk_at dksX4_nextToken_6 1 rfl rfl)
theorem dX4_nextToken_145 : decode cX4_nextToken 145 = .ok (.aload_n 0, 1) := dk_42 (dk_at dksX4_nextToken_6 4 rfl rfl)
theorem dX4_nextToken_146 : decode cX4_nextToken 146 = .ok (.getfield 107, 3) := dk_180 0 107 (dk_at dksX4_nextToken_6 5 rfl rfl)
theorem dX4_nextToken_149 : decode cX4_nextToken 149 = .ok (.putfield 107, 3) := dk_181 0 107 (dk_at dksX4_nextToken_6 8 rfl rfl)
theorem dX4_nextToken_152 : decode cX4_nextToken 152 = .ok (.aload_n 0, 1) := dk_42 (dk_at dksX4_nextToken_6 11 rfl rfl)
theorem dX4_nextToken_153 : decode cX4_nextToken 153 = .ok (.dup, 1) := dk_89 (dk_at dksX4_nextToken_6 12 rfl rfl)
theorem dX4_nextToken_154 : decode cX4_nextToken 154 = .ok (.getfield 104, 3) := dk_180 0 104 (dk_at dksX4_nextToken_6 13 rfl rfl)
theorem dX4_nextToken_157 : decode cX4_nextToken 157 = .ok (.iconst 1, 1) := dk_4 (dk_at dksX4_nextToken_6 16 rfl rfl)
theorem dX4_nextToken_158 : decode cX4_nextToken 158 = .ok (.iadd, 1) := dk_96 (dk_at dksX4_nextToken_6 17 rfl rfl)
theorem dX4_nextToken_159 : decode cX4_nextToken 159 = .ok (.putfield 104, 3) := dk_181 0 104 (dk_at dksX4_nextToken_6 18 rfl rfl)
theorem dX4_nextToken_162 : decode cX4_nextToken 162 = .ok (.aload_n 0, 1) := dk_42 (dk_at dksX4_nextToken_6 21 rfl rfl)
theorem dX4_nextToken_163 : decode cX4_nextToken 163 = .ok (.dup, 1) := dk_89 (dk_at dksX4_nextToken_6 22 rfl rfl)
theorem dX4_nextToken_164 : decode cX4_nextToken 164 = .ok (.getfield 95, 3) := dk_180 0 95 (dk_at dksX4_nextToken_7 0 rfl rfl)
theorem dX4_nextToken_167 : decode cX4_nextToken 167 = .ok (.iconst 1, 1) := dk_4 (dk_at dksX4_nextToken_7 3 rfl rfl)
theorem dX4_nextToken_168 : decode cX4_nextToken 168 = .ok (.iadd, 1) := dk_96 (dk_at dksX4_nextToken_7 4 rfl rfl)
theorem dX4_nextToken_169 : decode cX4_nextToken 169 = .ok (.putfield 95, 3) := dk_181 0 95 (dk_at dksX4_nextToken_7 5 rfl rfl)
theorem dX4_nextToken_172 : decode cX4_nextToken 172 = .ok (.goto (-76), 3) := dk_167 255 180 (dk_at dksX4_nextToken_7 8 rfl rfl)
theorem dX4_nextToken_175 : decode cX4_nextToken 175 = .ok (.iload_n 1, 1) := dk_27 (dk_at dksX4_nextToken_7 11 rfl rfl)
theorem dX4_nextToken_176 : decode cX4_nextToken 176 = .ok (.invokestatic 125, 3) := dk_184 0 125 (dk_at dksX4_nextToken_7 12 rfl rfl)
theorem dX4_nextToken_179 : decode cX4_nextToken 179 = .ok (.ifCond .eq 74, 3) := dk_153 0 74 (dk_at dksX4_nextToken_7 15 rfl rfl)
theorem dX4_nextToken_182 : decode cX4_nextToken 182 = .ok (.aload_n 0, 1) := dk_42 (dk_at dksX4_nextToken_7 18 rfl rfl)
theorem dX4_nextToken_183 : decode cX4_nextToken 183 = .ok (.iconst 3, 1) := dk_6 (dk_at dksX4_nextToken_7 19 rfl rfl)
theorem dX4_nextToken_184 : decode cX4_nextToken 184 = .ok (.putfield 114, 3) := dk_181 0 114 (dk_at dksX4_nextToken_7 20 rfl rfl)
theorem dX4_nextToken_187 : decode cX4_nextToken 187 = .ok (.aload_n 0, 1) := dk_42 (dk_at dksX4_nextToken_7 23 rfl rfl)
theorem dX4_nextToken_188 : decode cX4_nextToken 188 = .ok (.aload_n 0, 1) := dk_42 (dk_at dksX4_nextToken_8 0 rfl rfl)
theorem dX4_nextToken_189 : decode cX4_nextToken 189 = .ok (.getfield 95, 3) := dk_180 0 95 (dk_at dksX4_nextToken_8 1 rfl rfl)
theorem dX4_nextToken_192 : decode cX4_nextToken 192 = .ok (.invokevirtual 98, 3) := dk_182 0 98 (dk_at dksX4_nextToken_8 4 rfl rfl)
theorem dX4_nextToken_195 : decode cX4_nextToken 195 = .ok (.invokestatic 125, 3) := dk_184 0 125 (dk_at dksX4_nextToken_8 7 rfl rfl)
theorem dX4_nextToken_198 : decode cX4_nextToken 198 = .ok (.ifCond .eq 80, 3) := dk_153 0 80 (dk_at dksX4_nextToken_8 10 rfl rfl)
theorem dX4_nextToken_201 : decode cX4_nextToken 201 = .ok (.aload_n 0, 1) := dk_42 (dk_at dksX4_nextToken_8 13 rfl rfl)
theorem dX4_nextToken_202 : decode cX4_nextToken 202 = .ok (.aload_n 0, 1) := dk_42 (dk_at dksX4_nextToken_8 14 rfl rfl)
theorem dX4_nextToken_203 : decode cX4_nextToken 203 = .ok (.getfield 111, 3) := dk_180 0 111 (dk_at dksX4_nextToken_8 15 rfl rfl)
theorem dX4_nextToken_206 : decode cX4_nextToken 206 = .ok (.ldc 128, 2) := dk_18 128 (dk_at dksX4_nextToken_8 18 rfl rfl)
theorem dX4_nextToken_208 : decode cX4_nextToken 208 = .ok (.if_icmp .le 10, 3) := dk_164 0 10 (dk_at dksX4_nextToken_8 20 rfl rfl)
theorem dX4_nextToken_211 : decode cX4_nextToken 211 = .ok (.aload_n 0, 1) := dk_42 (dk_at dksX4_nextToken_8 23 rfl rfl)
theorem dX4_nextToken_212 : decode cX4_nextToken 212 = .ok (.getfield 111, 3) := dk_180 0 111 (dk_at dksX4_nextToken_9 0 rfl rfl)
theorem dX4_nextToken_215 : decode cX4_nextToken 215 = .ok (.goto 22, 3) := dk_167 0 22 (dk_at dksX4_nextToken_9 3 rfl rfl)
theorem dX4_nextToken_218 : decode cX4_nextToken 218 = .ok (.bipush 10, 2) := dk_16 10 (dk_at dksX4_nextToken_9 6 rfl rfl)
theorem dX4_nextToken_220 : decode cX4_nextToken 220 = .ok (.aload_n 0, 1) := dk_42 (dk_at dksX4_nextToken_9 8 rfl rfl)
theorem dX4_nextToken_221 : decode cX4_nextToken 221 = .ok (.getfield 111, 3) := dk_180 0 111 (dk_at dksX4_nextToken_9 9 rfl rfl)
theorem dX4_nextToken_224 : decode cX4_nextToken 224 = .ok (.imul, 1) := dk_104 (dk_at dksX4_nextToken_9 12 rfl rfl)
theorem dX4_nextToken_225 : decode cX4_nextToken 225 = .ok (.aload_n 0, 1) := dk_42 (dk_at dksX4_nextToken_9 13 rfl rfl)
theorem dX4_nextToken_226 : decode cX4_nextToken 226 = .ok (.aload_n 0, 1) := dk_42 (dk_at dksX4_nextToken_9 14 rfl rfl)
theorem dX4_nextToken_227 : decode cX4_nextToken 227 = .ok (.getfield 95, 3) := dk_180 0 95 (dk_at dksX4_nextToken_9 15 rfl rfl)
theorem dX4_nextToken_230 : decode cX4_nextToken 230 = .ok (.invokevirtual 98, 3) := dk_182 0 98 (dk_at dksX4_nextToken_9 18 rfl rfl)
theorem dX4_nextToken_233 : decode cX4_nextToken 233 = .ok (.iadd, 1) := dk_96 (dk_at dksX4_nextToken_9 21 rfl rfl)
theorem dX4_nextToken_234 : decode cX4_nextToken 234 = .ok (.bipush 48, 2) := dk_16 48 (dk_at dksX4_nextToken_9 22 rfl rfl)
theorem dX4_nextToken_236 : decode cX4_nextToken 236 = .ok (.isub, 1) := dk_100 (dk_at dksX4_nextToken_10 0 rfl rfl)
theorem dX4_nextToken_237 : decode cX4_nextToken 237 = .ok (.putfield 111, 3) := dk_181 0 111 (dk_at dksX4_nextToken_10 1 rfl rfl)
theorem dX4_nextToken_240 : decode cX4_nextToken 240 = .ok (.aload_n 0, 1) := dk_42 (dk_at dksX4_nextToken_10 4 rfl rfl)
theorem dX4_nextToken_241 : decode cX4_nextToken 241 = .ok (.dup, 1) := dk_89 (dk_at dksX4_nextToken_10 5 rfl rfl)
theorem dX4_nextToken_242 : decode cX4_nextToken 242 = .ok (.getfield 95, 3) := dk_180 0 95 (dk_at dksX4_nextToken_10 6 rfl rfl)
theorem dX4_nextToken_245 : decode cX4_nextToken 245 = .ok (.iconst 1, 1) := dk_4 (dk_at dksX4_nextToken_10 9 rfl rfl)
theorem dX4_nextToken_246 : decode cX4_nextToken 246 = .ok (.iadd, 1) := dk_96 (dk_at dksX4_nextToken_10 10 rfl rfl)
theorem dX4_nextToken_247 : decode cX4_nextToken 247 = .ok (.putfield 95, 3) := dk_181 0 95 (dk_at dksX4_nextToken_10 11 rfl rfl)
theorem dX4_nextToken_250 : decode cX4_nextToken 250 = .ok (.goto (-63), 3) := dk_167 255 193 (dk_at dksX4_nextToken_10 14 rfl rfl)
theorem dX4_nextToken_253 : decode cX4_nextToken 253 = .ok (.aload_n 0, 1) := dk_42 (dk_at dksX4_nextToken_10 17 rfl rfl)
theorem dX4_nextToken_254 : decode cX4_nextToken 254 = .ok (.iload_n 1, 1) := dk_27 (dk_at dksX4_nextToken_10 18 rfl rfl)
theorem dX4_nextToken_255 : decode cX4_nextToken 255 = .ok (.bipush 59, 2) := dk_16 59 (dk_at dksX4_nextToken_10 19 rfl rfl)
theorem dX4_nextToken_257 : decode cX4_nextToken 257 = .ok (.if_icmp .ne 7, 3) := dk_160 0 7 (dk_at dksX4_nextToken_10 21 rfl rfl)
theorem dX4_nextToken_260 : decode cX4_nextToken 260 = .ok (.iconst 4, 1) := dk_7 (dk_at dksX4_nextToken_11 0 rfl rfl)
theorem dX4_nextToken_261 : decode cX4_nextToken 261 = .ok (.goto 4, 3) := dk_167 0 4 (dk_at dksX4_nextToken_11 1 rfl rfl)
theorem dX4_nextToken_264 : decode cX4_nextToken 264 = .ok (.iconst 1, 1) := dk_4 (dk_at dksX4_nextToken_11 4 rfl rfl)
theorem dX4_nextToken_265 : decode cX4_nextToken 265 = .ok (.putfield 114, 3) := dk_181 0 114 (dk_at dksX4_nextToken_11 5 rfl rfl)
theorem dX4_nextToken_268 : decode cX4_nextToken 268 = .ok (.aload_n 0, 1) := dk_42 (dk_at dksX4_nextToken_11 8 rfl rfl)
theorem dX4_nextToken_269 : decode cX4_nextToken 269 = .ok (.dup, 1) := dk_89 (dk_at dksX4_nextToken_11 9 rfl rfl)
theorem dX4_nextToken_270 : decode cX4_nextToken 270 = .ok (.getfield 95, 3) := dk_180 0 95 (dk_at dksX4_nextToken_11 10 rfl rfl)
theorem dX4_nextToken_273 : decode cX4_nextToken 273 = .ok (.iconst 1, 1) := dk_4 (dk_at dksX4_nextToken_11 13 rfl rfl)
theorem dX4_nextToken_274 : decode cX4_nextToken 274 = .ok (.iadd, 1) := dk_96 (dk_at dksX4_nextToken_11 14 rfl rfl)
theorem dX4_nextToken_275 : decode cX4_nextToken 275 = .ok (.putfield 95, 3) := dk_181 0 95 (dk_at dksX4_nextToken_11 15 rfl rfl)
theorem dX4_nextToken_278 : decode cX4_nextToken 278 = .ok (.return_, 1) := dk_177 (dk_at dksX4_nextToken_11 18 rfl rfl)
theorem c_296_0 : LkP (OkP 296) [(0, o_aload 0 1), (1, o_aload 0 1), (2, o_get 158), (5, o_cv [(30, 297)] 1 3 false none), (8, o_push 2 (.int 32)), (10, o_icmp (fun x y => decide (x = y)) 26), (13, o_aload 0 1), (14, o_aload 0 1), (15, o_get 158), (18, o_cv [(30, 297)] 1 3 false none), (21, o_push 2 (.int 10)), (23, o_icmp (fun x y => decide (¬ x = y)) 39), (26, o_aload 0 1), (27, o_dup), (28, o_get 158), (31, o_push 1 (.int 1)), (32, o_iop (fun x y => x + y)), (33, o_put 158 1), (36, o_goto 0), (39, o_aload 0 1), (40, o_aload 0 1), (41, o_get 158), (44, o_put 159 1), (47, o_aload 0 1), (48, o_push 1 (.int 0)), (49, o_put 161 1), (52, o_aload 0 1), (53, o_push 1 (.long 0)), (54, o_put 165 2), (57, o_aload 0 1), (58, o_push 1 (.int 0)), (59, o_put 162 1), (62, o_aload 0 1), (63, o_aload 0 1)] := lkp_c (P := OkP 296) ⟨(PuOK.ok (ok_aload_n dX4_nextToken_0 rfl)), m_aload⟩ (
  lkp_c (P := OkP 296) ⟨(PuOK.ok (ok_aload_n dX4_nextToken_1 rfl)), m_aload⟩ (
  lkp_c (P := OkP 296) ⟨ok_get ⟨"TollRoadModel", q3090, Or.inl rfl⟩ dX4_nextToken_2, m_get⟩ (
  lkp_c (P := OkP 296) ⟨ok_cv (List.forall_mem_cons.mpr ⟨tg_V (ci := 30) (r := CLr 30) (y := 297) rfl ⟨rfl, by decide⟩ rfl q3228 q3230 qs44 q139 q3231 ⟨cn_34.1, cn_34.2, pd_48⟩ dX4_nextToken_5, (List.forall_mem_nil _)⟩) hd_no, m_cv⟩ (
  lkp_c (P := OkP 296) ⟨(PuOK.ok (ok_bipush dX4_nextToken_8 rfl)), m_push⟩ (
  lkp_c (P := OkP 296) ⟨(PuOK.ok (ok_icmp_eq dX4_nextToken_10 rfl)), m_icmp⟩ (
  lkp_c (P := OkP 296) ⟨(PuOK.ok (ok_aload_n dX4_nextToken_13 rfl)), m_aload⟩ (
  lkp_c (P := OkP 296) ⟨(PuOK.ok (ok_aload_n dX4_nextToken_14 rfl)), m_aload⟩ (
  lkp_c (P := OkP 296) ⟨ok_get ⟨"TollRoadModel", q3090, Or.inl rfl⟩ dX4_nextToken_15, m_get⟩ (
  lkp_c (P := OkP 296) ⟨ok_cv (List.forall_mem_cons.mpr ⟨tg_V (ci := 30) (r := CLr 30) (y := 297) rfl ⟨rfl, by decide⟩ rfl q3228 q3230 qs44 q139 q3231 ⟨cn_34.1, cn_34.2, pd_48⟩ dX4_nextToken_18, (List.forall_mem_nil _)⟩) hd_no, m_cv⟩ (
  lkp_c (P := OkP 296) ⟨(PuOK.ok (ok_bipush dX4_nextToken_21 rfl)), m_push⟩ (
  lkp_c (P := OkP 296) ⟨(PuOK.ok (ok_icmp_ne dX4_nextToken_23 rfl)), m_icmp⟩ (
  lkp_c (P := OkP 296) ⟨(PuOK.ok (ok_aload_n dX4_nextToken_26 rfl)), m_aload⟩ (
  lkp_c (P := OkP 296) ⟨(PuOK.ok (ok_dup dX4_nextToken_27)), m_dup⟩ (
  lkp_c (P := OkP 296) ⟨ok_get ⟨"TollRoadModel", q3090, Or.inl rfl⟩ dX4_nextToken_28, m_get⟩ (
  lkp_c (P := OkP 296) ⟨(PuOK.ok (ok_iconst dX4_nextToken_31 rfl)), m_push⟩ (
  lkp_c (P := OkP 296) ⟨(PuOK.ok (ok_iadd dX4_nextToken_32)), m_iop⟩ (
  lkp_c (P := OkP 296) ⟨ok_put ⟨"TollRoadModel", q3090, Or.inl rfl⟩ rfl fd_158 rfl dX4_nextToken_33, m_put⟩ (
  lkp_c (P := OkP 296) ⟨(PuOK.ok (ok_goto dX4_nextToken_36 rfl)), m_goto⟩ (
  lkp_c (P := OkP 296) ⟨(PuOK.ok (ok_aload_n dX4_nextToken_39 rfl)), m_aload⟩ (
  lkp_c (P := OkP 296) ⟨(PuOK.ok (ok_aload_n dX4_nextToken_40 rfl)), m_aload⟩ (
  lkp_c (P := OkP 296) ⟨ok_get ⟨"TollRoadModel", q3090, Or.inl rfl⟩ dX4_nextToken_41, m_get⟩ (
  lkp_c (P := OkP 296) ⟨ok_put ⟨"TollRoadModel", q3091, Or.inl rfl⟩ rfl fd_159 rfl dX4_nextToken_44, m_put⟩ (
  lkp_c (P := OkP 296) ⟨(PuOK.ok (ok_aload_n dX4_nextToken_47 rfl)), m_aload⟩ (
  lkp_c (P := OkP 296) ⟨(PuOK.ok (ok_iconst dX4_nextToken_48 rfl)), m_push⟩ (
  lkp_c (P := OkP 296) ⟨ok_put ⟨"TollRoadModel", q3093, Or.inl rfl⟩ rfl fd_161 rfl dX4_nextToken_49, m_put⟩ (
  lkp_c (P := OkP 296) ⟨(PuOK.ok (ok_aload_n dX4_nextToken_52 rfl)), m_aload⟩ (
  lkp_c (P := OkP 296) ⟨(PuOK.ok (ok_lconst dX4_nextToken_53 rfl)), m_push⟩ (
  lkp_c (P := OkP 296) ⟨ok_put ⟨"TollRoadModel", q3097, Or.inl rfl⟩ rfl fd_165 rfl dX4_nextToken_54, m_put⟩ (
  lkp_c (P := OkP 296) ⟨(PuOK.ok (ok_aload_n dX4_nextToken_57 rfl)), m_aload⟩ (
  lkp_c (P := OkP 296) ⟨(PuOK.ok (ok_iconst dX4_nextToken_58 rfl)), m_push⟩ (
  lkp_c (P := OkP 296) ⟨ok_put ⟨"TollRoadModel", q3094, Or.inl rfl⟩ rfl fd_162 rfl dX4_nextToken_59, m_put⟩ (
  lkp_c (P := OkP 296) ⟨(PuOK.ok (ok_aload_n dX4_nextToken_62 rfl)), m_aload⟩ (
  lkp_c (P := OkP 296) ⟨(PuOK.ok (ok_aload_n dX4_nextToken_63 rfl)), m_aload⟩ (
  trivial))))))))))))))))))))))))))))))))))
theorem c_296_1 : LkP (OkP 296) [(64, o_get 158), (67, o_cv [(30, 297)] 1 3 false none), (70, o_istore 1 1), (71, o_iload 1 1), (72, o_push 1 (.int (-1))), (73, o_icmp (fun x y => decide (¬ x = y)) 84), (76, o_aload 0 1), (77, o_push 1 (.int 0)), (78, o_put 160 1), (81, o_goto 278), (84, o_iload 1 1), (85, o_cs 298 1 false none), (88, o_if (fun x => decide (x = 0)) 175), (91, o_aload 0 1), (92, o_push 1 (.int 2)), (93, o_put 160 1), (96, o_aload 0 1), (97, o_aload 0 1), (98, o_get 158), (101, o_cv [(30, 297)] 1 3 false none), (104, o_cs 298 1 false none), (107, o_if (fun x => decide (x = 0)) 278), (110, o_aload 0 1), (111, o_aload 0 1), (112, o_get 161), (115, o_push 2 (.int 11)), (117, o_icmp (fun x y => decide (y ≤ x)) 145), (120, o_push 3 (.long 27)), (123, o_aload 0 1), (124, o_get 165), (127, o_lop (fun x y => x * y))] := lkp_c (P := OkP 296) ⟨ok_get ⟨"TollRoadModel", q3090, Or.inl rfl⟩ dX4_nextToken_64, m_get⟩ (
  lkp_c (P := OkP 296) ⟨ok_cv (List.forall_mem_cons.mpr ⟨tg_V (ci := 30) (r := CLr 30) (y := 297) rfl ⟨rfl, by decide⟩ rfl q3228 q3230 qs44 q139 q3231 ⟨cn_34.1, cn_34.2, pd_48⟩ dX4_nextToken_67, (List.forall_mem_nil _)⟩) hd_no, m_cv⟩ (
  lkp_c (P := OkP 296) ⟨(PuOK.ok (ok_istore_n dX4_nextToken_70 rfl)), m_istore⟩ (
  lkp_c (P := OkP 296) ⟨(PuOK.ok (ok_iload_n dX4_nextToken_71 rfl)), m_iload⟩ (
  lkp_c (P := OkP 296) ⟨(PuOK.ok (ok_iconst dX4_nextToken_72 rfl)), m_push⟩ (
  lkp_c (P := OkP 296) ⟨(PuOK.ok (ok_icmp_ne dX4_nextToken_73 rfl)), m_icmp⟩ (
  lkp_c (P := OkP 296) ⟨(PuOK.ok (ok_aload_n dX4_nextToken_76 rfl)), m_aload⟩ (
  lkp_c (P := OkP 296) ⟨(PuOK.ok (ok_iconst dX4_nextToken_77 rfl)), m_push⟩ (
  lkp_c (P := OkP 296) ⟨ok_put ⟨"TollRoadModel", q3092, Or.inl rfl⟩ rfl fd_160 rfl dX4_nextToken_78, m_put⟩ (
  lkp_c (P := OkP 296) ⟨(PuOK.ok (ok_goto dX4_nextToken_81 rfl)), m_goto⟩ (
  lkp_c (P := OkP 296) ⟨(PuOK.ok (ok_iload_n dX4_nextToken_84 rfl)), m_iload⟩ (
  lkp_c (P := OkP 296) ⟨ok_cs (tg_S ⟨rfl, by decide⟩ q3232 q3233 q139 q3234 ⟨cn_34.1, cn_34.2, pd_77⟩ dX4_nextToken_85) hd_no, m_cs⟩ (
  lkp_c (P := OkP 296) ⟨(PuOK.ok (ok_if_eq dX4_nextToken_88 rfl)), m_if⟩ (
  lkp_c (P := OkP 296) ⟨(PuOK.ok (ok_aload_n dX4_nextToken_91 rfl)), m_aload⟩ (
  lkp_c (P := OkP 296) ⟨(PuOK.ok (ok_iconst dX4_nextToken_92 rfl)), m_push⟩ (
  lkp_c (P := OkP 296) ⟨ok_put ⟨"TollRoadModel", q3092, Or.inl rfl⟩ rfl fd_160 rfl dX4_nextToken_93, m_put⟩ (
  lkp_c (P := OkP 296) ⟨(PuOK.ok (ok_aload_n dX4_nextToken_96 rfl)), m_aload⟩ (
  lkp_c (P := OkP 296) ⟨(PuOK.ok (ok_aload_n dX4_nextToken_97 rfl)), m_aload⟩ (
  lkp_c (P := OkP 296) ⟨ok_get ⟨"TollRoadModel", q3090, Or.inl rfl⟩ dX4_nextToken_98, m_get⟩ (
  lkp_c (P := OkP 296) ⟨ok_cv (List.forall_mem_cons.mpr ⟨tg_V (ci := 30) (r := CLr 30) (y := 297) rfl ⟨rfl, by decide⟩ rfl q3228 q3230 qs44 q139 q3231 ⟨cn_34.1, cn_34.2, pd_48⟩ dX4_nextToken_101, (List.forall_mem_nil _)⟩) hd_no, m_cv⟩ (
  lkp_c (P := OkP 296) ⟨ok_cs (tg_S ⟨rfl, by decide⟩ q3232 q3233 q139 q3234 ⟨cn_34.1, cn_34.2, pd_77⟩ dX4_nextToken_104) hd_no, m_cs⟩ (
  lkp_c (P := OkP 296) ⟨(PuOK.ok (ok_if_eq dX4_nextToken_107 rfl)), m_if⟩ (
  lkp_c (P := OkP 296) ⟨(PuOK.ok (ok_aload_n dX4_nextToken_110 rfl)), m_aload⟩ (
  lkp_c (P := OkP 296) ⟨(PuOK.ok (ok_aload_n dX4_nextToken_111 rfl)), m_aload⟩ (
  lkp_c (P := OkP 296) ⟨ok_get ⟨"TollRoadModel", q3093, Or.inl rfl⟩ dX4_nextToken_112, m_get⟩ (
  lkp_c (P := OkP 296) ⟨(PuOK.ok (ok_bipush dX4_nextToken_115 rfl)), m_push⟩ (
  lkp_c (P := OkP 296) ⟨(PuOK.ok (ok_icmp_ge dX4_nextToken_117 rfl)), m_icmp⟩ (
  lkp_c (P := OkP 296) ⟨(PuOK.ok (ok_ldc2 q3235 dX4_nextToken_120)), m_push⟩ (
  lkp_c (P := OkP 296) ⟨(PuOK.ok (ok_aload_n dX4_nextToken_123 rfl)), m_aload⟩ (
  lkp_c (P := OkP 296) ⟨ok_get ⟨"TollRoadModel", q3097, Or.inl rfl⟩ dX4_nextToken_124, m_get⟩ (
  lkp_c (P := OkP 296) ⟨(PuOK.ok (ok_lmul dX4_nextToken_127)), m_lop⟩ (
  trivial)))))))))))))))))))))))))))))))
theorem c_296_2 : LkP (OkP 296) [(128, o_aload 0 1), (129, o_aload 0 1), (130, o_get 158), (133, o_cv [(30, 297)] 1 3 false none), (136, o_i2l), (137, o_lop (fun x y => x + y)), (138, o_push 3 (.long 96)), (141, o_lop (fun x y => x - y)), (142, o_goto 149), (145, o_aload 0 1), (146, o_get 165), (149, o_put 165 2), (152, o_aload 0 1), (153, o_dup), (154, o_get 161), (157, o_push 1 (.int 1)), (158, o_iop (fun x y => x + y)), (159, o_put 161 1), (162, o_aload 0 1), (163, o_dup), (164, o_get 158), (167, o_push 1 (.int 1)), (168, o_iop (fun x y => x + y)), (169, o_put 158 1), (172, o_goto 96), (175, o_iload 1 1), (176, o_cs 299 1 false none), (179, o_if (fun x => decide (x = 0)) 253), (182, o_aload 0 1), (183, o_push 1 (.int 3)), (184, o_put 160 1), (187, o_aload 0 1), (188, o_aload 0 1), (189, o_get 158)] := lkp_c (P := OkP 296) ⟨(PuOK.ok (ok_aload_n dX4_nextToken_128 rfl)), m_aload⟩ (
  lkp_c (P := OkP 296) ⟨(PuOK.ok (ok_aload_n dX4_nextToken_129 rfl)), m_aload⟩ (
  lkp_c (P := OkP 296) ⟨ok_get ⟨"TollRoadModel", q3090, Or.inl rfl⟩ dX4_nextToken_130, m_get⟩ (
  lkp_c (P := OkP 296) ⟨ok_cv (List.forall_mem_cons.mpr ⟨tg_V (ci := 30) (r := CLr 30) (y := 297) rfl ⟨rfl, by decide⟩ rfl q3228 q3230 qs44 q139 q3231 ⟨cn_34.1, cn_34.2, pd_48⟩ dX4_nextToken_133, (List.forall_mem_nil _)⟩) hd_no, m_cv⟩ (
  lkp_c (P := OkP 296) ⟨(PuOK.ok (ok_i2l dX4_nextToken_136)), m_i2l⟩ (
  lkp_c (P := OkP 296) ⟨(PuOK.ok (ok_ladd dX4_nextToken_137)), m_lop⟩ (
  lkp_c (P := OkP 296) ⟨(PuOK.ok (ok_ldc2 q3236 dX4_nextToken_138)), m_push⟩ (
  lkp_c (P := OkP 296) ⟨(PuOK.ok (ok_lsub dX4_nextToken_141)), m_lop⟩ (
  lkp_c (P := OkP 296) ⟨(PuOK.ok (ok_goto dX4_nextToken_142 rfl)), m_goto⟩ (
  lkp_c (P := OkP 296) ⟨(PuOK.ok (ok_aload_n dX4_nextToken_145 rfl)), m_aload⟩ (
  lkp_c (P := OkP 296) ⟨ok_get ⟨"TollRoadModel", q3097, Or.inl rfl⟩ dX4_nextToken_146, m_get⟩ (
  lkp_c (P := OkP 296) ⟨ok_put ⟨"TollRoadModel", q3097, Or.inl rfl⟩ rfl fd_165 rfl dX4_nextToken_149, m_put⟩ (
  lkp_c (P := OkP 296) ⟨(PuOK.ok (ok_aload_n dX4_nextToken_152 rfl)), m_aload⟩ (
  lkp_c (P := OkP 296) ⟨(PuOK.ok (ok_dup dX4_nextToken_153)), m_dup⟩ (
  lkp_c (P := OkP 296) ⟨ok_get ⟨"TollRoadModel", q3093, Or.inl rfl⟩ dX4_nextToken_154, m_get⟩ (
  lkp_c (P := OkP 296) ⟨(PuOK.ok (ok_iconst dX4_nextToken_157 rfl)), m_push⟩ (
  lkp_c (P := OkP 296) ⟨(PuOK.ok (ok_iadd dX4_nextToken_158)), m_iop⟩ (
  lkp_c (P := OkP 296) ⟨ok_put ⟨"TollRoadModel", q3093, Or.inl rfl⟩ rfl fd_161 rfl dX4_nextToken_159, m_put⟩ (
  lkp_c (P := OkP 296) ⟨(PuOK.ok (ok_aload_n dX4_nextToken_162 rfl)), m_aload⟩ (
  lkp_c (P := OkP 296) ⟨(PuOK.ok (ok_dup dX4_nextToken_163)), m_dup⟩ (
  lkp_c (P := OkP 296) ⟨ok_get ⟨"TollRoadModel", q3090, Or.inl rfl⟩ dX4_nextToken_164, m_get⟩ (
  lkp_c (P := OkP 296) ⟨(PuOK.ok (ok_iconst dX4_nextToken_167 rfl)), m_push⟩ (
  lkp_c (P := OkP 296) ⟨(PuOK.ok (ok_iadd dX4_nextToken_168)), m_iop⟩ (
  lkp_c (P := OkP 296) ⟨ok_put ⟨"TollRoadModel", q3090, Or.inl rfl⟩ rfl fd_158 rfl dX4_nextToken_169, m_put⟩ (
  lkp_c (P := OkP 296) ⟨(PuOK.ok (ok_goto dX4_nextToken_172 rfl)), m_goto⟩ (
  lkp_c (P := OkP 296) ⟨(PuOK.ok (ok_iload_n dX4_nextToken_175 rfl)), m_iload⟩ (
  lkp_c (P := OkP 296) ⟨ok_cs (tg_S ⟨rfl, by decide⟩ q3237 q3238 q139 q3239 ⟨cn_34.1, cn_34.2, pd_77⟩ dX4_nextToken_176) hd_no, m_cs⟩ (
  lkp_c (P := OkP 296) ⟨(PuOK.ok (ok_if_eq dX4_nextToken_179 rfl)), m_if⟩ (
  lkp_c (P := OkP 296) ⟨(PuOK.ok (ok_aload_n dX4_nextToken_182 rfl)), m_aload⟩ (
  lkp_c (P := OkP 296) ⟨(PuOK.ok (ok_iconst dX4_nextToken_183 rfl)), m_push⟩ (
  lkp_c (P := OkP 296) ⟨ok_put ⟨"TollRoadModel", q3092, Or.inl rfl⟩ rfl fd_160 rfl dX4_nextToken_184, m_put⟩ (
  lkp_c (P := OkP 296) ⟨(PuOK.ok (ok_aload_n dX4_nextToken_187 rfl)), m_aload⟩ (
  lkp_c (P := OkP 296) ⟨(PuOK.ok (ok_aload_n dX4_nextToken_188 rfl)), m_aload⟩ (
  lkp_c (P := OkP 296) ⟨ok_get ⟨"TollRoadModel", q3090, Or.inl rfl⟩ dX4_nextToken_189, m_get⟩ (
  trivial))))))))))))))))))))))))))))))))))
theorem c_296_3 : LkP (OkP 296) [(192, o_cv [(30, 297)] 1 3 false none), (195, o_cs 299 1 false none), (198, o_if (fun x => decide (x = 0)) 278), (201, o_aload 0 1), (202, o_aload 0 1), (203, o_get 162), (206, o_push 2 (.int 10000000)), (208, o_icmp (fun x y => decide (x ≤ y)) 218), (211, o_aload 0 1), (212, o_get 162), (215, o_goto 237), (218, o_push 2 (.int 10)), (220, o_aload 0 1), (221, o_get 162), (224, o_iop (fun x y => x * y)), (225, o_aload 0 1), (226, o_aload 0 1), (227, o_get 158), (230, o_cv [(30, 297)] 1 3 false none), (233, o_iop (fun x y => x + y)), (234, o_push 2 (.int 48)), (236, o_iop (fun x y => x - y)), (237, o_put 162 1), (240, o_aload 0 1), (241, o_dup), (242, o_get 158), (245, o_push 1 (.int 1)), (246, o_iop (fun x y => x + y)), (247, o_put 158 1), (250, o_goto 187), (253, o_aload 0 1), (254, o_iload 1 1), (255, o_push 2 (.int 59))] := lkp_c (P := OkP 296) ⟨ok_cv (List.forall_mem_cons.mpr ⟨tg_V (ci := 30) (r := CLr 30) (y := 297) rfl ⟨rfl, by decide⟩ rfl q3228 q3230 qs44 q139 q3231 ⟨cn_34.1, cn_34.2, pd_48⟩ dX4_nextToken_192, (List.forall_mem_nil _)⟩) hd_no, m_cv⟩ (
  lkp_c (P := OkP 296) ⟨ok_cs (tg_S ⟨rfl, by decide⟩ q3237 q3238 q139 q3239 ⟨cn_34.1, cn_34.2, pd_77⟩ dX4_nextToken_195) hd_no, m_cs⟩ (
  lkp_c (P := OkP 296) ⟨(PuOK.ok (ok_if_eq dX4_nextToken_198 rfl)), m_if⟩ (
  lkp_c (P := OkP 296) ⟨(PuOK.ok (ok_aload_n dX4_nextToken_201 rfl)), m_aload⟩ (
  lkp_c (P := OkP 296) ⟨(PuOK.ok (ok_aload_n dX4_nextToken_202 rfl)), m_aload⟩ (
  lkp_c (P := OkP 296) ⟨ok_get ⟨"TollRoadModel", q3094, Or.inl rfl⟩ dX4_nextToken_203, m_get⟩ (
  lkp_c (P := OkP 296) ⟨(PuOK.ok (ok_ldc q3240 dX4_nextToken_206)), m_push⟩ (
  lkp_c (P := OkP 296) ⟨(PuOK.ok (ok_icmp_le dX4_nextToken_208 rfl)), m_icmp⟩ (
  lkp_c (P := OkP 296) ⟨(PuOK.ok (ok_aload_n dX4_nextToken_211 rfl)), m_aload⟩ (
  lkp_c (P := OkP 296) ⟨ok_get ⟨"TollRoadModel", q3094, Or.inl rfl⟩ dX4_nextToken_212, m_get⟩ (
  lkp_c (P := OkP 296) ⟨(PuOK.ok (ok_goto dX4_nextToken_215 rfl)), m_goto⟩ (
  lkp_c (P := OkP 296) ⟨(PuOK.ok (ok_bipush dX4_nextToken_218 rfl)), m_push⟩ (
  lkp_c (P := OkP 296) ⟨(PuOK.ok (ok_aload_n dX4_nextToken_220 rfl)), m_aload⟩ (
  lkp_c (P := OkP 296) ⟨ok_get ⟨"TollRoadModel", q3094, Or.inl rfl⟩ dX4_nextToken_221, m_get⟩ (
  lkp_c (P := OkP 296) ⟨(PuOK.ok (ok_imul dX4_nextToken_224)), m_iop⟩ (
  lkp_c (P := OkP 296) ⟨(PuOK.ok (ok_aload_n dX4_nextToken_225 rfl)), m_aload⟩ (
  lkp_c (P := OkP 296) ⟨(PuOK.ok (ok_aload_n dX4_nextToken_226 rfl)), m_aload⟩ (
  lkp_c (P := OkP 296) ⟨ok_get ⟨"TollRoadModel", q3090, Or.inl rfl⟩ dX4_nextToken_227, m_get⟩ (
  lkp_c (P := OkP 296) ⟨ok_cv (List.forall_mem_cons.mpr ⟨tg_V (ci := 30) (r := CLr 30) (y := 297) rfl ⟨rfl, by decide⟩ rfl q3228 q3230 qs44 q139 q3231 ⟨cn_34.1, cn_34.2, pd_48⟩ dX4_nextToken_230, (List.forall_mem_nil _)⟩) hd_no, m_cv⟩ (
  lkp_c (P := OkP 296) ⟨(PuOK.ok (ok_iadd dX4_nextToken_233)), m_iop⟩ (
  lkp_c (P := OkP 296) ⟨(PuOK.ok (ok_bipush dX4_nextToken_234 rfl)), m_push⟩ (
  lkp_c (P := OkP 296) ⟨(PuOK.ok (ok_isub dX4_nextToken_236)), m_iop⟩ (
  lkp_c (P := OkP 296) ⟨ok_put ⟨"TollRoadModel", q3094, Or.inl rfl⟩ rfl fd_162 rfl dX4_nextToken_237, m_put⟩ (
  lkp_c (P := OkP 296) ⟨(PuOK.ok (ok_aload_n dX4_nextToken_240 rfl)), m_aload⟩ (
  lkp_c (P := OkP 296) ⟨(PuOK.ok (ok_dup dX4_nextToken_241)), m_dup⟩ (
  lkp_c (P := OkP 296) ⟨ok_get ⟨"TollRoadModel", q3090, Or.inl rfl⟩ dX4_nextToken_242, m_get⟩ (
  lkp_c (P := OkP 296) ⟨(PuOK.ok (ok_iconst dX4_nextToken_245 rfl)), m_push⟩ (
  lkp_c (P := OkP 296) ⟨(PuOK.ok (ok_iadd dX4_nextToken_246)), m_iop⟩ (
  lkp_c (P := OkP 296) ⟨ok_put ⟨"TollRoadModel", q3090, Or.inl rfl⟩ rfl fd_158 rfl dX4_nextToken_247, m_put⟩ (
  lkp_c (P := OkP 296) ⟨(PuOK.ok (ok_goto dX4_nextToken_250 rfl)), m_goto⟩ (
  lkp_c (P := OkP 296) ⟨(PuOK.ok (ok_aload_n dX4_nextToken_253 rfl)), m_aload⟩ (
  lkp_c (P := OkP 296) ⟨(PuOK.ok (ok_iload_n dX4_nextToken_254 rfl)), m_iload⟩ (
  lkp_c (P := OkP 296) ⟨(PuOK.ok (ok_bipush dX4_nextToken_255 rfl)), m_push⟩ (
  trivial)))))))))))))))))))))))))))))))))
theorem c_296_4 : LkP (OkP 296) [(257, o_icmp (fun x y => decide (¬ x = y)) 264), (260, o_push 1 (.int 4)), (261, o_goto 265), (264, o_push 1 (.int 1)), (265, o_put 160 1), (268, o_aload 0 1), (269, o_dup), (270, o_get 158), (273, o_push 1 (.int 1)), (274, o_iop (fun x y => x + y)), (275, o_put 158 1), (278, o_vret)] := lkp_c (P := OkP 296) ⟨(PuOK.ok (ok_icmp_ne dX4_nextToken_257 rfl)), m_icmp⟩ (
  lkp_c (P := OkP 296) ⟨(PuOK.ok (ok_iconst dX4_nextToken_260 rfl)), m_push⟩ (
  lkp_c (P := OkP 296) ⟨(PuOK.ok (ok_goto dX4_nextToken_261 rfl)), m_goto⟩ (
  lkp_c (P := OkP 296) ⟨(PuOK.ok (ok_iconst dX4_nextToken_264 rfl)), m_push⟩ (
  lkp_c (P := OkP 296) ⟨ok_put ⟨"TollRoadModel", q3092, Or.inl rfl⟩ rfl fd_160 rfl dX4_nextToken_265, m_put⟩ (
  lkp_c (P := OkP 296) ⟨(PuOK.ok (ok_aload_n dX4_nextToken_268 rfl)), m_aload⟩ (
  lkp_c (P := OkP 296) ⟨(PuOK.ok (ok_dup dX4_nextToken_269)), m_dup⟩ (
  lkp_c (P := OkP 296) ⟨ok_get ⟨"TollRoadModel", q3090, Or.inl rfl⟩ dX4_nextToken_270, m_get⟩ (
  lkp_c (P := OkP 296) ⟨(PuOK.ok (ok_iconst dX4_nextToken_273 rfl)), m_push⟩ (
  lkp_c (P := OkP 296) ⟨(PuOK.ok (ok_iadd dX4_nextToken_274)), m_iop⟩ (
  lkp_c (P := OkP 296) ⟨ok_put ⟨"TollRoadModel", q3090, Or.inl rfl⟩ rfl fd_158 rfl dX4_nextToken_275, m_put⟩ (
  lkp_c (P := OkP 296) ⟨ok_vret rfl dX4_nextToken_278, m_vret⟩ (
  trivial))))))))))))
theorem mt_296 : MtOK TB NT IT 296 := ⟨by decide +kernel, rfl, (fun h => by cases h), Or.inl ⟨rfl, rfl⟩, rfl, by decide, lk2_all (P := OkP 296) ⟨c_296_0, c_296_1, c_296_2, c_296_3, c_296_4, trivial⟩⟩
def dkwX4_byteAt_0 : List UInt8 := [27, 42, 180, 0, 84, 162, 0, 12, 42, 180, 0, 32, 27, 46, 167, 0, 4, 2, 172]
abbrev dktX4_byteAt_0 : List UInt8 := dkwX4_byteAt_0 ++ []
theorem dksX4_byteAt_0 : cX4_byteAt.data.toList.drop 0 = dktX4_byteAt_0 := by decide +kernel
theorem dX4_byteAt_0 : decode cX4_byteAt 0 = .ok (.iload_n 1, 1) := dk_27 (dk_at dksX4_byteAt_0 0 rfl rfl)
theorem dX4_byteAt_1 : decode cX4_byteAt 1 = .ok (.aload_n 0, 1) := dk_42 (dk_at dksX4_byteAt_0 1 rfl rfl)
theorem dX4_byteAt_2 : decode cX4_byteAt 2 = .ok (.getfield 84, 3) := dk_180 0 84 (dk_at dksX4_byteAt_0 2 rfl rfl)
theorem dX4_byteAt_5 : decode cX4_byteAt 5 = .ok (.if_icmp .ge 12, 3) := dk_162 0 12 (dk_at dksX4_byteAt_0 5 rfl rfl)
theorem dX4_byteAt_8 : decode cX4_byteAt 8 = .ok (.aload_n 0, 1) := dk_42 (dk_at dksX4_byteAt_0 8 rfl rfl)
theorem dX4_byteAt_9 : decode cX4_byteAt 9 = .ok (.getfield 32, 3) := dk_180 0 32 (dk_at dksX4_byteAt_0 9 rfl rfl)
theorem dX4_byteAt_12 : decode cX4_byteAt 12 = .ok (.iload_n 1, 1) := dk_27 (dk_at dksX4_byteAt_0 12 rfl rfl)
theorem dX4_byteAt_13 : decode cX4_byteAt 13 = .ok (.iaload, 1) := dk_46 (dk_at dksX4_byteAt_0 13 rfl rfl)
theorem dX4_byteAt_14 : decode cX4_byteAt 14 = .ok (.goto 4, 3) := dk_167 0 4 (dk_at dksX4_byteAt_0 14 rfl rfl)
theorem dX4_byteAt_17 : decode cX4_byteAt 17 = .ok (.iconst (-1), 1) := dk_2 (dk_at dksX4_byteAt_0 17 rfl rfl)
theorem dX4_byteAt_18 : decode cX4_byteAt 18 = .ok (.ireturn, 1) := dk_172 (dk_at dksX4_byteAt_0 18 rfl rfl)
theorem c_297_0 : LkP (OkP 297) [(0, o_iload 1 1), (1, o_aload 0 1), (2, o_get 157), (5, o_icmp (fun x y => decide (y ≤ x)) 17), (8, o_aload 0 1), (9, o_get 156), (12, o_iload 1 1), (13, o_rdI 0), (14, o_goto 18), (17, o_push 1 (.int (-1))), (18, o_ret 1)] := lkp_c (P := OkP 297) ⟨(PuOK.ok (ok_iload_n dX4_byteAt_0 rfl)), m_iload⟩ (
  lkp_c (P := OkP 297) ⟨(PuOK.ok (ok_aload_n dX4_byteAt_1 rfl)), m_aload⟩ (
  lkp_c (P := OkP 297) ⟨ok_get ⟨"TollRoadModel", q3089, Or.inl rfl⟩ dX4_byteAt_2, m_get⟩ (
  lkp_c (P := OkP 297) ⟨(PuOK.ok (ok_icmp_ge dX4_byteAt_5 rfl)), m_icmp⟩ (
  lkp_c (P := OkP 297) ⟨(PuOK.ok (ok_aload_n dX4_byteAt_8 rfl)), m_aload⟩ (
  lkp_c (P := OkP 297) ⟨ok_get ⟨"TollRoadModel", q3088, Or.inl rfl⟩ dX4_byteAt_9, m_get⟩ (
  lkp_c (P := OkP 297) ⟨(PuOK.ok (ok_iload_n dX4_byteAt_12 rfl)), m_iload⟩ (
  lkp_c (P := OkP 297) ⟨ok_iald dX4_byteAt_13, m_rdI⟩ (
  lkp_c (P := OkP 297) ⟨(PuOK.ok (ok_goto dX4_byteAt_14 rfl)), m_goto⟩ (
  lkp_c (P := OkP 297) ⟨(PuOK.ok (ok_iconst dX4_byteAt_17 rfl)), m_push⟩ (
  lkp_c (P := OkP 297) ⟨ok_iret rfl rfl (by decide) dX4_byteAt_18, m_ret⟩ (
  trivial)))))))))))
theorem mt_297 : MtOK TB NT IT 297 := ⟨by decide +kernel, rfl, (fun h => by cases h), Or.inl ⟨rfl, rfl⟩, rfl, by decide, lk2_all (P := OkP 297) ⟨c_297_0, trivial⟩⟩
def dkwX4_isLetter_0 : List UInt8 := [26, 16, 97, 16, 122, 184, 0, 91, 172]
abbrev dktX4_isLetter_0 : List UInt8 := dkwX4_isLetter_0 ++ []
theorem dksX4_isLetter_0 : cX4_isLetter.data.toList.drop 0 = dktX4_isLetter_0 := by decide +kernel
theorem dX4_isLetter_0 : decode cX4_isLetter 0 = .ok (.iload_n 0, 1) := dk_26 (dk_at dksX4_isLetter_0 0 rfl rfl)
theorem dX4_isLetter_1 : decode cX4_isLetter 1 = .ok (.bipush 97, 2) := dk_16 97 (dk_at dksX4_isLetter_0 1 rfl rfl)
theorem dX4_isLetter_3 : decode cX4_isLetter 3 = .ok (.bipush 122, 2) := dk_16 122 (dk_at dksX4_isLetter_0 3 rfl rfl)
theorem dX4_isLetter_5 : decode cX4_isLetter 5 = .ok (.invokestatic 91, 3) := dk_184 0 91 (dk_at dksX4_isLetter_0 5 rfl rfl)
theorem dX4_isLetter_8 : decode cX4_isLetter 8 = .ok (.ireturn, 1) := dk_172 (dk_at dksX4_isLetter_0 8 rfl rfl)
theorem c_298_0 : LkP (OkP 298) [(0, o_iload 0 1), (1, o_push 2 (.int 97)), (3, o_push 2 (.int 122)), (5, o_cs 293 3 false none), (8, o_ret 5)] := lkp_c (P := OkP 298) ⟨(PuOK.ok (ok_iload_n dX4_isLetter_0 rfl)), m_iload⟩ (
  lkp_c (P := OkP 298) ⟨(PuOK.ok (ok_bipush dX4_isLetter_1 rfl)), m_push⟩ (
  lkp_c (P := OkP 298) ⟨(PuOK.ok (ok_bipush dX4_isLetter_3 rfl)), m_push⟩ (
  lkp_c (P := OkP 298) ⟨ok_cs (tg_S ⟨rfl, by decide⟩ q3214 q3215 q139 q3216 ⟨cn_34.1, cn_34.2, pd_121⟩ dX4_isLetter_5) hd_no, m_cs⟩ (
  lkp_c (P := OkP 298) ⟨ok_iret rfl rfl (by decide) dX4_isLetter_8, m_ret⟩ (
  trivial)))))
theorem mt_298 : MtOK TB NT IT 298 := ⟨by decide +kernel, rfl, (fun h => by cases h), Or.inl ⟨rfl, rfl⟩, rfl, by decide, lk2_all (P := OkP 298) ⟨c_298_0, trivial⟩⟩
def dkwX4_isDigit_0 : List UInt8 := [26, 16, 48, 16, 57, 184, 0, 91, 172]
abbrev dktX4_isDigit_0 : List UInt8 := dkwX4_isDigit_0 ++ []
theorem dksX4_isDigit_0 : cX4_isDigit.data.toList.drop 0 = dktX4_isDigit_0 := by decide +kernel
theorem dX4_isDigit_0 : decode cX4_isDigit 0 = .ok (.iload_n 0, 1) := dk_26 (dk_at dksX4_isDigit_0 0 rfl rfl)
theorem dX4_isDigit_1 : decode cX4_isDigit 1 = .ok (.bipush 48, 2) := dk_16 48 (dk_at dksX4_isDigit_0 1 rfl rfl)
theorem dX4_isDigit_3 : decode cX4_isDigit 3 = .ok (.bipush 57, 2) := dk_16 57 (dk_at dksX4_isDigit_0 3 rfl rfl)
theorem dX4_isDigit_5 : decode cX4_isDigit 5 = .ok (.invokestatic 91, 3) := dk_184 0 91 (dk_at dksX4_isDigit_0 5 rfl rfl)
theorem dX4_isDigit_8 : decode cX4_isDigit 8 = .ok (.ireturn, 1) := dk_172 (dk_at dksX4_isDigit_0 8 rfl rfl)
theorem c_299_0 : LkP (OkP 299) [(0, o_iload 0 1), (1, o_push 2 (.int 48)), (3, o_push 2 (.int 57)), (5, o_cs 293 3 false none), (8, o_ret 5)] := lkp_c (P := OkP 299) ⟨(PuOK.ok (ok_iload_n dX4_isDigit_0 rfl)), m_iload⟩ (
  lkp_c (P := OkP 299) ⟨(PuOK.ok (ok_bipush dX4_isDigit_1 rfl)), m_push⟩ (
  lkp_c (P := OkP 299) ⟨(PuOK.ok (ok_bipush dX4_isDigit_3 rfl)), m_push⟩ (
  lkp_c (P := OkP 299) ⟨ok_cs (tg_S ⟨rfl, by decide⟩ q3214 q3215 q139 q3216 ⟨cn_34.1, cn_34.2, pd_121⟩ dX4_isDigit_5) hd_no, m_cs⟩ (
  lkp_c (P := OkP 299) ⟨ok_iret rfl rfl (by decide) dX4_isDigit_8, m_ret⟩ (
  trivial)))))
theorem mt_299 : MtOK TB NT IT 299 := ⟨by decide +kernel, rfl, (fun h => by cases h), Or.inl ⟨rfl, rfl⟩, rfl, by decide, lk2_all (P := OkP 299) ⟨c_299_0, trivial⟩⟩
def dkwX4_isFine_0 : List UInt8 := [42, 180, 0, 139, 154, 0, 7, 4, 167, 0, 4, 3, 172]
abbrev dktX4_isFine_0 : List UInt8 := dkwX4_isFine_0 ++ []
theorem dksX4_isFine_0 : cX4_isFine.data.toList.drop 0 = dktX4_isFine_0 := by decide +kernel
theorem dX4_isFine_0 : decode cX4_isFine 0 = .ok (.aload_n 0, 1) := dk_42 (dk_at dksX4_isFine_0 0 rfl rfl)
theorem dX4_isFine_1 : decode cX4_isFine 1 = .ok (.getfield 139, 3) := dk_180 0 139 (dk_at dksX4_isFine_0 1 rfl rfl)
theorem dX4_isFine_4 : decode cX4_isFine 4 = .ok (.ifCond .ne 7, 3) := dk_154 0 7 (dk_at dksX4_isFine_0 4 rfl rfl)
theorem dX4_isFine_7 : decode cX4_isFine 7 = .ok (.iconst 1, 1) := dk_4 (dk_at dksX4_isFine_0 7 rfl rfl)
theorem dX4_isFine_8 : decode cX4_isFine 8 = .ok (.goto 4, 3) := dk_167 0 4 (dk_at dksX4_isFine_0 8 rfl rfl)
theorem dX4_isFine_11 : decode cX4_isFine 11 = .ok (.iconst 0, 1) := dk_3 (dk_at dksX4_isFine_0 11 rfl rfl)
theorem dX4_isFine_12 : decode cX4_isFine 12 = .ok (.ireturn, 1) := dk_172 (dk_at dksX4_isFine_0 12 rfl rfl)
theorem c_300_0 : LkP (OkP 300) [(0, o_aload 0 1), (1, o_get 163), (4, o_if (fun x => decide (¬ x = 0)) 11), (7, o_push 1 (.int 1)), (8, o_goto 12), (11, o_push 1 (.int 0)), (12, o_ret 5)] := lkp_c (P := OkP 300) ⟨(PuOK.ok (ok_aload_n dX4_isFine_0 rfl)), m_aload⟩ (
  lkp_c (P := OkP 300) ⟨ok_get ⟨"TollRoadModel", q3095, Or.inl rfl⟩ dX4_isFine_1, m_get⟩ (
  lkp_c (P := OkP 300) ⟨(PuOK.ok (ok_if_ne dX4_isFine_4 rfl)), m_if⟩ (
  lkp_c (P := OkP 300) ⟨(PuOK.ok (ok_iconst dX4_isFine_7 rfl)), m_push⟩ (
  lkp_c (P := OkP 300) ⟨(PuOK.ok (ok_goto dX4_isFine_8 rfl)), m_goto⟩ (
  lkp_c (P := OkP 300) ⟨(PuOK.ok (ok_iconst dX4_isFine_11 rfl)), m_push⟩ (
  lkp_c (P := OkP 300) ⟨ok_iret rfl rfl (by decide) dX4_isFine_12, m_ret⟩ (
  trivial)))))))
theorem mt_300 : MtOK TB NT IT 300 := ⟨by decide +kernel, rfl, (fun h => by cases h), Or.inl ⟨rfl, rfl⟩, rfl, by decide, lk2_all (P := OkP 300) ⟨c_300_0, trivial⟩⟩
def dkwX4_parseStatement_3 : List UInt8 := [42, 180, 0, 114, 7, 160, 0, 7, 4, 167, 0, 4, 3, 4, 182, 0, 153, 42, 182, 0, 161, 177]
abbrev dktX4_parseStatement_3 : List UInt8 := dkwX4_parseStatement_3 ++ []
def dkwX4_parseStatement_2 : List UInt8 := [167, 0, 23, 42, 18, 206, 182, 0, 149, 153, 0, 10, 42, 182, 0, 208, 167, 0, 7, 42, 182, 0, 211, 42]
abbrev dktX4_parseStatement_2 : List UInt8 := dkwX4_parseStatement_2 ++ dktX4_parseStatement_3
def dkwX4_parseStatement_1 : List UInt8 := [153, 0, 10, 42, 182, 0, 200, 167, 0, 39, 42, 18, 183, 182, 0, 149, 153, 0, 10, 42, 182, 0, 203]
abbrev dktX4_parseStatement_1 : List UInt8 := dkwX4_parseStatement_1 ++ dktX4_parseStatement_2
def dkwX4_parseStatement_0 : List UInt8 := [42, 18, 193, 182, 0, 149, 153, 0, 10, 42, 182, 0, 195, 167, 0, 55, 42, 18, 198, 182, 0, 149]
abbrev dktX4_parseStatement_0 : List UInt8 := dkwX4_parseStatement_0 ++ dktX4_parseStatement_1
theorem dksX4_parseStatement_0 : cX4_parseStatement.data.toList.drop 0 = dktX4_parseStatement_0 := by decide +kernel
theorem dksX4_parseStatement_1 : cX4_parseStatement.data.toList.drop 22 = dktX4_parseStatement_1 := dk_seg dksX4_parseStatement_0 22 rfl rfl
theorem dksX4_parseStatement_2 : cX4_parseStatement.data.toList.drop 45 = dktX4_parseStatement_2 := dk_seg dksX4_parseStatement_1 23 rfl rfl
theorem dksX4_parseStatement_3 : cX4_parseStatement.data.toList.drop 69 = dktX4_parseStatement_3 := dk_seg dksX4_parseStatement_2 24 rfl rfl
theorem dX4_parseStatement_0 : decode cX4_parseStatement 0 = .ok (.aload_n 0, 1) := dk_42 (dk_at dksX4_parseStatement_0 0 rfl rfl)
theorem dX4_parseStatement_1 : decode cX4_parseStatement 1 = .ok (.ldc 193, 2) := dk_18 193 (dk_at dksX4_parseStatement_0 1 rfl rfl)
theorem dX4_parseStatement_3 : decode cX4_parseStatement 3 = .ok (.invokevirtual 149, 3) := dk_182 0 149 (dk_at dksX4_parseStatement_0 3 rfl rfl)
theorem dX4_parseStatement_6 : decode cX4_parseStatement 6 = .ok (.ifCond .eq 10, 3) := dk_153 0 10 (dk_at dksX4_parseStatement_0 6 rfl rfl)
theorem dX4_parseStatement_9 : decode cX4_parseStatement 9 = .ok (.aload_n 0, 1) := dk_42 (dk_at dksX4_parseStatement_0 9 rfl rfl)
theorem dX4_parseStatement_10 : decode cX4_parseStatement 10 = .ok (.invokevirtual 195, 3) := dk_182 0 195 (dk_at dksX4_parseStatement_0 10 rfl rfl)
theorem dX4_parseStatement_13 : decode cX4_parseStatement 13 = .ok (.goto 55, 3) := dk_167 0 55 (dk_at dksX4_parseStatement_0 13 rfl rfl)
theorem dX4_parseStatement_16 : decode cX4_parseStatement 16 = .ok (.aload_n 0, 1) := dk_42 (dk_at dksX4_parseStatement_0 16 rfl rfl)
theorem dX4_parseStatement_17 : decode cX4_parseStatement 17 = .ok (.ldc 198, 2) := dk_18 198 (dk_at dksX4_parseStatement_0 17 rfl rfl)
theorem dX4_parseStatement_19 : decode cX4_parseStatement 19 = .ok (.invokevirtual 149, 3) := dk_182 0 149 (dk_at dksX4_parseStatement_0 19 rfl rfl)
theorem dX4_parseStatement_22 : decode cX4_parseStatement 22 = .ok (.ifCond .eq 10, 3) := dk_153 0 10 (dk_at dksX4_parseStatement_1 0 rfl rfl)
theorem dX4_parseStatement_25 : decode cX4_parseStatement 25 = .ok (.aload_n 0, 1) := dk_42 (dk_at dksX4_parseStatement_1 3 rfl rfl)
theorem dX4_parseStatement_26 : decode cX4_parseStatement 26 = .ok (.invokevirtual 200, 3) := dk_182 0 200 (dk_at dksX4_parseStatement_1 4 rfl rfl)
theorem dX4_parseStatement_29 : decode cX4_parseStatement 29 = .ok (.goto 39, 3) := dk_167 0 39 (dk_at dksX4_parseStatement_1 7 rfl rfl)
theorem dX4_parseStatement_32 : decode cX4_parseStatement 32 = .ok (.aload_n 0, 1) := dk_42 (dk_at dksX4_parseStatement_1 10 rfl rfl)
theorem dX4_parseStatement_33 : decode cX4_parseStatement 33 = .ok (.ldc 183, 2) := dk_18 183 (dk_at dksX4_parseStatement_1 11 rfl rfl)
theorem dX4_parseStatement_35 : decode cX4_parseStatement 35 = .ok (.invokevirtual 149, 3) := dk_182 0 149 (dk_at dksX4_parseStatement_1 13 rfl rfl)
theorem dX4_parseStatement_38 : decode cX4_parseStatement 38 = .ok (.ifCond .eq 10, 3) := dk_153 0 10 (dk_at dksX4_parseStatement_1 16 rfl rfl)
theorem dX4_parseStatement_41 : decode cX4_parseStatement 41 = .ok (.aload_n 0, 1) := dk_42 (dk_at dksX4_parseStatement_1 19 rfl rfl)
theorem dX4_parseStatement_42 : decode cX4_parseStatement 42 = .ok (.invokevirtual 203, 3) := dk_182 0 203 (dk_at dksX4_parseStatement_1 20 rfl rfl)
theorem dX4_parseStatement_45 : decode cX4_parseStatement 45 = .ok (.goto 23, 3) := dk_167 0 23 (dk_at dksX4_parseStatement_2 0 rfl rfl)
theorem dX4_parseStatement_48 : decode cX4_parseStatement 48 = .ok (.aload_n 0, 1) := dk_42 (dk_at dksX4_parseStatement_2 3 rfl rfl)
theorem dX4_parseStatement_49 : decode cX4_parseStatement 49 = .ok (.ldc 206, 2) := dk_18 206 (dk_at dksX4_parseStatement_2 4 rfl rfl)
theorem dX4_parseStatement_51 : decode cX4_parseStatement 51 = .ok (.invokevirtual 149, 3) := dk_182 0 149 (dk_at dksX4_parseStatement_2 6 rfl rfl)
theorem dX4_parseStatement_54 : decode cX4_parseStatement 54 = .ok (.ifCond .eq 10, 3) := dk_153 0 10 (dk_at dksX4_parseStatement_2 9 rfl rfl)
theorem dX4_parseStatement_57 : decode cX4_parseStatement 57 = .ok (.aload_n 0, 1) := dk_42 (dk_at dksX4_parseStatement_2 12 rfl rfl)
theorem dX4_parseStatement_58 : decode cX4_parseStatement 58 = .ok (.invokevirtual 208, 3) := dk_182 0 208 (dk_at dksX4_parseStatement_2 13 rfl rfl)
theorem dX4_parseStatement_61 : decode cX4_parseStatement 61 = .ok (.goto 7, 3) := dk_167 0 7 (dk_at dksX4_parseStatement_2 16 rfl rfl)
theorem dX4_parseStatement_64 : decode cX4_parseStatement 64 = .ok (.aload_n 0, 1) := dk_42 (dk_at dksX4_parseStatement_2 19 rfl rfl)
theorem dX4_parseStatement_65 : decode cX4_parseStatement 65 = .ok (.invokevirtual 211, 3) := dk_182 0 211 (dk_at dksX4_parseStatement_2 20 rfl rfl)
theorem dX4_parseStatement_68 : decode cX4_parseStatement 68 = .ok (.aload_n 0, 1) := dk_42 (dk_at dksX4_parseStatement_2 23 rfl rfl)
theorem dX4_parseStatement_69 : decode cX4_parseStatement 69 = .ok (.aload_n 0, 1) := dk_42 (dk_at dksX4_parseStatement_3 0 rfl rfl)
theorem dX4_parseStatement_70 : decode cX4_parseStatement 70 = .ok (.getfield 114, 3) := dk_180 0 114 (dk_at dksX4_parseStatement_3 1 rfl rfl)
theorem dX4_parseStatement_73 : decode cX4_parseStatement 73 = .ok (.iconst 4, 1) := dk_7 (dk_at dksX4_parseStatement_3 4 rfl rfl)
theorem dX4_parseStatement_74 : decode cX4_parseStatement 74 = .ok (.if_icmp .ne 7, 3) := dk_160 0 7 (dk_at dksX4_parseStatement_3 5 rfl rfl)
theorem dX4_parseStatement_77 : decode cX4_parseStatement 77 = .ok (.iconst 1, 1) := dk_4 (dk_at dksX4_parseStatement_3 8 rfl rfl)
theorem dX4_parseStatement_78 : decode cX4_parseStatement 78 = .ok (.goto 4, 3) := dk_167 0 4 (dk_at dksX4_parseStatement_3 9 rfl rfl)
theorem dX4_parseStatement_81 : decode cX4_parseStatement 81 = .ok (.iconst 0, 1) := dk_3 (dk_at dksX4_parseStatement_3 12 rfl rfl)
theorem dX4_parseStatement_82 : decode cX4_parseStatement 82 = .ok (.iconst 1, 1) := dk_4 (dk_at dksX4_parseStatement_3 13 rfl rfl)
theorem dX4_parseStatement_83 : decode cX4_parseStatement 83 = .ok (.invokevirtual 153, 3) := dk_182 0 153 (dk_at dksX4_parseStatement_3 14 rfl rfl)
theorem dX4_parseStatement_86 : decode cX4_parseStatement 86 = .ok (.aload_n 0, 1) := dk_42 (dk_at dksX4_parseStatement_3 17 rfl rfl)
theorem dX4_parseStatement_87 : decode cX4_parseStatement 87 = .ok (.invokevirtual 161, 3) := dk_182 0 161 (dk_at dksX4_parseStatement_3 18 rfl rfl)
theorem dX4_parseStatement_90 : decode cX4_parseStatement 90 = .ok (.return_, 1) := dk_177 (dk_at dksX4_parseStatement_3 21 rfl rfl)
theorem c_301_0 : LkP (OkP 301) [(0, o_aload 0 1), (1, o_pushA 2 2), (3, o_cv [(30, 302)] 1 3 false none), (6, o_if (fun x => decide (x = 0)) 16), (9, o_aload 0 1), (10, o_cv [(30, 303)] 0 3 true none), (13, o_goto 68), (16, o_aload 0 1), (17, o_pushA 2 3), (19, o_cv [(30, 302)] 1 3 false none), (22, o_if (fun x => decide (x = 0)) 32), (25, o_aload 0 1), (26, o_cv [(30, 309)] 0 3 true none), (29, o_goto 68), (32, o_aload 0 1), (33, o_pushA 2 4), (35, o_cv [(30, 302)] 1 3 false none), (38, o_if (fun x => decide (x = 0)) 48), (41, o_aload 0 1), (42, o_cv [(30, 312)] 0 3 true none), (45, o_goto 68), (48, o_aload 0 1), (49, o_pushA 2 5), (51, o_cv [(30, 302)] 1 3 false none), (54, o_if (fun x => decide (x = 0)) 64), (57, o_aload 0 1), (58, o_cv [(30, 315)] 0 3 true none), (61, o_goto 68)] := lkp_c (P := OkP 301) ⟨(PuOK.ok (ok_aload_n dX4_parseStatement_0 rfl)), m_aload⟩ (
  lkp_c (P := OkP 301) ⟨ok_ldcS (tx := "gantry") (by decide +kernel) dX4_parseStatement_1, m_pushA⟩ (
  lkp_c (P := OkP 301) ⟨ok_cv (List.forall_mem_cons.mpr ⟨tg_V (ci := 30) (r := CLr 30) (y := 302) rfl ⟨rfl, by decide⟩ rfl q3250 q3252 qs47 q139 q3253 ⟨cn_34.1, cn_34.2, pd_123⟩ dX4_parseStatement_3, (List.forall_mem_nil _)⟩) hd_no, m_cv⟩ (
  lkp_c (P := OkP 301) ⟨(PuOK.ok (ok_if_eq dX4_parseStatement_6 rfl)), m_if⟩ (
  lkp_c (P := OkP 301) ⟨(PuOK.ok (ok_aload_n dX4_parseStatement_9 rfl)), m_aload⟩ (
  lkp_c (P := OkP 301) ⟨ok_cv (List.forall_mem_cons.mpr ⟨tg_V (ci := 30) (r := CLr 30) (y := 303) rfl ⟨rfl, by decide⟩ rfl q3266 q3268 qs48 q139 q3269 ⟨cn_34.1, cn_34.2, pd_0⟩ dX4_parseStatement_10, (List.forall_mem_nil _)⟩) hd_no, m_cv⟩ (
  lkp_c (P := OkP 301) ⟨(PuOK.ok (ok_goto dX4_parseStatement_13 rfl)), m_goto⟩ (
  lkp_c (P := OkP 301) ⟨(PuOK.ok (ok_aload_n dX4_parseStatement_16 rfl)), m_aload⟩ (
  lkp_c (P := OkP 301) ⟨ok_ldcS (tx := "road") (by decide +kernel) dX4_parseStatement_17, m_pushA⟩ (
  lkp_c (P := OkP 301) ⟨ok_cv (List.forall_mem_cons.mpr ⟨tg_V (ci := 30) (r := CLr 30) (y := 302) rfl ⟨rfl, by decide⟩ rfl q3250 q3252 qs47 q139 q3253 ⟨cn_34.1, cn_34.2, pd_123⟩ dX4_parseStatement_19, (List.forall_mem_nil _)⟩) hd_no, m_cv⟩ (
  lkp_c (P := OkP 301) ⟨(PuOK.ok (ok_if_eq dX4_parseStatement_22 rfl)), m_if⟩ (
  lkp_c (P := OkP 301) ⟨(PuOK.ok (ok_aload_n dX4_parseStatement_25 rfl)), m_aload⟩ (
  lkp_c (P := OkP 301) ⟨ok_cv (List.forall_mem_cons.mpr ⟨tg_V (ci := 30) (r := CLr 30) (y := 309) rfl ⟨rfl, by decide⟩ rfl q3291 q3293 qs54 q139 q3294 ⟨cn_34.1, cn_34.2, pd_0⟩ dX4_parseStatement_26, (List.forall_mem_nil _)⟩) hd_no, m_cv⟩ (
  lkp_c (P := OkP 301) ⟨(PuOK.ok (ok_goto dX4_parseStatement_29 rfl)), m_goto⟩ (
  lkp_c (P := OkP 301) ⟨(PuOK.ok (ok_aload_n dX4_parseStatement_32 rfl)), m_aload⟩ (
  lkp_c (P := OkP 301) ⟨ok_ldcS (tx := "account") (by decide +kernel) dX4_parseStatement_33, m_pushA⟩ (
  lkp_c (P := OkP 301) ⟨ok_cv (List.forall_mem_cons.mpr ⟨tg_V (ci := 30) (r := CLr 30) (y := 302) rfl ⟨rfl, by decide⟩ rfl q3250 q3252 qs47 q139 q3253 ⟨cn_34.1, cn_34.2, pd_123⟩ dX4_parseStatement_35, (List.forall_mem_nil _)⟩) hd_no, m_cv⟩ (
  lkp_c (P := OkP 301) ⟨(PuOK.ok (ok_if_eq dX4_parseStatement_38 rfl)), m_if⟩ (
  lkp_c (P := OkP 301) ⟨(PuOK.ok (ok_aload_n dX4_parseStatement_41 rfl)), m_aload⟩ (
  lkp_c (P := OkP 301) ⟨ok_cv (List.forall_mem_cons.mpr ⟨tg_V (ci := 30) (r := CLr 30) (y := 312) rfl ⟨rfl, by decide⟩ rfl q3304 q3306 qs57 q139 q3307 ⟨cn_34.1, cn_34.2, pd_0⟩ dX4_parseStatement_42, (List.forall_mem_nil _)⟩) hd_no, m_cv⟩ (
  lkp_c (P := OkP 301) ⟨(PuOK.ok (ok_goto dX4_parseStatement_45 rfl)), m_goto⟩ (
  lkp_c (P := OkP 301) ⟨(PuOK.ok (ok_aload_n dX4_parseStatement_48 rfl)), m_aload⟩ (
  lkp_c (P := OkP 301) ⟨ok_ldcS (tx := "vehicle") (by decide +kernel) dX4_parseStatement_49, m_pushA⟩ (
  lkp_c (P := OkP 301) ⟨ok_cv (List.forall_mem_cons.mpr ⟨tg_V (ci := 30) (r := CLr 30) (y := 302) rfl ⟨rfl, by decide⟩ rfl q3250 q3252 qs47 q139 q3253 ⟨cn_34.1, cn_34.2, pd_123⟩ dX4_parseStatement_51, (List.forall_mem_nil _)⟩) hd_no, m_cv⟩ (
  lkp_c (P := OkP 301) ⟨(PuOK.ok (ok_if_eq dX4_parseStatement_54 rfl)), m_if⟩ (
  lkp_c (P := OkP 301) ⟨(PuOK.ok (ok_aload_n dX4_parseStatement_57 rfl)), m_aload⟩ (
  lkp_c (P := OkP 301) ⟨ok_cv (List.forall_mem_cons.mpr ⟨tg_V (ci := 30) (r := CLr 30) (y := 315) rfl ⟨rfl, by decide⟩ rfl q3318 q3320 qs60 q139 q3321 ⟨cn_34.1, cn_34.2, pd_0⟩ dX4_parseStatement_58, (List.forall_mem_nil _)⟩) hd_no, m_cv⟩ (
  lkp_c (P := OkP 301) ⟨(PuOK.ok (ok_goto dX4_parseStatement_61 rfl)), m_goto⟩ (
  trivial))))))))))))))))))))))))))))
theorem c_301_1 : LkP (OkP 301) [(64, o_aload 0 1), (65, o_cv [(30, 318)] 0 3 true none), (68, o_aload 0 1), (69, o_aload 0 1), (70, o_get 160), (73, o_push 1 (.int 4)), (74, o_icmp (fun x y => decide (¬ x = y)) 81), (77, o_push 1 (.int 1)), (78, o_goto 82), (81, o_push 1 (.int 0)), (82, o_push 1 (.int 1)), (83, o_cv [(30, 304)] 2 3 true none), (86, o_aload 0 1), (87, o_cv [(30, 305)] 0 3 true none), (90, o_vret)] := lkp_c (P := OkP 301) ⟨(PuOK.ok (ok_aload_n dX4_parseStatement_64 rfl)), m_aload⟩ (
  lkp_c (P := OkP 301) ⟨ok_cv (List.forall_mem_cons.mpr ⟨tg_V (ci := 30) (r := CLr 30) (y := 318) rfl ⟨rfl, by decide⟩ rfl q3330 q3332 qs63 q139 q3333 ⟨cn_34.1, cn_34.2, pd_0⟩ dX4_parseStatement_65, (List.forall_mem_nil _)⟩) hd_no, m_cv⟩ (
  lkp_c (P := OkP 301) ⟨(PuOK.ok (ok_aload_n dX4_parseStatement_68 rfl)), m_aload⟩ (
  lkp_c (P := OkP 301) ⟨(PuOK.ok (ok_aload_n dX4_parseStatement_69 rfl)), m_aload⟩ (
  lkp_c (P := OkP 301) ⟨ok_get ⟨"TollRoadModel", q3092, Or.inl rfl⟩ dX4_parseStatement_70, m_get⟩ (
  lkp_c (P := OkP 301) ⟨(PuOK.ok (ok_iconst dX4_parseStatement_73 rfl)), m_push⟩ (
  lkp_c (P := OkP 301) ⟨(PuOK.ok (ok_icmp_ne dX4_parseStatement_74 rfl)), m_icmp⟩ (
  lkp_c (P := OkP 301) ⟨(PuOK.ok (ok_iconst dX4_parseStatement_77 rfl)), m_push⟩ (
  lkp_c (P := OkP 301) ⟨(PuOK.ok (ok_goto dX4_parseStatement_78 rfl)), m_goto⟩ (
  lkp_c (P := OkP 301) ⟨(PuOK.ok (ok_iconst dX4_parseStatement_81 rfl)), m_push⟩ (
  lkp_c (P := OkP 301) ⟨(PuOK.ok (ok_iconst dX4_parseStatement_82 rfl)), m_push⟩ (
  lkp_c (P := OkP 301) ⟨ok_cv (List.forall_mem_cons.mpr ⟨tg_V (ci := 30) (r := CLr 30) (y := 304) rfl ⟨rfl, by decide⟩ rfl q3270 q3272 qs49 q139 q3273 ⟨cn_34.1, cn_34.2, pd_124⟩ dX4_parseStatement_83, (List.forall_mem_nil _)⟩) hd_no, m_cv⟩ (
  lkp_c (P := OkP 301) ⟨(PuOK.ok (ok_aload_n dX4_parseStatement_86 rfl)), m_aload⟩ (
  lkp_c (P := OkP 301) ⟨ok_cv (List.forall_mem_cons.mpr ⟨tg_V (ci := 30) (r := CLr 30) (y := 305) rfl ⟨rfl, by decide⟩ rfl q3274 q3276 qs50 q139 q3277 ⟨cn_34.1, cn_34.2, pd_0⟩ dX4_parseStatement_87, (List.forall_mem_nil _)⟩) hd_no, m_cv⟩ (
  lkp_c (P := OkP 301) ⟨ok_vret rfl dX4_parseStatement_90, m_vret⟩ (
  trivial)))))))))))))))
theorem mt_301 : MtOK TB NT IT 301 := ⟨by decide +kernel, rfl, (fun h => by cases h), Or.inl ⟨rfl, rfl⟩, rfl, by decide, lk2_all (P := OkP 301) ⟨c_301_0, c_301_1, trivial⟩⟩
