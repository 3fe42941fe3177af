set_option maxRecDepth 100000
/-! each op is what its instruction does -/
def dkwX0_appendText_0 : List UInt8 := [44, 3, 42, 27, 182, 0, 7, 133, 80, 167, 0, 6, 78, 4, 172, 3, 172]
abbrev dktX0_appendText_0 : List UInt8 := dkwX0_appendText_0 ++ []
theorem dksX0_appendText_0 : cX0_appendText.data.toList.drop 0 = dktX0_appendText_0 := by decide +kernel
theorem dX0_appendText_0 : decode cX0_appendText 0 = .ok (.aload_n 2, 1) := dk_44 (dk_at dksX0_appendText_0 0 rfl rfl)
theorem dX0_appendText_1 : decode cX0_appendText 1 = .ok (.iconst 0, 1) := dk_3 (dk_at dksX0_appendText_0 1 rfl rfl)
theorem dX0_appendText_2 : decode cX0_appendText 2 = .ok (.aload_n 0, 1) := dk_42 (dk_at dksX0_appendText_0 2 rfl rfl)
theorem dX0_appendText_3 : decode cX0_appendText 3 = .ok (.iload_n 1, 1) := dk_27 (dk_at dksX0_appendText_0 3 rfl rfl)
theorem dX0_appendText_4 : decode cX0_appendText 4 = .ok (.invokevirtual 7, 3) := dk_182 0 7 (dk_at dksX0_appendText_0 4 rfl rfl)
theorem dX0_appendText_7 : decode cX0_appendText 7 = .ok (.i2l, 1) := dk_133 (dk_at dksX0_appendText_0 7 rfl rfl)
theorem dX0_appendText_8 : decode cX0_appendText 8 = .ok (.lastore, 1) := dk_80 (dk_at dksX0_appendText_0 8 rfl rfl)
theorem dX0_appendText_9 : decode cX0_appendText 9 = .ok (.goto 6, 3) := dk_167 0 6 (dk_at dksX0_appendText_0 9 rfl rfl)
theorem dX0_appendText_12 : decode cX0_appendText 12 = .ok (.astore_n 3, 1) := dk_78 (dk_at dksX0_appendText_0 12 rfl rfl)
theorem dX0_appendText_13 : decode cX0_appendText 13 = .ok (.iconst 1, 1) := dk_4 (dk_at dksX0_appendText_0 13 rfl rfl)
theorem dX0_appendText_14 : decode cX0_appendText 14 = .ok (.ireturn, 1) := dk_172 (dk_at dksX0_appendText_0 14 rfl rfl)
theorem dX0_appendText_15 : decode cX0_appendText 15 = .ok (.iconst 0, 1) := dk_3 (dk_at dksX0_appendText_0 15 rfl rfl)
theorem dX0_appendText_16 : decode cX0_appendText 16 = .ok (.ireturn, 1) := dk_172 (dk_at dksX0_appendText_0 16 rfl rfl)
theorem c_125_0 : LkP (OkP 125) [(0, o_aload 2 1), (1, o_push 1 (.int 0)), (2, o_aload 0 1), (3, o_iload 1 1), (4, o_cv [(0, 169)] 1 3 false (some [(33, 12)])), (7, o_i2l), (8, o_wrJ), (9, o_goto 15), (12, o_astore 3 1), (13, o_push 1 (.int 1)), (14, o_ret 1), (15, o_push 1 (.int 0)), (16, o_ret 1)] := lkp_c (P := OkP 125) ⟨(PuOK.ok (ok_aload_n dX0_appendText_0 rfl)), m_aload⟩ (
  lkp_c (P := OkP 125) ⟨(PuOK.ok (ok_iconst dX0_appendText_1 rfl)), m_push⟩ (
  lkp_c (P := OkP 125) ⟨(PuOK.ok (ok_aload_n dX0_appendText_2 rfl)), m_aload⟩ (
  lkp_c (P := OkP 125) ⟨(PuOK.ok (ok_iload_n dX0_appendText_3 rfl)), m_iload⟩ (
  lkp_c (P := OkP 125) ⟨ok_cv (List.forall_mem_cons.mpr ⟨tg_V (ci := 0) (r := CLr 0) (y := 169) rfl ⟨rfl, by decide⟩ rfl q1607 q1608 q1609 q115 q1610 ⟨cn_33.1, cn_33.2, pd_48⟩ dX0_appendText_4, (List.forall_mem_nil _)⟩) (hd_cons (r := CLr 33) (k := 0) (x := ⟨0, 9, 12, 13⟩) rfl rfl (List.forall_mem_nil _) (by decide +kernel) (by decide) q1606 q1616 rfl hd_nil), m_cv⟩ (
  lkp_c (P := OkP 125) ⟨(PuOK.ok (ok_i2l dX0_appendText_7)), m_i2l⟩ (
  lkp_c (P := OkP 125) ⟨ok_last dX0_appendText_8, m_wrJ⟩ (
  lkp_c (P := OkP 125) ⟨(PuOK.ok (ok_goto dX0_appendText_9 rfl)), m_goto⟩ (
  lkp_c (P := OkP 125) ⟨(PuOK.ok (ok_astore_n dX0_appendText_12 rfl)), m_astore⟩ (
  lkp_c (P := OkP 125) ⟨(PuOK.ok (ok_iconst dX0_appendText_13 rfl)), m_push⟩ (
  lkp_c (P := OkP 125) ⟨ok_iret rfl rfl (by decide) dX0_appendText_14, m_ret⟩ (
  lkp_c (P := OkP 125) ⟨(PuOK.ok (ok_iconst dX0_appendText_15 rfl)), m_push⟩ (
  lkp_c (P := OkP 125) ⟨ok_iret rfl rfl (by decide) dX0_appendText_16, m_ret⟩ (
  trivial)))))))))))))
theorem mt_125 : MtOK TB NT IT 125 := ⟨by decide +kernel, rfl, (fun h => by cases h), Or.inr rfl, rfl, by decide, lk2_all (P := OkP 125) ⟨c_125_0, trivial⟩⟩
def dkwX0_truncateText_0 : List UInt8 := [44, 3, 42, 27, 182, 0, 15, 133, 80, 167, 0, 6, 78, 4, 172, 3, 172]
abbrev dktX0_truncateText_0 : List UInt8 := dkwX0_truncateText_0 ++ []
theorem dksX0_truncateText_0 : cX0_truncateText.data.toList.drop 0 = dktX0_truncateText_0 := by decide +kernel
theorem dX0_truncateText_0 : decode cX0_truncateText 0 = .ok (.aload_n 2, 1) := dk_44 (dk_at dksX0_truncateText_0 0 rfl rfl)
theorem dX0_truncateText_1 : decode cX0_truncateText 1 = .ok (.iconst 0, 1) := dk_3 (dk_at dksX0_truncateText_0 1 rfl rfl)
theorem dX0_truncateText_2 : decode cX0_truncateText 2 = .ok (.aload_n 0, 1) := dk_42 (dk_at dksX0_truncateText_0 2 rfl rfl)
theorem dX0_truncateText_3 : decode cX0_truncateText 3 = .ok (.iload_n 1, 1) := dk_27 (dk_at dksX0_truncateText_0 3 rfl rfl)
theorem dX0_truncateText_4 : decode cX0_truncateText 4 = .ok (.invokevirtual 15, 3) := dk_182 0 15 (dk_at dksX0_truncateText_0 4 rfl rfl)
theorem dX0_truncateText_7 : decode cX0_truncateText 7 = .ok (.i2l, 1) := dk_133 (dk_at dksX0_truncateText_0 7 rfl rfl)
theorem dX0_truncateText_8 : decode cX0_truncateText 8 = .ok (.lastore, 1) := dk_80 (dk_at dksX0_truncateText_0 8 rfl rfl)
theorem dX0_truncateText_9 : decode cX0_truncateText 9 = .ok (.goto 6, 3) := dk_167 0 6 (dk_at dksX0_truncateText_0 9 rfl rfl)
theorem dX0_truncateText_12 : decode cX0_truncateText 12 = .ok (.astore_n 3, 1) := dk_78 (dk_at dksX0_truncateText_0 12 rfl rfl)
theorem dX0_truncateText_13 : decode cX0_truncateText 13 = .ok (.iconst 1, 1) := dk_4 (dk_at dksX0_truncateText_0 13 rfl rfl)
theorem dX0_truncateText_14 : decode cX0_truncateText 14 = .ok (.ireturn, 1) := dk_172 (dk_at dksX0_truncateText_0 14 rfl rfl)
theorem dX0_truncateText_15 : decode cX0_truncateText 15 = .ok (.iconst 0, 1) := dk_3 (dk_at dksX0_truncateText_0 15 rfl rfl)
theorem dX0_truncateText_16 : decode cX0_truncateText 16 = .ok (.ireturn, 1) := dk_172 (dk_at dksX0_truncateText_0 16 rfl rfl)
theorem c_126_0 : LkP (OkP 126) [(0, o_aload 2 1), (1, o_push 1 (.int 0)), (2, o_aload 0 1), (3, o_iload 1 1), (4, o_cv [(0, 171)] 1 3 false (some [(32, 12)])), (7, o_i2l), (8, o_wrJ), (9, o_goto 15), (12, o_astore 3 1), (13, o_push 1 (.int 1)), (14, o_ret 1), (15, o_push 1 (.int 0)), (16, o_ret 1)] := lkp_c (P := OkP 126) ⟨(PuOK.ok (ok_aload_n dX0_truncateText_0 rfl)), m_aload⟩ (
  lkp_c (P := OkP 126) ⟨(PuOK.ok (ok_iconst dX0_truncateText_1 rfl)), m_push⟩ (
  lkp_c (P := OkP 126) ⟨(PuOK.ok (ok_aload_n dX0_truncateText_2 rfl)), m_aload⟩ (
  lkp_c (P := OkP 126) ⟨(PuOK.ok (ok_iload_n dX0_truncateText_3 rfl)), m_iload⟩ (
  lkp_c (P := OkP 126) ⟨ok_cv (List.forall_mem_cons.mpr ⟨tg_V (ci := 0) (r := CLr 0) (y := 171) rfl ⟨rfl, by decide⟩ rfl q1639 q1640 q1641 q115 q1642 ⟨cn_33.1, cn_33.2, pd_48⟩ dX0_truncateText_4, (List.forall_mem_nil _)⟩) (hd_cons (r := CLr 32) (k := 0) (x := ⟨0, 9, 12, 18⟩) rfl rfl (List.forall_mem_nil _) (by decide +kernel) (by decide) q1638 q245 rfl hd_nil), m_cv⟩ (
  lkp_c (P := OkP 126) ⟨(PuOK.ok (ok_i2l dX0_truncateText_7)), m_i2l⟩ (
  lkp_c (P := OkP 126) ⟨ok_last dX0_truncateText_8, m_wrJ⟩ (
  lkp_c (P := OkP 126) ⟨(PuOK.ok (ok_goto dX0_truncateText_9 rfl)), m_goto⟩ (
  lkp_c (P := OkP 126) ⟨(PuOK.ok (ok_astore_n dX0_truncateText_12 rfl)), m_astore⟩ (
  lkp_c (P := OkP 126) ⟨(PuOK.ok (ok_iconst dX0_truncateText_13 rfl)), m_push⟩ (
  lkp_c (P := OkP 126) ⟨ok_iret rfl rfl (by decide) dX0_truncateText_14, m_ret⟩ (
  lkp_c (P := OkP 126) ⟨(PuOK.ok (ok_iconst dX0_truncateText_15 rfl)), m_push⟩ (
  lkp_c (P := OkP 126) ⟨ok_iret rfl rfl (by decide) dX0_truncateText_16, m_ret⟩ (
  trivial)))))))))))))
theorem mt_126 : MtOK TB NT IT 126 := ⟨by decide +kernel, rfl, (fun h => by cases h), Or.inr rfl, rfl, by decide, lk2_all (P := OkP 126) ⟨c_126_0, trivial⟩⟩
def dkwX0_addGantry_0 : List UInt8 := [44, 3, 42, 27, 182, 0, 20, 133, 80, 167, 0, 9, 78, 4, 172, 78, 5, 172, 3, 172]
abbrev dktX0_addGantry_0 : List UInt8 := dkwX0_addGantry_0 ++ []
theorem dksX0_addGantry_0 : cX0_addGantry.data.toList.drop 0 = dktX0_addGantry_0 := by decide +kernel
theorem dX0_addGantry_0 : decode cX0_addGantry 0 = .ok (.aload_n 2, 1) := dk_44 (dk_at dksX0_addGantry_0 0 rfl rfl)
theorem dX0_addGantry_1 : decode cX0_addGantry 1 = .ok (.iconst 0, 1) := dk_3 (dk_at dksX0_addGantry_0 1 rfl rfl)
theorem dX0_addGantry_2 : decode cX0_addGantry 2 = .ok (.aload_n 0, 1) := dk_42 (dk_at dksX0_addGantry_0 2 rfl rfl)
theorem dX0_addGantry_3 : decode cX0_addGantry 3 = .ok (.iload_n 1, 1) := dk_27 (dk_at dksX0_addGantry_0 3 rfl rfl)
theorem dX0_addGantry_4 : decode cX0_addGantry 4 = .ok (.invokevirtual 20, 3) := dk_182 0 20 (dk_at dksX0_addGantry_0 4 rfl rfl)
theorem dX0_addGantry_7 : decode cX0_addGantry 7 = .ok (.i2l, 1) := dk_133 (dk_at dksX0_addGantry_0 7 rfl rfl)
theorem dX0_addGantry_8 : decode cX0_addGantry 8 = .ok (.lastore, 1) := dk_80 (dk_at dksX0_addGantry_0 8 rfl rfl)
theorem dX0_addGantry_9 : decode cX0_addGantry 9 = .ok (.goto 9, 3) := dk_167 0 9 (dk_at dksX0_addGantry_0 9 rfl rfl)
theorem dX0_addGantry_12 : decode cX0_addGantry 12 = .ok (.astore_n 3, 1) := dk_78 (dk_at dksX0_addGantry_0 12 rfl rfl)
theorem dX0_addGantry_13 : decode cX0_addGantry 13 = .ok (.iconst 1, 1) := dk_4 (dk_at dksX0_addGantry_0 13 rfl rfl)
theorem dX0_addGantry_14 : decode cX0_addGantry 14 = .ok (.ireturn, 1) := dk_172 (dk_at dksX0_addGantry_0 14 rfl rfl)
theorem dX0_addGantry_15 : decode cX0_addGantry 15 = .ok (.astore_n 3, 1) := dk_78 (dk_at dksX0_addGantry_0 15 rfl rfl)
theorem dX0_addGantry_16 : decode cX0_addGantry 16 = .ok (.iconst 2, 1) := dk_5 (dk_at dksX0_addGantry_0 16 rfl rfl)
theorem dX0_addGantry_17 : decode cX0_addGantry 17 = .ok (.ireturn, 1) := dk_172 (dk_at dksX0_addGantry_0 17 rfl rfl)
theorem dX0_addGantry_18 : decode cX0_addGantry 18 = .ok (.iconst 0, 1) := dk_3 (dk_at dksX0_addGantry_0 18 rfl rfl)
theorem dX0_addGantry_19 : decode cX0_addGantry 19 = .ok (.ireturn, 1) := dk_172 (dk_at dksX0_addGantry_0 19 rfl rfl)
theorem c_127_0 : LkP (OkP 127) [(0, o_aload 2 1), (1, o_push 1 (.int 0)), (2, o_aload 0 1), (3, o_iload 1 1), (4, o_cv [(0, 173)] 1 3 false (some [(32, 12), (33, 15)])), (7, o_i2l), (8, o_wrJ), (9, o_goto 18), (12, o_astore 3 1), (13, o_push 1 (.int 1)), (14, o_ret 1), (15, o_astore 3 1), (16, o_push 1 (.int 2)), (17, o_ret 1), (18, o_push 1 (.int 0)), (19, o_ret 1)] := lkp_c (P := OkP 127) ⟨(PuOK.ok (ok_aload_n dX0_addGantry_0 rfl)), m_aload⟩ (
  lkp_c (P := OkP 127) ⟨(PuOK.ok (ok_iconst dX0_addGantry_1 rfl)), m_push⟩ (
  lkp_c (P := OkP 127) ⟨(PuOK.ok (ok_aload_n dX0_addGantry_2 rfl)), m_aload⟩ (
  lkp_c (P := OkP 127) ⟨(PuOK.ok (ok_iload_n dX0_addGantry_3 rfl)), m_iload⟩ (
  lkp_c (P := OkP 127) ⟨ok_cv (List.forall_mem_cons.mpr ⟨tg_V (ci := 0) (r := CLr 0) (y := 173) rfl ⟨rfl, by decide⟩ rfl q1655 q1656 q1657 q115 q1658 ⟨cn_33.1, cn_33.2, pd_48⟩ dX0_addGantry_4, (List.forall_mem_nil _)⟩) (hd_cons (r := CLr 32) (k := 0) (x := ⟨0, 9, 12, 18⟩) rfl rfl (List.forall_mem_nil _) (by decide +kernel) (by decide) q1638 q245 rfl (hd_cons (r := CLr 33) (k := 1) (x := ⟨0, 9, 15, 13⟩) rfl rfl (List.forall_mem_cons.mpr ⟨Or.inr ⟨by decide, "java/lang/IllegalArgumentException", q1638, by decide +kernel⟩, (List.forall_mem_nil _)⟩) (by decide +kernel) (by decide) q1606 q1616 rfl hd_nil)), m_cv⟩ (
  lkp_c (P := OkP 127) ⟨(PuOK.ok (ok_i2l dX0_addGantry_7)), m_i2l⟩ (
  lkp_c (P := OkP 127) ⟨ok_last dX0_addGantry_8, m_wrJ⟩ (
  lkp_c (P := OkP 127) ⟨(PuOK.ok (ok_goto dX0_addGantry_9 rfl)), m_goto⟩ (
  lkp_c (P := OkP 127) ⟨(PuOK.ok (ok_astore_n dX0_addGantry_12 rfl)), m_astore⟩ (
  lkp_c (P := OkP 127) ⟨(PuOK.ok (ok_iconst dX0_addGantry_13 rfl)), m_push⟩ (
  lkp_c (P := OkP 127) ⟨ok_iret rfl rfl (by decide) dX0_addGantry_14, m_ret⟩ (
  lkp_c (P := OkP 127) ⟨(PuOK.ok (ok_astore_n dX0_addGantry_15 rfl)), m_astore⟩ (
  lkp_c (P := OkP 127) ⟨(PuOK.ok (ok_iconst dX0_addGantry_16 rfl)), m_push⟩ (
  lkp_c (P := OkP 127) ⟨ok_iret rfl rfl (by decide) dX0_addGantry_17, m_ret⟩ (
  lkp_c (P := OkP 127) ⟨(PuOK.ok (ok_iconst dX0_addGantry_18 rfl)), m_push⟩ (
  lkp_c (P := OkP 127) ⟨ok_iret rfl rfl (by decide) dX0_addGantry_19, m_ret⟩ (
  trivial))))))))))))))))
theorem mt_127 : MtOK TB NT IT 127 := ⟨by decide +kernel, rfl, (fun h => by cases h), Or.inr rfl, rfl, by decide, lk2_all (P := OkP 127) ⟨c_127_0, trivial⟩⟩
def dkwX0_addRoad_1 : List UInt8 := [172, 58, 6, 6, 172, 3, 172]
abbrev dktX0_addRoad_1 : List UInt8 := dkwX0_addRoad_1 ++ []
def dkwX0_addRoad_0 : List UInt8 := [25, 5, 3, 42, 27, 28, 29, 21, 4, 182, 0, 23, 133, 80, 167, 0, 15, 58, 6, 4, 172, 58, 6, 5]
abbrev dktX0_addRoad_0 : List UInt8 := dkwX0_addRoad_0 ++ dktX0_addRoad_1
theorem dksX0_addRoad_0 : cX0_addRoad.data.toList.drop 0 = dktX0_addRoad_0 := by decide +kernel
theorem dksX0_addRoad_1 : cX0_addRoad.data.toList.drop 24 = dktX0_addRoad_1 := dk_seg dksX0_addRoad_0 24 rfl rfl
theorem dX0_addRoad_0 : decode cX0_addRoad 0 = .ok (.aload 5, 2) := dk_25 5 (dk_at dksX0_addRoad_0 0 rfl rfl)
theorem dX0_addRoad_2 : decode cX0_addRoad 2 = .ok (.iconst 0, 1) := dk_3 (dk_at dksX0_addRoad_0 2 rfl rfl)
theorem dX0_addRoad_3 : decode cX0_addRoad 3 = .ok (.aload_n 0, 1) := dk_42 (dk_at dksX0_addRoad_0 3 rfl rfl)
theorem dX0_addRoad_4 : decode cX0_addRoad 4 = .ok (.iload_n 1, 1) := dk_27 (dk_at dksX0_addRoad_0 4 rfl rfl)
theorem dX0_addRoad_5 : decode cX0_addRoad 5 = .ok (.iload_n 2, 1) := dk_28 (dk_at dksX0_addRoad_0 5 rfl rfl)
theorem dX0_addRoad_6 : decode cX0_addRoad 6 = .ok (.iload_n 3, 1) := dk_29 (dk_at dksX0_addRoad_0 6 rfl rfl)
theorem dX0_addRoad_7 : decode cX0_addRoad 7 = .ok (.iload 4, 2) := dk_21 4 (dk_at dksX0_addRoad_0 7 rfl rfl)
theorem dX0_addRoad_9 : decode cX0_addRoad 9 = .ok (.invokevirtual 23, 3) := dk_182 0 23 (dk_at dksX0_addRoad_0 9 rfl rfl)
theorem dX0_addRoad_12 : decode cX0_addRoad 12 = .ok (.i2l, 1) := dk_133 (dk_at dksX0_addRoad_0 12 rfl rfl)
theorem dX0_addRoad_13 : decode cX0_addRoad 13 = .ok (.lastore, 1) := dk_80 (dk_at dksX0_addRoad_0 13 rfl rfl)
theorem dX0_addRoad_14 : decode cX0_addRoad 14 = .ok (.goto 15, 3) := dk_167 0 15 (dk_at dksX0_addRoad_0 14 rfl rfl)
theorem dX0_addRoad_17 : decode cX0_addRoad 17 = .ok (.astore 6, 2) := dk_58 6 (dk_at dksX0_addRoad_0 17 rfl rfl)
theorem dX0_addRoad_19 : decode cX0_addRoad 19 = .ok (.iconst 1, 1) := dk_4 (dk_at dksX0_addRoad_0 19 rfl rfl)
theorem dX0_addRoad_20 : decode cX0_addRoad 20 = .ok (.ireturn, 1) := dk_172 (dk_at dksX0_addRoad_0 20 rfl rfl)
theorem dX0_addRoad_21 : decode cX0_addRoad 21 = .ok (.astore 6, 2) := dk_58 6 (dk_at dksX0_addRoad_0 21 rfl rfl)
theorem dX0_addRoad_23 : decode cX0_addRoad 23 = .ok (.iconst 2, 1) := dk_5 (dk_at dksX0_addRoad_0 23 rfl rfl)
theorem dX0_addRoad_24 : decode cX0_addRoad 24 = .ok (.ireturn, 1) := dk_172 (dk_at dksX0_addRoad_1 0 rfl rfl)
theorem dX0_addRoad_25 : decode cX0_addRoad 25 = .ok (.astore 6, 2) := dk_58 6 (dk_at dksX0_addRoad_1 1 rfl rfl)
theorem dX0_addRoad_27 : decode cX0_addRoad 27 = .ok (.iconst 3, 1) := dk_6 (dk_at dksX0_addRoad_1 3 rfl rfl)
theorem dX0_addRoad_28 : decode cX0_addRoad 28 = .ok (.ireturn, 1) := dk_172 (dk_at dksX0_addRoad_1 4 rfl rfl)
theorem dX0_addRoad_29 : decode cX0_addRoad 29 = .ok (.iconst 0, 1) := dk_3 (dk_at dksX0_addRoad_1 5 rfl rfl)
theorem dX0_addRoad_30 : decode cX0_addRoad 30 = .ok (.ireturn, 1) := dk_172 (dk_at dksX0_addRoad_1 6 rfl rfl)
theorem c_128_0 : LkP (OkP 128) [(0, o_aload 5 2), (2, o_push 1 (.int 0)), (3, o_aload 0 1), (4, o_iload 1 1), (5, o_iload 2 1), (6, o_iload 3 1), (7, o_iload 4 2), (9, o_cv [(0, 174)] 4 3 false (some [(31, 17), (32, 21), (33, 25)])), (12, o_i2l), (13, o_wrJ), (14, o_goto 29), (17, o_astore 6 2), (19, o_push 1 (.int 1)), (20, o_ret 1), (21, o_astore 6 2), (23, o_push 1 (.int 2)), (24, o_ret 1), (25, o_astore 6 2), (27, o_push 1 (.int 3)), (28, o_ret 1), (29, o_push 1 (.int 0)), (30, o_ret 1)] := lkp_c (P := OkP 128) ⟨(PuOK.ok (ok_aload dX0_addRoad_0)), m_aload⟩ (
  lkp_c (P := OkP 128) ⟨(PuOK.ok (ok_iconst dX0_addRoad_2 rfl)), m_push⟩ (
  lkp_c (P := OkP 128) ⟨(PuOK.ok (ok_aload_n dX0_addRoad_3 rfl)), m_aload⟩ (
  lkp_c (P := OkP 128) ⟨(PuOK.ok (ok_iload_n dX0_addRoad_4 rfl)), m_iload⟩ (
  lkp_c (P := OkP 128) ⟨(PuOK.ok (ok_iload_n dX0_addRoad_5 rfl)), m_iload⟩ (
  lkp_c (P := OkP 128) ⟨(PuOK.ok (ok_iload_n dX0_addRoad_6 rfl)), m_iload⟩ (
  lkp_c (P := OkP 128) ⟨(PuOK.ok (ok_iload dX0_addRoad_7)), m_iload⟩ (
  lkp_c (P := OkP 128) ⟨ok_cv (List.forall_mem_cons.mpr ⟨tg_V (ci := 0) (r := CLr 0) (y := 174) rfl ⟨rfl, by decide⟩ rfl q1683 q1684 q1685 q115 q1686 ⟨cn_33.1, cn_33.2, pd_62⟩ dX0_addRoad_9, (List.forall_mem_nil _)⟩) (hd_cons (r := CLr 31) (k := 0) (x := ⟨0, 14, 17, 27⟩) rfl rfl (List.forall_mem_nil _) (by decide +kernel) (by decide) q1664 q1696 rfl (hd_cons (r := CLr 32) (k := 1) (x := ⟨0, 14, 21, 18⟩) rfl rfl (List.forall_mem_cons.mpr ⟨Or.inr ⟨by decide, "java/lang/IndexOutOfBoundsException", q1664, by decide +kernel⟩, (List.forall_mem_nil _)⟩) (by decide +kernel) (by decide) q1638 q245 rfl (hd_cons (r := CLr 33) (k := 2) (x := ⟨0, 14, 25, 13⟩) rfl rfl (List.forall_mem_cons.mpr ⟨Or.inr ⟨by decide, "java/lang/IndexOutOfBoundsException", q1664, by decide +kernel⟩, (List.forall_mem_cons.mpr ⟨Or.inr ⟨by decide, "java/lang/IllegalArgumentException", q1638, by decide +kernel⟩, (List.forall_mem_nil _)⟩)⟩) (by decide +kernel) (by decide) q1606 q1616 rfl hd_nil))), m_cv⟩ (
  lkp_c (P := OkP 128) ⟨(PuOK.ok (ok_i2l dX0_addRoad_12)), m_i2l⟩ (
  lkp_c (P := OkP 128) ⟨ok_last dX0_addRoad_13, m_wrJ⟩ (
  lkp_c (P := OkP 128) ⟨(PuOK.ok (ok_goto dX0_addRoad_14 rfl)), m_goto⟩ (
  lkp_c (P := OkP 128) ⟨(PuOK.ok (ok_astore dX0_addRoad_17)), m_astore⟩ (
  lkp_c (P := OkP 128) ⟨(PuOK.ok (ok_iconst dX0_addRoad_19 rfl)), m_push⟩ (
  lkp_c (P := OkP 128) ⟨ok_iret rfl rfl (by decide) dX0_addRoad_20, m_ret⟩ (
  lkp_c (P := OkP 128) ⟨(PuOK.ok (ok_astore dX0_addRoad_21)), m_astore⟩ (
  lkp_c (P := OkP 128) ⟨(PuOK.ok (ok_iconst dX0_addRoad_23 rfl)), m_push⟩ (
  lkp_c (P := OkP 128) ⟨ok_iret rfl rfl (by decide) dX0_addRoad_24, m_ret⟩ (
  lkp_c (P := OkP 128) ⟨(PuOK.ok (ok_astore dX0_addRoad_25)), m_astore⟩ (
  lkp_c (P := OkP 128) ⟨(PuOK.ok (ok_iconst dX0_addRoad_27 rfl)), m_push⟩ (
  lkp_c (P := OkP 128) ⟨ok_iret rfl rfl (by decide) dX0_addRoad_28, m_ret⟩ (
  lkp_c (P := OkP 128) ⟨(PuOK.ok (ok_iconst dX0_addRoad_29 rfl)), m_push⟩ (
  lkp_c (P := OkP 128) ⟨ok_iret rfl rfl (by decide) dX0_addRoad_30, m_ret⟩ (
  trivial))))))))))))))))))))))
theorem mt_128 : MtOK TB NT IT 128 := ⟨by decide +kernel, rfl, (fun h => by cases h), Or.inr rfl, rfl, by decide, lk2_all (P := OkP 128) ⟨c_128_0, trivial⟩⟩
def dkwX0_addAccount_1 : List UInt8 := [172]
abbrev dktX0_addAccount_1 : List UInt8 := dkwX0_addAccount_1 ++ []
def dkwX0_addAccount_0 : List UInt8 := [25, 4, 3, 42, 27, 28, 29, 182, 0, 29, 133, 80, 167, 0, 11, 58, 5, 4, 172, 58, 5, 5, 172, 3]
abbrev dktX0_addAccount_0 : List UInt8 := dkwX0_addAccount_0 ++ dktX0_addAccount_1
theorem dksX0_addAccount_0 : cX0_addAccount.data.toList.drop 0 = dktX0_addAccount_0 := by decide +kernel
theorem dksX0_addAccount_1 : cX0_addAccount.data.toList.drop 24 = dktX0_addAccount_1 := dk_seg dksX0_addAccount_0 24 rfl rfl
theorem dX0_addAccount_0 : decode cX0_addAccount 0 = .ok (.aload 4, 2) := dk_25 4 (dk_at dksX0_addAccount_0 0 rfl rfl)
theorem dX0_addAccount_2 : decode cX0_addAccount 2 = .ok (.iconst 0, 1) := dk_3 (dk_at dksX0_addAccount_0 2 rfl rfl)
theorem dX0_addAccount_3 : decode cX0_addAccount 3 = .ok (.aload_n 0, 1) := dk_42 (dk_at dksX0_addAccount_0 3 rfl rfl)
theorem dX0_addAccount_4 : decode cX0_addAccount 4 = .ok (.iload_n 1, 1) := dk_27 (dk_at dksX0_addAccount_0 4 rfl rfl)
theorem dX0_addAccount_5 : decode cX0_addAccount 5 = .ok (.iload_n 2, 1) := dk_28 (dk_at dksX0_addAccount_0 5 rfl rfl)
theorem dX0_addAccount_6 : decode cX0_addAccount 6 = .ok (.iload_n 3, 1) := dk_29 (dk_at dksX0_addAccount_0 6 rfl rfl)
theorem dX0_addAccount_7 : decode cX0_addAccount 7 = .ok (.invokevirtual 29, 3) := dk_182 0 29 (dk_at dksX0_addAccount_0 7 rfl rfl)
theorem dX0_addAccount_10 : decode cX0_addAccount 10 = .ok (.i2l, 1) := dk_133 (dk_at dksX0_addAccount_0 10 rfl rfl)
theorem dX0_addAccount_11 : decode cX0_addAccount 11 = .ok (.lastore, 1) := dk_80 (dk_at dksX0_addAccount_0 11 rfl rfl)
theorem dX0_addAccount_12 : decode cX0_addAccount 12 = .ok (.goto 11, 3) := dk_167 0 11 (dk_at dksX0_addAccount_0 12 rfl rfl)
theorem dX0_addAccount_15 : decode cX0_addAccount 15 = .ok (.astore 5, 2) := dk_58 5 (dk_at dksX0_addAccount_0 15 rfl rfl)
theorem dX0_addAccount_17 : decode cX0_addAccount 17 = .ok (.iconst 1, 1) := dk_4 (dk_at dksX0_addAccount_0 17 rfl rfl)
theorem dX0_addAccount_18 : decode cX0_addAccount 18 = .ok (.ireturn, 1) := dk_172 (dk_at dksX0_addAccount_0 18 rfl rfl)
theorem dX0_addAccount_19 : decode cX0_addAccount 19 = .ok (.astore 5, 2) := dk_58 5 (dk_at dksX0_addAccount_0 19 rfl rfl)
theorem dX0_addAccount_21 : decode cX0_addAccount 21 = .ok (.iconst 2, 1) := dk_5 (dk_at dksX0_addAccount_0 21 rfl rfl)
theorem dX0_addAccount_22 : decode cX0_addAccount 22 = .ok (.ireturn, 1) := dk_172 (dk_at dksX0_addAccount_0 22 rfl rfl)
theorem dX0_addAccount_23 : decode cX0_addAccount 23 = .ok (.iconst 0, 1) := dk_3 (dk_at dksX0_addAccount_0 23 rfl rfl)
theorem dX0_addAccount_24 : decode cX0_addAccount 24 = .ok (.ireturn, 1) := dk_172 (dk_at dksX0_addAccount_1 0 rfl rfl)
theorem c_129_0 : LkP (OkP 129) [(0, o_aload 4 2), (2, o_push 1 (.int 0)), (3, o_aload 0 1), (4, o_iload 1 1), (5, o_iload 2 1), (6, o_iload 3 1), (7, o_cv [(0, 177)] 3 3 false (some [(32, 15), (33, 19)])), (10, o_i2l), (11, o_wrJ), (12, o_goto 23), (15, o_astore 5 2), (17, o_push 1 (.int 1)), (18, o_ret 1), (19, o_astore 5 2), (21, o_push 1 (.int 2)), (22, o_ret 1), (23, o_push 1 (.int 0)), (24, o_ret 1)] := lkp_c (P := OkP 129) ⟨(PuOK.ok (ok_aload dX0_addAccount_0)), m_aload⟩ (
  lkp_c (P := OkP 129) ⟨(PuOK.ok (ok_iconst dX0_addAccount_2 rfl)), m_push⟩ (
  lkp_c (P := OkP 129) ⟨(PuOK.ok (ok_aload_n dX0_addAccount_3 rfl)), m_aload⟩ (
  lkp_c (P := OkP 129) ⟨(PuOK.ok (ok_iload_n dX0_addAccount_4 rfl)), m_iload⟩ (
  lkp_c (P := OkP 129) ⟨(PuOK.ok (ok_iload_n dX0_addAccount_5 rfl)), m_iload⟩ (
  lkp_c (P := OkP 129) ⟨(PuOK.ok (ok_iload_n dX0_addAccount_6 rfl)), m_iload⟩ (
  lkp_c (P := OkP 129) ⟨ok_cv (List.forall_mem_cons.mpr ⟨tg_V (ci := 0) (r := CLr 0) (y := 177) rfl ⟨rfl, by decide⟩ rfl q1716 q1717 q1718 q115 q1719 ⟨cn_33.1, cn_33.2, pd_25⟩ dX0_addAccount_7, (List.forall_mem_nil _)⟩) (hd_cons (r := CLr 32) (k := 0) (x := ⟨0, 12, 15, 18⟩) rfl rfl (List.forall_mem_nil _) (by decide +kernel) (by decide) q1638 q245 rfl (hd_cons (r := CLr 33) (k := 1) (x := ⟨0, 12, 19, 13⟩) rfl rfl (List.forall_mem_cons.mpr ⟨Or.inr ⟨by decide, "java/lang/IllegalArgumentException", q1638, by decide +kernel⟩, (List.forall_mem_nil _)⟩) (by decide +kernel) (by decide) q1606 q1616 rfl hd_nil)), m_cv⟩ (
  lkp_c (P := OkP 129) ⟨(PuOK.ok (ok_i2l dX0_addAccount_10)), m_i2l⟩ (
  lkp_c (P := OkP 129) ⟨ok_last dX0_addAccount_11, m_wrJ⟩ (
  lkp_c (P := OkP 129) ⟨(PuOK.ok (ok_goto dX0_addAccount_12 rfl)), m_goto⟩ (
  lkp_c (P := OkP 129) ⟨(PuOK.ok (ok_astore dX0_addAccount_15)), m_astore⟩ (
  lkp_c (P := OkP 129) ⟨(PuOK.ok (ok_iconst dX0_addAccount_17 rfl)), m_push⟩ (
  lkp_c (P := OkP 129) ⟨ok_iret rfl rfl (by decide) dX0_addAccount_18, m_ret⟩ (
  lkp_c (P := OkP 129) ⟨(PuOK.ok (ok_astore dX0_addAccount_19)), m_astore⟩ (
  lkp_c (P := OkP 129) ⟨(PuOK.ok (ok_iconst dX0_addAccount_21 rfl)), m_push⟩ (
  lkp_c (P := OkP 129) ⟨ok_iret rfl rfl (by decide) dX0_addAccount_22, m_ret⟩ (
  lkp_c (P := OkP 129) ⟨(PuOK.ok (ok_iconst dX0_addAccount_23 rfl)), m_push⟩ (
  lkp_c (P := OkP 129) ⟨ok_iret rfl rfl (by decide) dX0_addAccount_24, m_ret⟩ (
  trivial))))))))))))))))))
theorem mt_129 : MtOK TB NT IT 129 := ⟨by decide +kernel, rfl, (fun h => by cases h), Or.inr rfl, rfl, by decide, lk2_all (P := OkP 129) ⟨c_129_0, trivial⟩⟩
def dkwX0_addVehicle_1 : List UInt8 := [172, 3, 172]
abbrev dktX0_addVehicle_1 : List UInt8 := dkwX0_addVehicle_1 ++ []
def dkwX0_addVehicle_0 : List UInt8 := [45, 3, 42, 27, 28, 182, 0, 33, 133, 80, 167, 0, 15, 58, 4, 4, 172, 58, 4, 5, 172, 58, 4, 6]
abbrev dktX0_addVehicle_0 : List UInt8 := dkwX0_addVehicle_0 ++ dktX0_addVehicle_1
theorem dksX0_addVehicle_0 : cX0_addVehicle.data.toList.drop 0 = dktX0_addVehicle_0 := by decide +kernel
theorem dksX0_addVehicle_1 : cX0_addVehicle.data.toList.drop 24 = dktX0_addVehicle_1 := dk_seg dksX0_addVehicle_0 24 rfl rfl
theorem dX0_addVehicle_0 : decode cX0_addVehicle 0 = .ok (.aload_n 3, 1) := dk_45 (dk_at dksX0_addVehicle_0 0 rfl rfl)
theorem dX0_addVehicle_1 : decode cX0_addVehicle 1 = .ok (.iconst 0, 1) := dk_3 (dk_at dksX0_addVehicle_0 1 rfl rfl)
theorem dX0_addVehicle_2 : decode cX0_addVehicle 2 = .ok (.aload_n 0, 1) := dk_42 (dk_at dksX0_addVehicle_0 2 rfl rfl)
theorem dX0_addVehicle_3 : decode cX0_addVehicle 3 = .ok (.iload_n 1, 1) := dk_27 (dk_at dksX0_addVehicle_0 3 rfl rfl)
theorem dX0_addVehicle_4 : decode cX0_addVehicle 4 = .ok (.iload_n 2, 1) := dk_28 (dk_at dksX0_addVehicle_0 4 rfl rfl)
theorem dX0_addVehicle_5 : decode cX0_addVehicle 5 = .ok (.invokevirtual 33, 3) := dk_182 0 33 (dk_at dksX0_addVehicle_0 5 rfl rfl)
theorem dX0_addVehicle_8 : decode cX0_addVehicle 8 = .ok (.i2l, 1) := dk_133 (dk_at dksX0_addVehicle_0 8 rfl rfl)
theorem dX0_addVehicle_9 : decode cX0_addVehicle 9 = .ok (.lastore, 1) := dk_80 (dk_at dksX0_addVehicle_0 9 rfl rfl)
theorem dX0_addVehicle_10 : decode cX0_addVehicle 10 = .ok (.goto 15, 3) := dk_167 0 15 (dk_at dksX0_addVehicle_0 10 rfl rfl)
theorem dX0_addVehicle_13 : decode cX0_addVehicle 13 = .ok (.astore 4, 2) := dk_58 4 (dk_at dksX0_addVehicle_0 13 rfl rfl)
theorem dX0_addVehicle_15 : decode cX0_addVehicle 15 = .ok (.iconst 1, 1) := dk_4 (dk_at dksX0_addVehicle_0 15 rfl rfl)
theorem dX0_addVehicle_16 : decode cX0_addVehicle 16 = .ok (.ireturn, 1) := dk_172 (dk_at dksX0_addVehicle_0 16 rfl rfl)
theorem dX0_addVehicle_17 : decode cX0_addVehicle 17 = .ok (.astore 4, 2) := dk_58 4 (dk_at dksX0_addVehicle_0 17 rfl rfl)
theorem dX0_addVehicle_19 : decode cX0_addVehicle 19 = .ok (.iconst 2, 1) := dk_5 (dk_at dksX0_addVehicle_0 19 rfl rfl)
theorem dX0_addVehicle_20 : decode cX0_addVehicle 20 = .ok (.ireturn, 1) := dk_172 (dk_at dksX0_addVehicle_0 20 rfl rfl)
theorem dX0_addVehicle_21 : decode cX0_addVehicle 21 = .ok (.astore 4, 2) := dk_58 4 (dk_at dksX0_addVehicle_0 21 rfl rfl)
theorem dX0_addVehicle_23 : decode cX0_addVehicle 23 = .ok (.iconst 3, 1) := dk_6 (dk_at dksX0_addVehicle_0 23 rfl rfl)
theorem dX0_addVehicle_24 : decode cX0_addVehicle 24 = .ok (.ireturn, 1) := dk_172 (dk_at dksX0_addVehicle_1 0 rfl rfl)
theorem dX0_addVehicle_25 : decode cX0_addVehicle 25 = .ok (.iconst 0, 1) := dk_3 (dk_at dksX0_addVehicle_1 1 rfl rfl)
theorem dX0_addVehicle_26 : decode cX0_addVehicle 26 = .ok (.ireturn, 1) := dk_172 (dk_at dksX0_addVehicle_1 2 rfl rfl)
theorem c_130_0 : LkP (OkP 130) [(0, o_aload 3 1), (1, o_push 1 (.int 0)), (2, o_aload 0 1), (3, o_iload 1 1), (4, o_iload 2 1), (5, o_cv [(0, 178)] 2 3 false (some [(31, 13), (32, 17), (33, 21)])), (8, o_i2l), (9, o_wrJ), (10, o_goto 25), (13, o_astore 4 2), (15, o_push 1 (.int 1)), (16, o_ret 1), (17, o_astore 4 2), (19, o_push 1 (.int 2)), (20, o_ret 1), (21, o_astore 4 2), (23, o_push 1 (.int 3)), (24, o_ret 1), (25, o_push 1 (.int 0)), (26, o_ret 1)] := lkp_c (P := OkP 130) ⟨(PuOK.ok (ok_aload_n dX0_addVehicle_0 rfl)), m_aload⟩ (
  lkp_c (P := OkP 130) ⟨(PuOK.ok (ok_iconst dX0_addVehicle_1 rfl)), m_push⟩ (
  lkp_c (P := OkP 130) ⟨(PuOK.ok (ok_aload_n dX0_addVehicle_2 rfl)), m_aload⟩ (
  lkp_c (P := OkP 130) ⟨(PuOK.ok (ok_iload_n dX0_addVehicle_3 rfl)), m_iload⟩ (
  lkp_c (P := OkP 130) ⟨(PuOK.ok (ok_iload_n dX0_addVehicle_4 rfl)), m_iload⟩ (
  lkp_c (P := OkP 130) ⟨ok_cv (List.forall_mem_cons.mpr ⟨tg_V (ci := 0) (r := CLr 0) (y := 178) rfl ⟨rfl, by decide⟩ rfl q1726 q1727 q1728 q115 q1729 ⟨cn_33.1, cn_33.2, pd_1⟩ dX0_addVehicle_5, (List.forall_mem_nil _)⟩) (hd_cons (r := CLr 31) (k := 0) (x := ⟨0, 10, 13, 27⟩) rfl rfl (List.forall_mem_nil _) (by decide +kernel) (by decide) q1664 q1696 rfl (hd_cons (r := CLr 32) (k := 1) (x := ⟨0, 10, 17, 18⟩) rfl rfl (List.forall_mem_cons.mpr ⟨Or.inr ⟨by decide, "java/lang/IndexOutOfBoundsException", q1664, by decide +kernel⟩, (List.forall_mem_nil _)⟩) (by decide +kernel) (by decide) q1638 q245 rfl (hd_cons (r := CLr 33) (k := 2) (x := ⟨0, 10, 21, 13⟩) rfl rfl (List.forall_mem_cons.mpr ⟨Or.inr ⟨by decide, "java/lang/IndexOutOfBoundsException", q1664, by decide +kernel⟩, (List.forall_mem_cons.mpr ⟨Or.inr ⟨by decide, "java/lang/IllegalArgumentException", q1638, by decide +kernel⟩, (List.forall_mem_nil _)⟩)⟩) (by decide +kernel) (by decide) q1606 q1616 rfl hd_nil))), m_cv⟩ (
  lkp_c (P := OkP 130) ⟨(PuOK.ok (ok_i2l dX0_addVehicle_8)), m_i2l⟩ (
  lkp_c (P := OkP 130) ⟨ok_last dX0_addVehicle_9, m_wrJ⟩ (
  lkp_c (P := OkP 130) ⟨(PuOK.ok (ok_goto dX0_addVehicle_10 rfl)), m_goto⟩ (
  lkp_c (P := OkP 130) ⟨(PuOK.ok (ok_astore dX0_addVehicle_13)), m_astore⟩ (
  lkp_c (P := OkP 130) ⟨(PuOK.ok (ok_iconst dX0_addVehicle_15 rfl)), m_push⟩ (
  lkp_c (P := OkP 130) ⟨ok_iret rfl rfl (by decide) dX0_addVehicle_16, m_ret⟩ (
  lkp_c (P := OkP 130) ⟨(PuOK.ok (ok_astore dX0_addVehicle_17)), m_astore⟩ (
  lkp_c (P := OkP 130) ⟨(PuOK.ok (ok_iconst dX0_addVehicle_19 rfl)), m_push⟩ (
  lkp_c (P := OkP 130) ⟨ok_iret rfl rfl (by decide) dX0_addVehicle_20, m_ret⟩ (
  lkp_c (P := OkP 130) ⟨(PuOK.ok (ok_astore dX0_addVehicle_21)), m_astore⟩ (
  lkp_c (P := OkP 130) ⟨(PuOK.ok (ok_iconst dX0_addVehicle_23 rfl)), m_push⟩ (
  lkp_c (P := OkP 130) ⟨ok_iret rfl rfl (by decide) dX0_addVehicle_24, m_ret⟩ (
  lkp_c (P := OkP 130) ⟨(PuOK.ok (ok_iconst dX0_addVehicle_25 rfl)), m_push⟩ (
  lkp_c (P := OkP 130) ⟨ok_iret rfl rfl (by decide) dX0_addVehicle_26, m_ret⟩ (
  trivial))))))))))))))))))))
theorem mt_130 : MtOK TB NT IT 130 := ⟨by decide +kernel, rfl, (fun h => by cases h), Or.inr rfl, rfl, by decide, lk2_all (P := OkP 130) ⟨c_130_0, trivial⟩⟩
def dkwX0_set_0 : List UInt8 := [45, 3, 42, 27, 28, 182, 0, 37, 133, 80, 167, 0, 7, 58, 4, 4, 172, 3, 172]
abbrev dktX0_set_0 : List UInt8 := dkwX0_set_0 ++ []
theorem dksX0_set_0 : cX0_set.data.toList.drop 0 = dktX0_set_0 := by decide +kernel
theorem dX0_set_0 : decode cX0_set 0 = .ok (.aload_n 3, 1) := dk_45 (dk_at dksX0_set_0 0 rfl rfl)
theorem dX0_set_1 : decode cX0_set 1 = .ok (.iconst 0, 1) := dk_3 (dk_at dksX0_set_0 1 rfl rfl)
theorem dX0_set_2 : decode cX0_set 2 = .ok (.aload_n 0, 1) := dk_42 (dk_at dksX0_set_0 2 rfl rfl)
theorem dX0_set_3 : decode cX0_set 3 = .ok (.iload_n 1, 1) := dk_27 (dk_at dksX0_set_0 3 rfl rfl)
theorem dX0_set_4 : decode cX0_set 4 = .ok (.iload_n 2, 1) := dk_28 (dk_at dksX0_set_0 4 rfl rfl)
theorem dX0_set_5 : decode cX0_set 5 = .ok (.invokevirtual 37, 3) := dk_182 0 37 (dk_at dksX0_set_0 5 rfl rfl)
theorem dX0_set_8 : decode cX0_set 8 = .ok (.i2l, 1) := dk_133 (dk_at dksX0_set_0 8 rfl rfl)
theorem dX0_set_9 : decode cX0_set 9 = .ok (.lastore, 1) := dk_80 (dk_at dksX0_set_0 9 rfl rfl)
theorem dX0_set_10 : decode cX0_set 10 = .ok (.goto 7, 3) := dk_167 0 7 (dk_at dksX0_set_0 10 rfl rfl)
theorem dX0_set_13 : decode cX0_set 13 = .ok (.astore 4, 2) := dk_58 4 (dk_at dksX0_set_0 13 rfl rfl)
theorem dX0_set_15 : decode cX0_set 15 = .ok (.iconst 1, 1) := dk_4 (dk_at dksX0_set_0 15 rfl rfl)
theorem dX0_set_16 : decode cX0_set 16 = .ok (.ireturn, 1) := dk_172 (dk_at dksX0_set_0 16 rfl rfl)
theorem dX0_set_17 : decode cX0_set 17 = .ok (.iconst 0, 1) := dk_3 (dk_at dksX0_set_0 17 rfl rfl)
theorem dX0_set_18 : decode cX0_set 18 = .ok (.ireturn, 1) := dk_172 (dk_at dksX0_set_0 18 rfl rfl)
theorem c_131_0 : LkP (OkP 131) [(0, o_aload 3 1), (1, o_push 1 (.int 0)), (2, o_aload 0 1), (3, o_iload 1 1), (4, o_iload 2 1), (5, o_cv [(0, 180)] 2 3 false (some [(32, 13)])), (8, o_i2l), (9, o_wrJ), (10, o_goto 17), (13, o_astore 4 2), (15, o_push 1 (.int 1)), (16, o_ret 1), (17, o_push 1 (.int 0)), (18, o_ret 1)] := lkp_c (P := OkP 131) ⟨(PuOK.ok (ok_aload_n dX0_set_0 rfl)), m_aload⟩ (
  lkp_c (P := OkP 131) ⟨(PuOK.ok (ok_iconst dX0_set_1 rfl)), m_push⟩ (
  lkp_c (P := OkP 131) ⟨(PuOK.ok (ok_aload_n dX0_set_2 rfl)), m_aload⟩ (
  lkp_c (P := OkP 131) ⟨(PuOK.ok (ok_iload_n dX0_set_3 rfl)), m_iload⟩ (
  lkp_c (P := OkP 131) ⟨(PuOK.ok (ok_iload_n dX0_set_4 rfl)), m_iload⟩ (
  lkp_c (P := OkP 131) ⟨ok_cv (List.forall_mem_cons.mpr ⟨tg_V (ci := 0) (r := CLr 0) (y := 180) rfl ⟨rfl, by decide⟩ rfl q1740 q1741 q1742 q115 q1743 ⟨cn_33.1, cn_33.2, pd_1⟩ dX0_set_5, (List.forall_mem_nil _)⟩) (hd_cons (r := CLr 32) (k := 0) (x := ⟨0, 10, 13, 18⟩) rfl rfl (List.forall_mem_nil _) (by decide +kernel) (by decide) q1638 q245 rfl hd_nil), m_cv⟩ (
  lkp_c (P := OkP 131) ⟨(PuOK.ok (ok_i2l dX0_set_8)), m_i2l⟩ (
  lkp_c (P := OkP 131) ⟨ok_last dX0_set_9, m_wrJ⟩ (
  lkp_c (P := OkP 131) ⟨(PuOK.ok (ok_goto dX0_set_10 rfl)), m_goto⟩ (
  lkp_c (P := OkP 131) ⟨(PuOK.ok (ok_astore dX0_set_13)), m_astore⟩ (
  lkp_c (P := OkP 131) ⟨(PuOK.ok (ok_iconst dX0_set_15 rfl)), m_push⟩ (
  lkp_c (P := OkP 131) ⟨ok_iret rfl rfl (by decide) dX0_set_16, m_ret⟩ (
  lkp_c (P := OkP 131) ⟨(PuOK.ok (ok_iconst dX0_set_17 rfl)), m_push⟩ (
  lkp_c (P := OkP 131) ⟨ok_iret rfl rfl (by decide) dX0_set_18, m_ret⟩ (
  trivial))))))))))))))
theorem mt_131 : MtOK TB NT IT 131 := ⟨by decide +kernel, rfl, (fun h => by cases h), Or.inr rfl, rfl, by decide, lk2_all (P := OkP 131) ⟨c_131_0, trivial⟩⟩
def dkwX0_count_0 : List UInt8 := [44, 3, 42, 27, 182, 0, 40, 133, 80, 167, 0, 6, 78, 4, 172, 3, 172]
abbrev dktX0_count_0 : List UInt8 := dkwX0_count_0 ++ []
theorem dksX0_count_0 : cX0_count.data.toList.drop 0 = dktX0_count_0 := by decide +kernel
theorem dX0_count_0 : decode cX0_count 0 = .ok (.aload_n 2, 1) := dk_44 (dk_at dksX0_count_0 0 rfl rfl)
theorem dX0_count_1 : decode cX0_count 1 = .ok (.iconst 0, 1) := dk_3 (dk_at dksX0_count_0 1 rfl rfl)
theorem dX0_count_2 : decode cX0_count 2 = .ok (.aload_n 0, 1) := dk_42 (dk_at dksX0_count_0 2 rfl rfl)
theorem dX0_count_3 : decode cX0_count 3 = .ok (.iload_n 1, 1) := dk_27 (dk_at dksX0_count_0 3 rfl rfl)
theorem dX0_count_4 : decode cX0_count 4 = .ok (.invokevirtual 40, 3) := dk_182 0 40 (dk_at dksX0_count_0 4 rfl rfl)
theorem dX0_count_7 : decode cX0_count 7 = .ok (.i2l, 1) := dk_133 (dk_at dksX0_count_0 7 rfl rfl)
theorem dX0_count_8 : decode cX0_count 8 = .ok (.lastore, 1) := dk_80 (dk_at dksX0_count_0 8 rfl rfl)
theorem dX0_count_9 : decode cX0_count 9 = .ok (.goto 6, 3) := dk_167 0 6 (dk_at dksX0_count_0 9 rfl rfl)
theorem dX0_count_12 : decode cX0_count 12 = .ok (.astore_n 3, 1) := dk_78 (dk_at dksX0_count_0 12 rfl rfl)
theorem dX0_count_13 : decode cX0_count 13 = .ok (.iconst 1, 1) := dk_4 (dk_at dksX0_count_0 13 rfl rfl)
theorem dX0_count_14 : decode cX0_count 14 = .ok (.ireturn, 1) := dk_172 (dk_at dksX0_count_0 14 rfl rfl)
theorem dX0_count_15 : decode cX0_count 15 = .ok (.iconst 0, 1) := dk_3 (dk_at dksX0_count_0 15 rfl rfl)
theorem dX0_count_16 : decode cX0_count 16 = .ok (.ireturn, 1) := dk_172 (dk_at dksX0_count_0 16 rfl rfl)
theorem c_132_0 : LkP (OkP 132) [(0, o_aload 2 1), (1, o_push 1 (.int 0)), (2, o_aload 0 1), (3, o_iload 1 1), (4, o_cv [(0, 181)] 1 3 false (some [(32, 12)])), (7, o_i2l), (8, o_wrJ), (9, o_goto 15), (12, o_astore 3 1), (13, o_push 1 (.int 1)), (14, o_ret 1), (15, o_push 1 (.int 0)), (16, o_ret 1)] := lkp_c (P := OkP 132) ⟨(PuOK.ok (ok_aload_n dX0_count_0 rfl)), m_aload⟩ (
  lkp_c (P := OkP 132) ⟨(PuOK.ok (ok_iconst dX0_count_1 rfl)), m_push⟩ (
  lkp_c (P := OkP 132) ⟨(PuOK.ok (ok_aload_n dX0_count_2 rfl)), m_aload⟩ (
  lkp_c (P := OkP 132) ⟨(PuOK.ok (ok_iload_n dX0_count_3 rfl)), m_iload⟩ (
  lkp_c (P := OkP 132) ⟨ok_cv (List.forall_mem_cons.mpr ⟨tg_V (ci := 0) (r := CLr 0) (y := 181) rfl ⟨rfl, by decide⟩ rfl q1762 q1763 q1764 q115 q1765 ⟨cn_33.1, cn_33.2, pd_48⟩ dX0_count_4, (List.forall_mem_nil _)⟩) (hd_cons (r := CLr 32) (k := 0) (x := ⟨0, 9, 12, 18⟩) rfl rfl (List.forall_mem_nil _) (by decide +kernel) (by decide) q1638 q245 rfl hd_nil), m_cv⟩ (
  lkp_c (P := OkP 132) ⟨(PuOK.ok (ok_i2l dX0_count_7)), m_i2l⟩ (
  lkp_c (P := OkP 132) ⟨ok_last dX0_count_8, m_wrJ⟩ (
  lkp_c (P := OkP 132) ⟨(PuOK.ok (ok_goto dX0_count_9 rfl)), m_goto⟩ (
  lkp_c (P := OkP 132) ⟨(PuOK.ok (ok_astore_n dX0_count_12 rfl)), m_astore⟩ (
  lkp_c (P := OkP 132) ⟨(PuOK.ok (ok_iconst dX0_count_13 rfl)), m_push⟩ (
  lkp_c (P := OkP 132) ⟨ok_iret rfl rfl (by decide) dX0_count_14, m_ret⟩ (
  lkp_c (P := OkP 132) ⟨(PuOK.ok (ok_iconst dX0_count_15 rfl)), m_push⟩ (
  lkp_c (P := OkP 132) ⟨ok_iret rfl rfl (by decide) dX0_count_16, m_ret⟩ (
  trivial)))))))))))))
theorem mt_132 : MtOK TB NT IT 132 := ⟨by decide +kernel, rfl, (fun h => by cases h), Or.inr rfl, rfl, by decide, lk2_all (P := OkP 132) ⟨c_132_0, trivial⟩⟩
def dkwX0_account_0 : List UInt8 := [45, 3, 42, 27, 28, 182, 0, 43, 133, 80, 167, 0, 11, 58, 4, 4, 172, 58, 4, 5, 172, 3, 172]
abbrev dktX0_account_0 : List UInt8 := dkwX0_account_0 ++ []
theorem dksX0_account_0 : cX0_account.data.toList.drop 0 = dktX0_account_0 := by decide +kernel
theorem dX0_account_0 : decode cX0_account 0 = .ok (.aload_n 3, 1) := dk_45 (dk_at dksX0_account_0 0 rfl rfl)
theorem dX0_account_1 : decode cX0_account 1 = .ok (.iconst 0, 1) := dk_3 (dk_at dksX0_account_0 1 rfl rfl)
theorem dX0_account_2 : decode cX0_account 2 = .ok (.aload_n 0, 1) := dk_42 (dk_at dksX0_account_0 2 rfl rfl)
theorem dX0_account_3 : decode cX0_account 3 = .ok (.iload_n 1, 1) := dk_27 (dk_at dksX0_account_0 3 rfl rfl)
theorem dX0_account_4 : decode cX0_account 4 = .ok (.iload_n 2, 1) := dk_28 (dk_at dksX0_account_0 4 rfl rfl)
theorem dX0_account_5 : decode cX0_account 5 = .ok (.invokevirtual 43, 3) := dk_182 0 43 (dk_at dksX0_account_0 5 rfl rfl)
theorem dX0_account_8 : decode cX0_account 8 = .ok (.i2l, 1) := dk_133 (dk_at dksX0_account_0 8 rfl rfl)
theorem dX0_account_9 : decode cX0_account 9 = .ok (.lastore, 1) := dk_80 (dk_at dksX0_account_0 9 rfl rfl)
theorem dX0_account_10 : decode cX0_account 10 = .ok (.goto 11, 3) := dk_167 0 11 (dk_at dksX0_account_0 10 rfl rfl)
theorem dX0_account_13 : decode cX0_account 13 = .ok (.astore 4, 2) := dk_58 4 (dk_at dksX0_account_0 13 rfl rfl)
theorem dX0_account_15 : decode cX0_account 15 = .ok (.iconst 1, 1) := dk_4 (dk_at dksX0_account_0 15 rfl rfl)
theorem dX0_account_16 : decode cX0_account 16 = .ok (.ireturn, 1) := dk_172 (dk_at dksX0_account_0 16 rfl rfl)
theorem dX0_account_17 : decode cX0_account 17 = .ok (.astore 4, 2) := dk_58 4 (dk_at dksX0_account_0 17 rfl rfl)
theorem dX0_account_19 : decode cX0_account 19 = .ok (.iconst 2, 1) := dk_5 (dk_at dksX0_account_0 19 rfl rfl)
theorem dX0_account_20 : decode cX0_account 20 = .ok (.ireturn, 1) := dk_172 (dk_at dksX0_account_0 20 rfl rfl)
theorem dX0_account_21 : decode cX0_account 21 = .ok (.iconst 0, 1) := dk_3 (dk_at dksX0_account_0 21 rfl rfl)
theorem dX0_account_22 : decode cX0_account 22 = .ok (.ireturn, 1) := dk_172 (dk_at dksX0_account_0 22 rfl rfl)
theorem c_133_0 : LkP (OkP 133) [(0, o_aload 3 1), (1, o_push 1 (.int 0)), (2, o_aload 0 1), (3, o_iload 1 1), (4, o_iload 2 1), (5, o_cv [(0, 184)] 2 3 false (some [(31, 13), (32, 17)])), (8, o_i2l), (9, o_wrJ), (10, o_goto 21), (13, o_astore 4 2), (15, o_push 1 (.int 1)), (16, o_ret 1), (17, o_astore 4 2), (19, o_push 1 (.int 2)), (20, o_ret 1), (21, o_push 1 (.int 0)), (22, o_ret 1)] := lkp_c (P := OkP 133) ⟨(PuOK.ok (ok_aload_n dX0_account_0 rfl)), m_aload⟩ (
  lkp_c (P := OkP 133) ⟨(PuOK.ok (ok_iconst dX0_account_1 rfl)), m_push⟩ (
  lkp_c (P := OkP 133) ⟨(PuOK.ok (ok_aload_n dX0_account_2 rfl)), m_aload⟩ (
  lkp_c (P := OkP 133) ⟨(PuOK.ok (ok_iload_n dX0_account_3 rfl)), m_iload⟩ (
  lkp_c (P := OkP 133) ⟨(PuOK.ok (ok_iload_n dX0_account_4 rfl)), m_iload⟩ (
  lkp_c (P := OkP 133) ⟨ok_cv (List.forall_mem_cons.mpr ⟨tg_V (ci := 0) (r := CLr 0) (y := 184) rfl ⟨rfl, by decide⟩ rfl q1779 q1780 q1781 q115 q1782 ⟨cn_33.1, cn_33.2, pd_1⟩ dX0_account_5, (List.forall_mem_nil _)⟩) (hd_cons (r := CLr 31) (k := 0) (x := ⟨0, 10, 13, 27⟩) rfl rfl (List.forall_mem_nil _) (by decide +kernel) (by decide) q1664 q1696 rfl (hd_cons (r := CLr 32) (k := 1) (x := ⟨0, 10, 17, 18⟩) rfl rfl (List.forall_mem_cons.mpr ⟨Or.inr ⟨by decide, "java/lang/IndexOutOfBoundsException", q1664, by decide +kernel⟩, (List.forall_mem_nil _)⟩) (by decide +kernel) (by decide) q1638 q245 rfl hd_nil)), m_cv⟩ (
  lkp_c (P := OkP 133) ⟨(PuOK.ok (ok_i2l dX0_account_8)), m_i2l⟩ (
  lkp_c (P := OkP 133) ⟨ok_last dX0_account_9, m_wrJ⟩ (
  lkp_c (P := OkP 133) ⟨(PuOK.ok (ok_goto dX0_account_10 rfl)), m_goto⟩ (
  lkp_c (P := OkP 133) ⟨(PuOK.ok (ok_astore dX0_account_13)), m_astore⟩ (
  lkp_c (P := OkP 133) ⟨(PuOK.ok (ok_iconst dX0_account_15 rfl)), m_push⟩ (
  lkp_c (P := OkP 133) ⟨ok_iret rfl rfl (by decide) dX0_account_16, m_ret⟩ (
  lkp_c (P := OkP 133) ⟨(PuOK.ok (ok_astore dX0_account_17)), m_astore⟩ (
  lkp_c (P := OkP 133) ⟨(PuOK.ok (ok_iconst dX0_account_19 rfl)), m_push⟩ (
  lkp_c (P := OkP 133) ⟨ok_iret rfl rfl (by decide) dX0_account_20, m_ret⟩ (
  lkp_c (P := OkP 133) ⟨(PuOK.ok (ok_iconst dX0_account_21 rfl)), m_push⟩ (
  lkp_c (P := OkP 133) ⟨ok_iret rfl rfl (by decide) dX0_account_22, m_ret⟩ (
  trivial)))))))))))))))))
theorem mt_133 : MtOK TB NT IT 133 := ⟨by decide +kernel, rfl, (fun h => by cases h), Or.inr rfl, rfl, by decide, lk2_all (P := OkP 133) ⟨c_133_0, trivial⟩⟩
def dkwX0_pay_0 : List UInt8 := [45, 3, 42, 27, 28, 182, 0, 46, 133, 80, 167, 0, 11, 58, 4, 4, 172, 58, 4, 5, 172, 3, 172]
abbrev dktX0_pay_0 : List UInt8 := dkwX0_pay_0 ++ []
theorem dksX0_pay_0 : cX0_pay.data.toList.drop 0 = dktX0_pay_0 := by decide +kernel
theorem dX0_pay_0 : decode cX0_pay 0 = .ok (.aload_n 3, 1) := dk_45 (dk_at dksX0_pay_0 0 rfl rfl)
theorem dX0_pay_1 : decode cX0_pay 1 = .ok (.iconst 0, 1) := dk_3 (dk_at dksX0_pay_0 1 rfl rfl)
theorem dX0_pay_2 : decode cX0_pay 2 = .ok (.aload_n 0, 1) := dk_42 (dk_at dksX0_pay_0 2 rfl rfl)
theorem dX0_pay_3 : decode cX0_pay 3 = .ok (.iload_n 1, 1) := dk_27 (dk_at dksX0_pay_0 3 rfl rfl)
theorem dX0_pay_4 : decode cX0_pay 4 = .ok (.iload_n 2, 1) := dk_28 (dk_at dksX0_pay_0 4 rfl rfl)
theorem dX0_pay_5 : decode cX0_pay 5 = .ok (.invokevirtual 46, 3) := dk_182 0 46 (dk_at dksX0_pay_0 5 rfl rfl)
theorem dX0_pay_8 : decode cX0_pay 8 = .ok (.i2l, 1) := dk_133 (dk_at dksX0_pay_0 8 rfl rfl)
theorem dX0_pay_9 : decode cX0_pay 9 = .ok (.lastore, 1) := dk_80 (dk_at dksX0_pay_0 9 rfl rfl)
theorem dX0_pay_10 : decode cX0_pay 10 = .ok (.goto 11, 3) := dk_167 0 11 (dk_at dksX0_pay_0 10 rfl rfl)
theorem dX0_pay_13 : decode cX0_pay 13 = .ok (.astore 4, 2) := dk_58 4 (dk_at dksX0_pay_0 13 rfl rfl)
theorem dX0_pay_15 : decode cX0_pay 15 = .ok (.iconst 1, 1) := dk_4 (dk_at dksX0_pay_0 15 rfl rfl)
theorem dX0_pay_16 : decode cX0_pay 16 = .ok (.ireturn, 1) := dk_172 (dk_at dksX0_pay_0 16 rfl rfl)
theorem dX0_pay_17 : decode cX0_pay 17 = .ok (.astore 4, 2) := dk_58 4 (dk_at dksX0_pay_0 17 rfl rfl)
theorem dX0_pay_19 : decode cX0_pay 19 = .ok (.iconst 2, 1) := dk_5 (dk_at dksX0_pay_0 19 rfl rfl)
theorem dX0_pay_20 : decode cX0_pay 20 = .ok (.ireturn, 1) := dk_172 (dk_at dksX0_pay_0 20 rfl rfl)
theorem dX0_pay_21 : decode cX0_pay 21 = .ok (.iconst 0, 1) := dk_3 (dk_at dksX0_pay_0 21 rfl rfl)
theorem dX0_pay_22 : decode cX0_pay 22 = .ok (.ireturn, 1) := dk_172 (dk_at dksX0_pay_0 22 rfl rfl)
theorem c_134_0 : LkP (OkP 134) [(0, o_aload 3 1), (1, o_push 1 (.int 0)), (2, o_aload 0 1), (3, o_iload 1 1), (4, o_iload 2 1), (5, o_cv [(0, 186)] 2 3 false (some [(31, 13), (32, 17)])), (8, o_i2l), (9, o_wrJ), (10, o_goto 21), (13, o_astore 4 2), (15, o_push 1 (.int 1)), (16, o_ret 1), (17, o_astore 4 2), (19, o_push 1 (.int 2)), (20, o_ret 1), (21, o_push 1 (.int 0)), (22, o_ret 1)] := lkp_c (P := OkP 134) ⟨(PuOK.ok (ok_aload_n dX0_pay_0 rfl)), m_aload⟩ (
  lkp_c (P := OkP 134) ⟨(PuOK.ok (ok_iconst dX0_pay_1 rfl)), m_push⟩ (
  lkp_c (P := OkP 134) ⟨(PuOK.ok (ok_aload_n dX0_pay_2 rfl)), m_aload⟩ (
  lkp_c (P := OkP 134) ⟨(PuOK.ok (ok_iload_n dX0_pay_3 rfl)), m_iload⟩ (
  lkp_c (P := OkP 134) ⟨(PuOK.ok (ok_iload_n dX0_pay_4 rfl)), m_iload⟩ (
  lkp_c (P := OkP 134) ⟨ok_cv (List.forall_mem_cons.mpr ⟨tg_V (ci := 0) (r := CLr 0) (y := 186) rfl ⟨rfl, by decide⟩ rfl q1791 q1792 q1793 q115 q1794 ⟨cn_33.1, cn_33.2, pd_1⟩ dX0_pay_5, (List.forall_mem_nil _)⟩) (hd_cons (r := CLr 31) (k := 0) (x := ⟨0, 10, 13, 27⟩) rfl rfl (List.forall_mem_nil _) (by decide +kernel) (by decide) q1664 q1696 rfl (hd_cons (r := CLr 32) (k := 1) (x := ⟨0, 10, 17, 18⟩) rfl rfl (List.forall_mem_cons.mpr ⟨Or.inr ⟨by decide, "java/lang/IndexOutOfBoundsException", q1664, by decide +kernel⟩, (List.forall_mem_nil _)⟩) (by decide +kernel) (by decide) q1638 q245 rfl hd_nil)), m_cv⟩ (
  lkp_c (P := OkP 134) ⟨(PuOK.ok (ok_i2l dX0_pay_8)), m_i2l⟩ (
  lkp_c (P := OkP 134) ⟨ok_last dX0_pay_9, m_wrJ⟩ (
  lkp_c (P := OkP 134) ⟨(PuOK.ok (ok_goto dX0_pay_10 rfl)), m_goto⟩ (
  lkp_c (P := OkP 134) ⟨(PuOK.ok (ok_astore dX0_pay_13)), m_astore⟩ (
  lkp_c (P := OkP 134) ⟨(PuOK.ok (ok_iconst dX0_pay_15 rfl)), m_push⟩ (
  lkp_c (P := OkP 134) ⟨ok_iret rfl rfl (by decide) dX0_pay_16, m_ret⟩ (
  lkp_c (P := OkP 134) ⟨(PuOK.ok (ok_astore dX0_pay_17)), m_astore⟩ (
  lkp_c (P := OkP 134) ⟨(PuOK.ok (ok_iconst dX0_pay_19 rfl)), m_push⟩ (
  lkp_c (P := OkP 134) ⟨ok_iret rfl rfl (by decide) dX0_pay_20, m_ret⟩ (
  lkp_c (P := OkP 134) ⟨(PuOK.ok (ok_iconst dX0_pay_21 rfl)), m_push⟩ (
  lkp_c (P := OkP 134) ⟨ok_iret rfl rfl (by decide) dX0_pay_22, m_ret⟩ (
  trivial)))))))))))))))))
theorem mt_134 : MtOK TB NT IT 134 := ⟨by decide +kernel, rfl, (fun h => by cases h), Or.inr rfl, rfl, by decide, lk2_all (P := OkP 134) ⟨c_134_0, trivial⟩⟩
def dkwX0_vehicle_0 : List UInt8 := [45, 3, 42, 27, 28, 182, 0, 49, 133, 80, 167, 0, 11, 58, 4, 4, 172, 58, 4, 5, 172, 3, 172]
abbrev dktX0_vehicle_0 : List UInt8 := dkwX0_vehicle_0 ++ []
theorem dksX0_vehicle_0 : cX0_vehicle.data.toList.drop 0 = dktX0_vehicle_0 := by decide +kernel
theorem dX0_vehicle_0 : decode cX0_vehicle 0 = .ok (.aload_n 3, 1) := dk_45 (dk_at dksX0_vehicle_0 0 rfl rfl)
theorem dX0_vehicle_1 : decode cX0_vehicle 1 = .ok (.iconst 0, 1) := dk_3 (dk_at dksX0_vehicle_0 1 rfl rfl)
theorem dX0_vehicle_2 : decode cX0_vehicle 2 = .ok (.aload_n 0, 1) := dk_42 (dk_at dksX0_vehicle_0 2 rfl rfl)
theorem dX0_vehicle_3 : decode cX0_vehicle 3 = .ok (.iload_n 1, 1) := dk_27 (dk_at dksX0_vehicle_0 3 rfl rfl)
theorem dX0_vehicle_4 : decode cX0_vehicle 4 = .ok (.iload_n 2, 1) := dk_28 (dk_at dksX0_vehicle_0 4 rfl rfl)
theorem dX0_vehicle_5 : decode cX0_vehicle 5 = .ok (.invokevirtual 49, 3) := dk_182 0 49 (dk_at dksX0_vehicle_0 5 rfl rfl)
theorem dX0_vehicle_8 : decode cX0_vehicle 8 = .ok (.i2l, 1) := dk_133 (dk_at dksX0_vehicle_0 8 rfl rfl)
theorem dX0_vehicle_9 : decode cX0_vehicle 9 = .ok (.lastore, 1) := dk_80 (dk_at dksX0_vehicle_0 9 rfl rfl)
theorem dX0_vehicle_10 : decode cX0_vehicle 10 = .ok (.goto 11, 3) := dk_167 0 11 (dk_at dksX0_vehicle_0 10 rfl rfl)
theorem dX0_vehicle_13 : decode cX0_vehicle 13 = .ok (.astore 4, 2) := dk_58 4 (dk_at dksX0_vehicle_0 13 rfl rfl)
theorem dX0_vehicle_15 : decode cX0_vehicle 15 = .ok (.iconst 1, 1) := dk_4 (dk_at dksX0_vehicle_0 15 rfl rfl)
theorem dX0_vehicle_16 : decode cX0_vehicle 16 = .ok (.ireturn, 1) := dk_172 (dk_at dksX0_vehicle_0 16 rfl rfl)
theorem dX0_vehicle_17 : decode cX0_vehicle 17 = .ok (.astore 4, 2) := dk_58 4 (dk_at dksX0_vehicle_0 17 rfl rfl)
theorem dX0_vehicle_19 : decode cX0_vehicle 19 = .ok (.iconst 2, 1) := dk_5 (dk_at dksX0_vehicle_0 19 rfl rfl)
theorem dX0_vehicle_20 : decode cX0_vehicle 20 = .ok (.ireturn, 1) := dk_172 (dk_at dksX0_vehicle_0 20 rfl rfl)
theorem dX0_vehicle_21 : decode cX0_vehicle 21 = .ok (.iconst 0, 1) := dk_3 (dk_at dksX0_vehicle_0 21 rfl rfl)
theorem dX0_vehicle_22 : decode cX0_vehicle 22 = .ok (.ireturn, 1) := dk_172 (dk_at dksX0_vehicle_0 22 rfl rfl)
theorem c_135_0 : LkP (OkP 135) [(0, o_aload 3 1), (1, o_push 1 (.int 0)), (2, o_aload 0 1), (3, o_iload 1 1), (4, o_iload 2 1), (5, o_cv [(0, 187)] 2 3 false (some [(31, 13), (32, 17)])), (8, o_i2l), (9, o_wrJ), (10, o_goto 21), (13, o_astore 4 2), (15, o_push 1 (.int 1)), (16, o_ret 1), (17, o_astore 4 2), (19, o_push 1 (.int 2)), (20, o_ret 1), (21, o_push 1 (.int 0)), (22, o_ret 1)] := lkp_c (P := OkP 135) ⟨(PuOK.ok (ok_aload_n dX0_vehicle_0 rfl)), m_aload⟩ (
  lkp_c (P := OkP 135) ⟨(PuOK.ok (ok_iconst dX0_vehicle_1 rfl)), m_push⟩ (
  lkp_c (P := OkP 135) ⟨(PuOK.ok (ok_aload_n dX0_vehicle_2 rfl)), m_aload⟩ (
  lkp_c (P := OkP 135) ⟨(PuOK.ok (ok_iload_n dX0_vehicle_3 rfl)), m_iload⟩ (
  lkp_c (P := OkP 135) ⟨(PuOK.ok (ok_iload_n dX0_vehicle_4 rfl)), m_iload⟩ (
  lkp_c (P := OkP 135) ⟨ok_cv (List.forall_mem_cons.mpr ⟨tg_V (ci := 0) (r := CLr 0) (y := 187) rfl ⟨rfl, by decide⟩ rfl q1798 q1799 q1800 q115 q1801 ⟨cn_33.1, cn_33.2, pd_1⟩ dX0_vehicle_5, (List.forall_mem_nil _)⟩) (hd_cons (r := CLr 31) (k := 0) (x := ⟨0, 10, 13, 27⟩) rfl rfl (List.forall_mem_nil _) (by decide +kernel) (by decide) q1664 q1696 rfl (hd_cons (r := CLr 32) (k := 1) (x := ⟨0, 10, 17, 18⟩) rfl rfl (List.forall_mem_cons.mpr ⟨Or.inr ⟨by decide, "java/lang/IndexOutOfBoundsException", q1664, by decide +kernel⟩, (List.forall_mem_nil _)⟩) (by decide +kernel) (by decide) q1638 q245 rfl hd_nil)), m_cv⟩ (
  lkp_c (P := OkP 135) ⟨(PuOK.ok (ok_i2l dX0_vehicle_8)), m_i2l⟩ (
  lkp_c (P := OkP 135) ⟨ok_last dX0_vehicle_9, m_wrJ⟩ (
  lkp_c (P := OkP 135) ⟨(PuOK.ok (ok_goto dX0_vehicle_10 rfl)), m_goto⟩ (
  lkp_c (P := OkP 135) ⟨(PuOK.ok (ok_astore dX0_vehicle_13)), m_astore⟩ (
  lkp_c (P := OkP 135) ⟨(PuOK.ok (ok_iconst dX0_vehicle_15 rfl)), m_push⟩ (
  lkp_c (P := OkP 135) ⟨ok_iret rfl rfl (by decide) dX0_vehicle_16, m_ret⟩ (
  lkp_c (P := OkP 135) ⟨(PuOK.ok (ok_astore dX0_vehicle_17)), m_astore⟩ (
  lkp_c (P := OkP 135) ⟨(PuOK.ok (ok_iconst dX0_vehicle_19 rfl)), m_push⟩ (
  lkp_c (P := OkP 135) ⟨ok_iret rfl rfl (by decide) dX0_vehicle_20, m_ret⟩ (
  lkp_c (P := OkP 135) ⟨(PuOK.ok (ok_iconst dX0_vehicle_21 rfl)), m_push⟩ (
  lkp_c (P := OkP 135) ⟨ok_iret rfl rfl (by decide) dX0_vehicle_22, m_ret⟩ (
  trivial)))))))))))))))))
theorem mt_135 : MtOK TB NT IT 135 := ⟨by decide +kernel, rfl, (fun h => by cases h), Or.inr rfl, rfl, by decide, lk2_all (P := OkP 135) ⟨c_135_0, trivial⟩⟩
def dkwX0_setAccount_0 : List UInt8 := [45, 3, 42, 27, 28, 182, 0, 52, 133, 80, 167, 0, 7, 58, 4, 4, 172, 3, 172]
abbrev dktX0_setAccount_0 : List UInt8 := dkwX0_setAccount_0 ++ []
theorem dksX0_setAccount_0 : cX0_setAccount.data.toList.drop 0 = dktX0_setAccount_0 := by decide +kernel
theorem dX0_setAccount_0 : decode cX0_setAccount 0 = .ok (.aload_n 3, 1) := dk_45 (dk_at dksX0_setAccount_0 0 rfl rfl)
theorem dX0_setAccount_1 : decode cX0_setAccount 1 = .ok (.iconst 0, 1) := dk_3 (dk_at dksX0_setAccount_0 1 rfl rfl)
theorem dX0_setAccount_2 : decode cX0_setAccount 2 = .ok (.aload_n 0, 1) := dk_42 (dk_at dksX0_setAccount_0 2 rfl rfl)
theorem dX0_setAccount_3 : decode cX0_setAccount 3 = .ok (.iload_n 1, 1) := dk_27 (dk_at dksX0_setAccount_0 3 rfl rfl)
theorem dX0_setAccount_4 : decode cX0_setAccount 4 = .ok (.iload_n 2, 1) := dk_28 (dk_at dksX0_setAccount_0 4 rfl rfl)
theorem dX0_setAccount_5 : decode cX0_setAccount 5 = .ok (.invokevirtual 52, 3) := dk_182 0 52 (dk_at dksX0_setAccount_0 5 rfl rfl)
theorem dX0_setAccount_8 : decode cX0_setAccount 8 = .ok (.i2l, 1) := dk_133 (dk_at dksX0_setAccount_0 8 rfl rfl)
theorem dX0_setAccount_9 : decode cX0_setAccount 9 = .ok (.lastore, 1) := dk_80 (dk_at dksX0_setAccount_0 9 rfl rfl)
theorem dX0_setAccount_10 : decode cX0_setAccount 10 = .ok (.goto 7, 3) := dk_167 0 7 (dk_at dksX0_setAccount_0 10 rfl rfl)
theorem dX0_setAccount_13 : decode cX0_setAccount 13 = .ok (.astore 4, 2) := dk_58 4 (dk_at dksX0_setAccount_0 13 rfl rfl)
theorem dX0_setAccount_15 : decode cX0_setAccount 15 = .ok (.iconst 1, 1) := dk_4 (dk_at dksX0_setAccount_0 15 rfl rfl)
theorem dX0_setAccount_16 : decode cX0_setAccount 16 = .ok (.ireturn, 1) := dk_172 (dk_at dksX0_setAccount_0 16 rfl rfl)
theorem dX0_setAccount_17 : decode cX0_setAccount 17 = .ok (.iconst 0, 1) := dk_3 (dk_at dksX0_setAccount_0 17 rfl rfl)
theorem dX0_setAccount_18 : decode cX0_setAccount 18 = .ok (.ireturn, 1) := dk_172 (dk_at dksX0_setAccount_0 18 rfl rfl)
theorem c_136_0 : LkP (OkP 136) [(0, o_aload 3 1), (1, o_push 1 (.int 0)), (2, o_aload 0 1), (3, o_iload 1 1), (4, o_iload 2 1), (5, o_cv [(0, 189)] 2 3 false (some [(31, 13)])), (8, o_i2l), (9, o_wrJ), (10, o_goto 17), (13, o_astore 4 2), (15, o_push 1 (.int 1)), (16, o_ret 1), (17, o_push 1 (.int 0)), (18, o_ret 1)] := lkp_c (P := OkP 136) ⟨(PuOK.ok (ok_aload_n dX0_setAccount_0 rfl)), m_aload⟩ (
  lkp_c (P := OkP 136) ⟨(PuOK.ok (ok_iconst dX0_setAccount_1 rfl)), m_push⟩ (
  lkp_c (P := OkP 136) ⟨(PuOK.ok (ok_aload_n dX0_setAccount_2 rfl)), m_aload⟩ (
  lkp_c (P := OkP 136) ⟨(PuOK.ok (ok_iload_n dX0_setAccount_3 rfl)), m_iload⟩ (
  lkp_c (P := OkP 136) ⟨(PuOK.ok (ok_iload_n dX0_setAccount_4 rfl)), m_iload⟩ (
  lkp_c (P := OkP 136) ⟨ok_cv (List.forall_mem_cons.mpr ⟨tg_V (ci := 0) (r := CLr 0) (y := 189) rfl ⟨rfl, by decide⟩ rfl q1833 q1834 q1835 q115 q1836 ⟨cn_33.1, cn_33.2, pd_1⟩ dX0_setAccount_5, (List.forall_mem_nil _)⟩) (hd_cons (r := CLr 31) (k := 0) (x := ⟨0, 10, 13, 27⟩) rfl rfl (List.forall_mem_nil _) (by decide +kernel) (by decide) q1664 q1696 rfl hd_nil), m_cv⟩ (
  lkp_c (P := OkP 136) ⟨(PuOK.ok (ok_i2l dX0_setAccount_8)), m_i2l⟩ (
  lkp_c (P := OkP 136) ⟨ok_last dX0_setAccount_9, m_wrJ⟩ (
  lkp_c (P := OkP 136) ⟨(PuOK.ok (ok_goto dX0_setAccount_10 rfl)), m_goto⟩ (
  lkp_c (P := OkP 136) ⟨(PuOK.ok (ok_astore dX0_setAccount_13)), m_astore⟩ (
  lkp_c (P := OkP 136) ⟨(PuOK.ok (ok_iconst dX0_setAccount_15 rfl)), m_push⟩ (
  lkp_c (P := OkP 136) ⟨ok_iret rfl rfl (by decide) dX0_setAccount_16, m_ret⟩ (
  lkp_c (P := OkP 136) ⟨(PuOK.ok (ok_iconst dX0_setAccount_17 rfl)), m_push⟩ (
  lkp_c (P := OkP 136) ⟨ok_iret rfl rfl (by decide) dX0_setAccount_18, m_ret⟩ (
  trivial))))))))))))))
theorem mt_136 : MtOK TB NT IT 136 := ⟨by decide +kernel, rfl, (fun h => by cases h), Or.inr rfl, rfl, by decide, lk2_all (P := OkP 136) ⟨c_136_0, trivial⟩⟩
def dkwX0_route_1 : List UInt8 := [172, 3, 172]
abbrev dktX0_route_1 : List UInt8 := dkwX0_route_1 ++ []
def dkwX0_route_0 : List UInt8 := [25, 5, 3, 42, 27, 28, 29, 21, 4, 182, 0, 55, 133, 80, 167, 0, 11, 58, 6, 4, 172, 58, 6, 5]
abbrev dktX0_route_0 : List UInt8 := dkwX0_route_0 ++ dktX0_route_1
theorem dksX0_route_0 : cX0_route.data.toList.drop 0 = dktX0_route_0 := by decide +kernel
theorem dksX0_route_1 : cX0_route.data.toList.drop 24 = dktX0_route_1 := dk_seg dksX0_route_0 24 rfl rfl
theorem dX0_route_0 : decode cX0_route 0 = .ok (.aload 5, 2) := dk_25 5 (dk_at dksX0_route_0 0 rfl rfl)
theorem dX0_route_2 : decode cX0_route 2 = .ok (.iconst 0, 1) := dk_3 (dk_at dksX0_route_0 2 rfl rfl)
theorem dX0_route_3 : decode cX0_route 3 = .ok (.aload_n 0, 1) := dk_42 (dk_at dksX0_route_0 3 rfl rfl)
theorem dX0_route_4 : decode cX0_route 4 = .ok (.iload_n 1, 1) := dk_27 (dk_at dksX0_route_0 4 rfl rfl)
theorem dX0_route_5 : decode cX0_route 5 = .ok (.iload_n 2, 1) := dk_28 (dk_at dksX0_route_0 5 rfl rfl)
theorem dX0_route_6 : decode cX0_route 6 = .ok (.iload_n 3, 1) := dk_29 (dk_at dksX0_route_0 6 rfl rfl)
theorem dX0_route_7 : decode cX0_route 7 = .ok (.iload 4, 2) := dk_21 4 (dk_at dksX0_route_0 7 rfl rfl)
theorem dX0_route_9 : decode cX0_route 9 = .ok (.invokevirtual 55, 3) := dk_182 0 55 (dk_at dksX0_route_0 9 rfl rfl)
theorem dX0_route_12 : decode cX0_route 12 = .ok (.i2l, 1) := dk_133 (dk_at dksX0_route_0 12 rfl rfl)
theorem dX0_route_13 : decode cX0_route 13 = .ok (.lastore, 1) := dk_80 (dk_at dksX0_route_0 13 rfl rfl)
theorem dX0_route_14 : decode cX0_route 14 = .ok (.goto 11, 3) := dk_167 0 11 (dk_at dksX0_route_0 14 rfl rfl)
theorem dX0_route_17 : decode cX0_route 17 = .ok (.astore 6, 2) := dk_58 6 (dk_at dksX0_route_0 17 rfl rfl)
theorem dX0_route_19 : decode cX0_route 19 = .ok (.iconst 1, 1) := dk_4 (dk_at dksX0_route_0 19 rfl rfl)
theorem dX0_route_20 : decode cX0_route 20 = .ok (.ireturn, 1) := dk_172 (dk_at dksX0_route_0 20 rfl rfl)
theorem dX0_route_21 : decode cX0_route 21 = .ok (.astore 6, 2) := dk_58 6 (dk_at dksX0_route_0 21 rfl rfl)
theorem dX0_route_23 : decode cX0_route 23 = .ok (.iconst 2, 1) := dk_5 (dk_at dksX0_route_0 23 rfl rfl)
theorem dX0_route_24 : decode cX0_route 24 = .ok (.ireturn, 1) := dk_172 (dk_at dksX0_route_1 0 rfl rfl)
theorem dX0_route_25 : decode cX0_route 25 = .ok (.iconst 0, 1) := dk_3 (dk_at dksX0_route_1 1 rfl rfl)
theorem dX0_route_26 : decode cX0_route 26 = .ok (.ireturn, 1) := dk_172 (dk_at dksX0_route_1 2 rfl rfl)
theorem c_137_0 : LkP (OkP 137) [(0, o_aload 5 2), (2, o_push 1 (.int 0)), (3, o_aload 0 1), (4, o_iload 1 1), (5, o_iload 2 1), (6, o_iload 3 1), (7, o_iload 4 2), (9, o_cv [(0, 190)] 4 3 false (some [(31, 17), (32, 21)])), (12, o_i2l), (13, o_wrJ), (14, o_goto 25), (17, o_astore 6 2), (19, o_push 1 (.int 1)), (20, o_ret 1), (21, o_astore 6 2), (23, o_push 1 (.int 2)), (24, o_ret 1), (25, o_push 1 (.int 0)), (26, o_ret 1)] := lkp_c (P := OkP 137) ⟨(PuOK.ok (ok_aload dX0_route_0)), m_aload⟩ (
  lkp_c (P := OkP 137) ⟨(PuOK.ok (ok_iconst dX0_route_2 rfl)), m_push⟩ (
  lkp_c (P := OkP 137) ⟨(PuOK.ok (ok_aload_n dX0_route_3 rfl)), m_aload⟩ (
  lkp_c (P := OkP 137) ⟨(PuOK.ok (ok_iload_n dX0_route_4 rfl)), m_iload⟩ (
  lkp_c (P := OkP 137) ⟨(PuOK.ok (ok_iload_n dX0_route_5 rfl)), m_iload⟩ (
  lkp_c (P := OkP 137) ⟨(PuOK.ok (ok_iload_n dX0_route_6 rfl)), m_iload⟩ (
  lkp_c (P := OkP 137) ⟨(PuOK.ok (ok_iload dX0_route_7)), m_iload⟩ (
  lkp_c (P := OkP 137) ⟨ok_cv (List.forall_mem_cons.mpr ⟨tg_V (ci := 0) (r := CLr 0) (y := 190) rfl ⟨rfl, by decide⟩ rfl q1840 q1841 q1842 q115 q1843 ⟨cn_33.1, cn_33.2, pd_62⟩ dX0_route_9, (List.forall_mem_nil _)⟩) (hd_cons (r := CLr 31) (k := 0) (x := ⟨0, 14, 17, 27⟩) rfl rfl (List.forall_mem_nil _) (by decide +kernel) (by decide) q1664 q1696 rfl (hd_cons (r := CLr 32) (k := 1) (x := ⟨0, 14, 21, 18⟩) rfl rfl (List.forall_mem_cons.mpr ⟨Or.inr ⟨by decide, "java/lang/IndexOutOfBoundsException", q1664, by decide +kernel⟩, (List.forall_mem_nil _)⟩) (by decide +kernel) (by decide) q1638 q245 rfl hd_nil)), m_cv⟩ (
  lkp_c (P := OkP 137) ⟨(PuOK.ok (ok_i2l dX0_route_12)), m_i2l⟩ (
  lkp_c (P := OkP 137) ⟨ok_last dX0_route_13, m_wrJ⟩ (
  lkp_c (P := OkP 137) ⟨(PuOK.ok (ok_goto dX0_route_14 rfl)), m_goto⟩ (
  lkp_c (P := OkP 137) ⟨(PuOK.ok (ok_astore dX0_route_17)), m_astore⟩ (
  lkp_c (P := OkP 137) ⟨(PuOK.ok (ok_iconst dX0_route_19 rfl)), m_push⟩ (
  lkp_c (P := OkP 137) ⟨ok_iret rfl rfl (by decide) dX0_route_20, m_ret⟩ (
  lkp_c (P := OkP 137) ⟨(PuOK.ok (ok_astore dX0_route_21)), m_astore⟩ (
  lkp_c (P := OkP 137) ⟨(PuOK.ok (ok_iconst dX0_route_23 rfl)), m_push⟩ (
  lkp_c (P := OkP 137) ⟨ok_iret rfl rfl (by decide) dX0_route_24, m_ret⟩ (
  lkp_c (P := OkP 137) ⟨(PuOK.ok (ok_iconst dX0_route_25 rfl)), m_push⟩ (
  lkp_c (P := OkP 137) ⟨ok_iret rfl rfl (by decide) dX0_route_26, m_ret⟩ (
  trivial)))))))))))))))))))
theorem mt_137 : MtOK TB NT IT 137 := ⟨by decide +kernel, rfl, (fun h => by cases h), Or.inr rfl, rfl, by decide, lk2_all (P := OkP 137) ⟨c_137_0, trivial⟩⟩
def dkwX0_routeGantry_1 : List UInt8 := [172, 3, 172]
abbrev dktX0_routeGantry_1 : List UInt8 := dkwX0_routeGantry_1 ++ []
def dkwX0_routeGantry_0 : List UInt8 := [25, 5, 3, 42, 27, 28, 29, 21, 4, 182, 0, 58, 133, 80, 167, 0, 11, 58, 6, 4, 172, 58, 6, 5]
abbrev dktX0_routeGantry_0 : List UInt8 := dkwX0_routeGantry_0 ++ dktX0_routeGantry_1
theorem dksX0_routeGantry_0 : cX0_routeGantry.data.toList.drop 0 = dktX0_routeGantry_0 := by decide +kernel
theorem dksX0_routeGantry_1 : cX0_routeGantry.data.toList.drop 24 = dktX0_routeGantry_1 := dk_seg dksX0_routeGantry_0 24 rfl rfl
theorem dX0_routeGantry_0 : decode cX0_routeGantry 0 = .ok (.aload 5, 2) := dk_25 5 (dk_at dksX0_routeGantry_0 0 rfl rfl)
theorem dX0_routeGantry_2 : decode cX0_routeGantry 2 = .ok (.iconst 0, 1) := dk_3 (dk_at dksX0_routeGantry_0 2 rfl rfl)
theorem dX0_routeGantry_3 : decode cX0_routeGantry 3 = .ok (.aload_n 0, 1) := dk_42 (dk_at dksX0_routeGantry_0 3 rfl rfl)
theorem dX0_routeGantry_4 : decode cX0_routeGantry 4 = .ok (.iload_n 1, 1) := dk_27 (dk_at dksX0_routeGantry_0 4 rfl rfl)
theorem dX0_routeGantry_5 : decode cX0_routeGantry 5 = .ok (.iload_n 2, 1) := dk_28 (dk_at dksX0_routeGantry_0 5 rfl rfl)
theorem dX0_routeGantry_6 : decode cX0_routeGantry 6 = .ok (.iload_n 3, 1) := dk_29 (dk_at dksX0_routeGantry_0 6 rfl rfl)
theorem dX0_routeGantry_7 : decode cX0_routeGantry 7 = .ok (.iload 4, 2) := dk_21 4 (dk_at dksX0_routeGantry_0 7 rfl rfl)
theorem dX0_routeGantry_9 : decode cX0_routeGantry 9 = .ok (.invokevirtual 58, 3) := dk_182 0 58 (dk_at dksX0_routeGantry_0 9 rfl rfl)
theorem dX0_routeGantry_12 : decode cX0_routeGantry 12 = .ok (.i2l, 1) := dk_133 (dk_at dksX0_routeGantry_0 12 rfl rfl)
theorem dX0_routeGantry_13 : decode cX0_routeGantry 13 = .ok (.lastore, 1) := dk_80 (dk_at dksX0_routeGantry_0 13 rfl rfl)
theorem dX0_routeGantry_14 : decode cX0_routeGantry 14 = .ok (.goto 11, 3) := dk_167 0 11 (dk_at dksX0_routeGantry_0 14 rfl rfl)
theorem dX0_routeGantry_17 : decode cX0_routeGantry 17 = .ok (.astore 6, 2) := dk_58 6 (dk_at dksX0_routeGantry_0 17 rfl rfl)
theorem dX0_routeGantry_19 : decode cX0_routeGantry 19 = .ok (.iconst 1, 1) := dk_4 (dk_at dksX0_routeGantry_0 19 rfl rfl)
theorem dX0_routeGantry_20 : decode cX0_routeGantry 20 = .ok (.ireturn, 1) := dk_172 (dk_at dksX0_routeGantry_0 20 rfl rfl)
theorem dX0_routeGantry_21 : decode cX0_routeGantry 21 = .ok (.astore 6, 2) := dk_58 6 (dk_at dksX0_routeGantry_0 21 rfl rfl)
theorem dX0_routeGantry_23 : decode cX0_routeGantry 23 = .ok (.iconst 2, 1) := dk_5 (dk_at dksX0_routeGantry_0 23 rfl rfl)
theorem dX0_routeGantry_24 : decode cX0_routeGantry 24 = .ok (.ireturn, 1) := dk_172 (dk_at dksX0_routeGantry_1 0 rfl rfl)
theorem dX0_routeGantry_25 : decode cX0_routeGantry 25 = .ok (.iconst 0, 1) := dk_3 (dk_at dksX0_routeGantry_1 1 rfl rfl)
theorem dX0_routeGantry_26 : decode cX0_routeGantry 26 = .ok (.ireturn, 1) := dk_172 (dk_at dksX0_routeGantry_1 2 rfl rfl)
theorem c_138_0 : LkP (OkP 138) [(0, o_aload 5 2), (2, o_push 1 (.int 0)), (3, o_aload 0 1), (4, o_iload 1 1), (5, o_iload 2 1), (6, o_iload 3 1), (7, o_iload 4 2), (9, o_cv [(0, 193)] 4 3 false (some [(31, 17), (32, 21)])), (12, o_i2l), (13, o_wrJ), (14, o_goto 25), (17, o_astore 6 2), (19, o_push 1 (.int 1)), (20, o_ret 1), (21, o_astore 6 2), (23, o_push 1 (.int 2)), (24, o_ret 1), (25, o_push 1 (.int 0)), (26, o_ret 1)] := lkp_c (P := OkP 138) ⟨(PuOK.ok (ok_aload dX0_routeGantry_0)), m_aload⟩ (
  lkp_c (P := OkP 138) ⟨(PuOK.ok (ok_iconst dX0_routeGantry_2 rfl)), m_push⟩ (
  lkp_c (P := OkP 138) ⟨(PuOK.ok (ok_aload_n dX0_routeGantry_3 rfl)), m_aload⟩ (
  lkp_c (P := OkP 138) ⟨(PuOK.ok (ok_iload_n dX0_routeGantry_4 rfl)), m_iload⟩ (
  lkp_c (P := OkP 138) ⟨(PuOK.ok (ok_iload_n dX0_routeGantry_5 rfl)), m_iload⟩ (
  lkp_c (P := OkP 138) ⟨(PuOK.ok (ok_iload_n dX0_routeGantry_6 rfl)), m_iload⟩ (
  lkp_c (P := OkP 138) ⟨(PuOK.ok (ok_iload dX0_routeGantry_7)), m_iload⟩ (
  lkp_c (P := OkP 138) ⟨ok_cv (List.forall_mem_cons.mpr ⟨tg_V (ci := 0) (r := CLr 0) (y := 193) rfl ⟨rfl, by decide⟩ rfl q1946 q1947 q1948 q115 q1949 ⟨cn_33.1, cn_33.2, pd_62⟩ dX0_routeGantry_9, (List.forall_mem_nil _)⟩) (hd_cons (r := CLr 31) (k := 0) (x := ⟨0, 14, 17, 27⟩) rfl rfl (List.forall_mem_nil _) (by decide +kernel) (by decide) q1664 q1696 rfl (hd_cons (r := CLr 32) (k := 1) (x := ⟨0, 14, 21, 18⟩) rfl rfl (List.forall_mem_cons.mpr ⟨Or.inr ⟨by decide, "java/lang/IndexOutOfBoundsException", q1664, by decide +kernel⟩, (List.forall_mem_nil _)⟩) (by decide +kernel) (by decide) q1638 q245 rfl hd_nil)), m_cv⟩ (
  lkp_c (P := OkP 138) ⟨(PuOK.ok (ok_i2l dX0_routeGantry_12)), m_i2l⟩ (
  lkp_c (P := OkP 138) ⟨ok_last dX0_routeGantry_13, m_wrJ⟩ (
  lkp_c (P := OkP 138) ⟨(PuOK.ok (ok_goto dX0_routeGantry_14 rfl)), m_goto⟩ (
  lkp_c (P := OkP 138) ⟨(PuOK.ok (ok_astore dX0_routeGantry_17)), m_astore⟩ (
  lkp_c (P := OkP 138) ⟨(PuOK.ok (ok_iconst dX0_routeGantry_19 rfl)), m_push⟩ (
  lkp_c (P := OkP 138) ⟨ok_iret rfl rfl (by decide) dX0_routeGantry_20, m_ret⟩ (
  lkp_c (P := OkP 138) ⟨(PuOK.ok (ok_astore dX0_routeGantry_21)), m_astore⟩ (
  lkp_c (P := OkP 138) ⟨(PuOK.ok (ok_iconst dX0_routeGantry_23 rfl)), m_push⟩ (
  lkp_c (P := OkP 138) ⟨ok_iret rfl rfl (by decide) dX0_routeGantry_24, m_ret⟩ (
  lkp_c (P := OkP 138) ⟨(PuOK.ok (ok_iconst dX0_routeGantry_25 rfl)), m_push⟩ (
  lkp_c (P := OkP 138) ⟨ok_iret rfl rfl (by decide) dX0_routeGantry_26, m_ret⟩ (
  trivial)))))))))))))))))))
theorem mt_138 : MtOK TB NT IT 138 := ⟨by decide +kernel, rfl, (fun h => by cases h), Or.inr rfl, rfl, by decide, lk2_all (P := OkP 138) ⟨c_138_0, trivial⟩⟩
def dkwX0_leastToll_0 : List UInt8 := [45, 3, 42, 27, 28, 182, 0, 61, 133, 80, 167, 0, 7, 58, 4, 4, 172, 3, 172]
abbrev dktX0_leastToll_0 : List UInt8 := dkwX0_leastToll_0 ++ []
theorem dksX0_leastToll_0 : cX0_leastToll.data.toList.drop 0 = dktX0_leastToll_0 := by decide +kernel
theorem dX0_leastToll_0 : decode cX0_leastToll 0 = .ok (.aload_n 3, 1) := dk_45 (dk_at dksX0_leastToll_0 0 rfl rfl)
theorem dX0_leastToll_1 : decode cX0_leastToll 1 = .ok (.iconst 0, 1) := dk_3 (dk_at dksX0_leastToll_0 1 rfl rfl)
theorem dX0_leastToll_2 : decode cX0_leastToll 2 = .ok (.aload_n 0, 1) := dk_42 (dk_at dksX0_leastToll_0 2 rfl rfl)
theorem dX0_leastToll_3 : decode cX0_leastToll 3 = .ok (.iload_n 1, 1) := dk_27 (dk_at dksX0_leastToll_0 3 rfl rfl)
theorem dX0_leastToll_4 : decode cX0_leastToll 4 = .ok (.iload_n 2, 1) := dk_28 (dk_at dksX0_leastToll_0 4 rfl rfl)
theorem dX0_leastToll_5 : decode cX0_leastToll 5 = .ok (.invokevirtual 61, 3) := dk_182 0 61 (dk_at dksX0_leastToll_0 5 rfl rfl)
theorem dX0_leastToll_8 : decode cX0_leastToll 8 = .ok (.i2l, 1) := dk_133 (dk_at dksX0_leastToll_0 8 rfl rfl)
theorem dX0_leastToll_9 : decode cX0_leastToll 9 = .ok (.lastore, 1) := dk_80 (dk_at dksX0_leastToll_0 9 rfl rfl)
theorem dX0_leastToll_10 : decode cX0_leastToll 10 = .ok (.goto 7, 3) := dk_167 0 7 (dk_at dksX0_leastToll_0 10 rfl rfl)
theorem dX0_leastToll_13 : decode cX0_leastToll 13 = .ok (.astore 4, 2) := dk_58 4 (dk_at dksX0_leastToll_0 13 rfl rfl)
theorem dX0_leastToll_15 : decode cX0_leastToll 15 = .ok (.iconst 1, 1) := dk_4 (dk_at dksX0_leastToll_0 15 rfl rfl)
theorem dX0_leastToll_16 : decode cX0_leastToll 16 = .ok (.ireturn, 1) := dk_172 (dk_at dksX0_leastToll_0 16 rfl rfl)
theorem dX0_leastToll_17 : decode cX0_leastToll 17 = .ok (.iconst 0, 1) := dk_3 (dk_at dksX0_leastToll_0 17 rfl rfl)
theorem dX0_leastToll_18 : decode cX0_leastToll 18 = .ok (.ireturn, 1) := dk_172 (dk_at dksX0_leastToll_0 18 rfl rfl)
theorem c_139_0 : LkP (OkP 139) [(0, o_aload 3 1), (1, o_push 1 (.int 0)), (2, o_aload 0 1), (3, o_iload 1 1), (4, o_iload 2 1), (5, o_cv [(0, 194)] 2 3 false (some [(31, 13)])), (8, o_i2l), (9, o_wrJ), (10, o_goto 17), (13, o_astore 4 2), (15, o_push 1 (.int 1)), (16, o_ret 1), (17, o_push 1 (.int 0)), (18, o_ret 1)] := lkp_c (P := OkP 139) ⟨(PuOK.ok (ok_aload_n dX0_leastToll_0 rfl)), m_aload⟩ (
  lkp_c (P := OkP 139) ⟨(PuOK.ok (ok_iconst dX0_leastToll_1 rfl)), m_push⟩ (
  lkp_c (P := OkP 139) ⟨(PuOK.ok (ok_aload_n dX0_leastToll_2 rfl)), m_aload⟩ (
  lkp_c (P := OkP 139) ⟨(PuOK.ok (ok_iload_n dX0_leastToll_3 rfl)), m_iload⟩ (
  lkp_c (P := OkP 139) ⟨(PuOK.ok (ok_iload_n dX0_leastToll_4 rfl)), m_iload⟩ (
  lkp_c (P := OkP 139) ⟨ok_cv (List.forall_mem_cons.mpr ⟨tg_V (ci := 0) (r := CLr 0) (y := 194) rfl ⟨rfl, by decide⟩ rfl q1953 q1954 q1955 q115 q1956 ⟨cn_33.1, cn_33.2, pd_1⟩ dX0_leastToll_5, (List.forall_mem_nil _)⟩) (hd_cons (r := CLr 31) (k := 0) (x := ⟨0, 10, 13, 27⟩) rfl rfl (List.forall_mem_nil _) (by decide +kernel) (by decide) q1664 q1696 rfl hd_nil), m_cv⟩ (
  lkp_c (P := OkP 139) ⟨(PuOK.ok (ok_i2l dX0_leastToll_8)), m_i2l⟩ (
  lkp_c (P := OkP 139) ⟨ok_last dX0_leastToll_9, m_wrJ⟩ (
  lkp_c (P := OkP 139) ⟨(PuOK.ok (ok_goto dX0_leastToll_10 rfl)), m_goto⟩ (
  lkp_c (P := OkP 139) ⟨(PuOK.ok (ok_astore dX0_leastToll_13)), m_astore⟩ (
  lkp_c (P := OkP 139) ⟨(PuOK.ok (ok_iconst dX0_leastToll_15 rfl)), m_push⟩ (
  lkp_c (P := OkP 139) ⟨ok_iret rfl rfl (by decide) dX0_leastToll_16, m_ret⟩ (
  lkp_c (P := OkP 139) ⟨(PuOK.ok (ok_iconst dX0_leastToll_17 rfl)), m_push⟩ (
  lkp_c (P := OkP 139) ⟨ok_iret rfl rfl (by decide) dX0_leastToll_18, m_ret⟩ (
  trivial))))))))))))))
theorem mt_139 : MtOK TB NT IT 139 := ⟨by decide +kernel, rfl, (fun h => by cases h), Or.inr rfl, rfl, by decide, lk2_all (P := OkP 139) ⟨c_139_0, trivial⟩⟩
def dkwX0_tagRead_1 : List UInt8 := [58, 5, 6, 172, 3, 172]
abbrev dktX0_tagRead_1 : List UInt8 := dkwX0_tagRead_1 ++ []
def dkwX0_tagRead_0 : List UInt8 := [25, 4, 3, 42, 27, 28, 29, 182, 0, 64, 133, 80, 167, 0, 15, 58, 5, 4, 172, 58, 5, 5, 172]
abbrev dktX0_tagRead_0 : List UInt8 := dkwX0_tagRead_0 ++ dktX0_tagRead_1
theorem dksX0_tagRead_0 : cX0_tagRead.data.toList.drop 0 = dktX0_tagRead_0 := by decide +kernel
theorem dksX0_tagRead_1 : cX0_tagRead.data.toList.drop 23 = dktX0_tagRead_1 := dk_seg dksX0_tagRead_0 23 rfl rfl
theorem dX0_tagRead_0 : decode cX0_tagRead 0 = .ok (.aload 4, 2) := dk_25 4 (dk_at dksX0_tagRead_0 0 rfl rfl)
theorem dX0_tagRead_2 : decode cX0_tagRead 2 = .ok (.iconst 0, 1) := dk_3 (dk_at dksX0_tagRead_0 2 rfl rfl)
theorem dX0_tagRead_3 : decode cX0_tagRead 3 = .ok (.aload_n 0, 1) := dk_42 (dk_at dksX0_tagRead_0 3 rfl rfl)
theorem dX0_tagRead_4 : decode cX0_tagRead 4 = .ok (.iload_n 1, 1) := dk_27 (dk_at dksX0_tagRead_0 4 rfl rfl)
theorem dX0_tagRead_5 : decode cX0_tagRead 5 = .ok (.iload_n 2, 1) := dk_28 (dk_at dksX0_tagRead_0 5 rfl rfl)
theorem dX0_tagRead_6 : decode cX0_tagRead 6 = .ok (.iload_n 3, 1) := dk_29 (dk_at dksX0_tagRead_0 6 rfl rfl)
theorem dX0_tagRead_7 : decode cX0_tagRead 7 = .ok (.invokevirtual 64, 3) := dk_182 0 64 (dk_at dksX0_tagRead_0 7 rfl rfl)
theorem dX0_tagRead_10 : decode cX0_tagRead 10 = .ok (.i2l, 1) := dk_133 (dk_at dksX0_tagRead_0 10 rfl rfl)
theorem dX0_tagRead_11 : decode cX0_tagRead 11 = .ok (.lastore, 1) := dk_80 (dk_at dksX0_tagRead_0 11 rfl rfl)
theorem dX0_tagRead_12 : decode cX0_tagRead 12 = .ok (.goto 15, 3) := dk_167 0 15 (dk_at dksX0_tagRead_0 12 rfl rfl)
theorem dX0_tagRead_15 : decode cX0_tagRead 15 = .ok (.astore 5, 2) := dk_58 5 (dk_at dksX0_tagRead_0 15 rfl rfl)
theorem dX0_tagRead_17 : decode cX0_tagRead 17 = .ok (.iconst 1, 1) := dk_4 (dk_at dksX0_tagRead_0 17 rfl rfl)
theorem dX0_tagRead_18 : decode cX0_tagRead 18 = .ok (.ireturn, 1) := dk_172 (dk_at dksX0_tagRead_0 18 rfl rfl)
theorem dX0_tagRead_19 : decode cX0_tagRead 19 = .ok (.astore 5, 2) := dk_58 5 (dk_at dksX0_tagRead_0 19 rfl rfl)
theorem dX0_tagRead_21 : decode cX0_tagRead 21 = .ok (.iconst 2, 1) := dk_5 (dk_at dksX0_tagRead_0 21 rfl rfl)
theorem dX0_tagRead_22 : decode cX0_tagRead 22 = .ok (.ireturn, 1) := dk_172 (dk_at dksX0_tagRead_0 22 rfl rfl)
theorem dX0_tagRead_23 : decode cX0_tagRead 23 = .ok (.astore 5, 2) := dk_58 5 (dk_at dksX0_tagRead_1 0 rfl rfl)
theorem dX0_tagRead_25 : decode cX0_tagRead 25 = .ok (.iconst 3, 1) := dk_6 (dk_at dksX0_tagRead_1 2 rfl rfl)
theorem dX0_tagRead_26 : decode cX0_tagRead 26 = .ok (.ireturn, 1) := dk_172 (dk_at dksX0_tagRead_1 3 rfl rfl)
theorem dX0_tagRead_27 : decode cX0_tagRead 27 = .ok (.iconst 0, 1) := dk_3 (dk_at dksX0_tagRead_1 4 rfl rfl)
theorem dX0_tagRead_28 : decode cX0_tagRead 28 = .ok (.ireturn, 1) := dk_172 (dk_at dksX0_tagRead_1 5 rfl rfl)
theorem c_140_0 : LkP (OkP 140) [(0, o_aload 4 2), (2, o_push 1 (.int 0)), (3, o_aload 0 1), (4, o_iload 1 1), (5, o_iload 2 1), (6, o_iload 3 1), (7, o_cv [(0, 195)] 3 3 false (some [(31, 15), (32, 19), (33, 23)])), (10, o_i2l), (11, o_wrJ), (12, o_goto 27), (15, o_astore 5 2), (17, o_push 1 (.int 1)), (18, o_ret 1), (19, o_astore 5 2), (21, o_push 1 (.int 2)), (22, o_ret 1), (23, o_astore 5 2), (25, o_push 1 (.int 3)), (26, o_ret 1), (27, o_push 1 (.int 0)), (28, o_ret 1)] := lkp_c (P := OkP 140) ⟨(PuOK.ok (ok_aload dX0_tagRead_0)), m_aload⟩ (
  lkp_c (P := OkP 140) ⟨(PuOK.ok (ok_iconst dX0_tagRead_2 rfl)), m_push⟩ (
  lkp_c (P := OkP 140) ⟨(PuOK.ok (ok_aload_n dX0_tagRead_3 rfl)), m_aload⟩ (
  lkp_c (P := OkP 140) ⟨(PuOK.ok (ok_iload_n dX0_tagRead_4 rfl)), m_iload⟩ (
  lkp_c (P := OkP 140) ⟨(PuOK.ok (ok_iload_n dX0_tagRead_5 rfl)), m_iload⟩ (
  lkp_c (P := OkP 140) ⟨(PuOK.ok (ok_iload_n dX0_tagRead_6 rfl)), m_iload⟩ (
  lkp_c (P := OkP 140) ⟨ok_cv (List.forall_mem_cons.mpr ⟨tg_V (ci := 0) (r := CLr 0) (y := 195) rfl ⟨rfl, by decide⟩ rfl q1984 q1985 q1986 q115 q1987 ⟨cn_33.1, cn_33.2, pd_25⟩ dX0_tagRead_7, (List.forall_mem_nil _)⟩) (hd_cons (r := CLr 31) (k := 0) (x := ⟨0, 12, 15, 27⟩) rfl rfl (List.forall_mem_nil _) (by decide +kernel) (by decide) q1664 q1696 rfl (hd_cons (r := CLr 32) (k := 1) (x := ⟨0, 12, 19, 18⟩) rfl rfl (List.forall_mem_cons.mpr ⟨Or.inr ⟨by decide, "java/lang/IndexOutOfBoundsException", q1664, by decide +kernel⟩, (List.forall_mem_nil _)⟩) (by decide +kernel) (by decide) q1638 q245 rfl (hd_cons (r := CLr 33) (k := 2) (x := ⟨0, 12, 23, 13⟩) rfl rfl (List.forall_mem_cons.mpr ⟨Or.inr ⟨by decide, "java/lang/IndexOutOfBoundsException", q1664, by decide +kernel⟩, (List.forall_mem_cons.mpr ⟨Or.inr ⟨by decide, "java/lang/IllegalArgumentException", q1638, by decide +kernel⟩, (List.forall_mem_nil _)⟩)⟩) (by decide +kernel) (by decide) q1606 q1616 rfl hd_nil))), m_cv⟩ (
  lkp_c (P := OkP 140) ⟨(PuOK.ok (ok_i2l dX0_tagRead_10)), m_i2l⟩ (
  lkp_c (P := OkP 140) ⟨ok_last dX0_tagRead_11, m_wrJ⟩ (
  lkp_c (P := OkP 140) ⟨(PuOK.ok (ok_goto dX0_tagRead_12 rfl)), m_goto⟩ (
  lkp_c (P := OkP 140) ⟨(PuOK.ok (ok_astore dX0_tagRead_15)), m_astore⟩ (
  lkp_c (P := OkP 140) ⟨(PuOK.ok (ok_iconst dX0_tagRead_17 rfl)), m_push⟩ (
  lkp_c (P := OkP 140) ⟨ok_iret rfl rfl (by decide) dX0_tagRead_18, m_ret⟩ (
  lkp_c (P := OkP 140) ⟨(PuOK.ok (ok_astore dX0_tagRead_19)), m_astore⟩ (
  lkp_c (P := OkP 140) ⟨(PuOK.ok (ok_iconst dX0_tagRead_21 rfl)), m_push⟩ (
  lkp_c (P := OkP 140) ⟨ok_iret rfl rfl (by decide) dX0_tagRead_22, m_ret⟩ (
  lkp_c (P := OkP 140) ⟨(PuOK.ok (ok_astore dX0_tagRead_23)), m_astore⟩ (
  lkp_c (P := OkP 140) ⟨(PuOK.ok (ok_iconst dX0_tagRead_25 rfl)), m_push⟩ (
  lkp_c (P := OkP 140) ⟨ok_iret rfl rfl (by decide) dX0_tagRead_26, m_ret⟩ (
  lkp_c (P := OkP 140) ⟨(PuOK.ok (ok_iconst dX0_tagRead_27 rfl)), m_push⟩ (
  lkp_c (P := OkP 140) ⟨ok_iret rfl rfl (by decide) dX0_tagRead_28, m_ret⟩ (
  trivial)))))))))))))))))))))
theorem mt_140 : MtOK TB NT IT 140 := ⟨by decide +kernel, rfl, (fun h => by cases h), Or.inr rfl, rfl, by decide, lk2_all (P := OkP 140) ⟨c_140_0, trivial⟩⟩
def dkwX0_imageRead_1 : List UInt8 := [172, 58, 6, 6, 172, 3, 172]
abbrev dktX0_imageRead_1 : List UInt8 := dkwX0_imageRead_1 ++ []
def dkwX0_imageRead_0 : List UInt8 := [25, 5, 3, 42, 27, 28, 29, 21, 4, 182, 0, 67, 133, 80, 167, 0, 15, 58, 6, 4, 172, 58, 6, 5]
abbrev dktX0_imageRead_0 : List UInt8 := dkwX0_imageRead_0 ++ dktX0_imageRead_1
theorem dksX0_imageRead_0 : cX0_imageRead.data.toList.drop 0 = dktX0_imageRead_0 := by decide +kernel
theorem dksX0_imageRead_1 : cX0_imageRead.data.toList.drop 24 = dktX0_imageRead_1 := dk_seg dksX0_imageRead_0 24 rfl rfl
theorem dX0_imageRead_0 : decode cX0_imageRead 0 = .ok (.aload 5, 2) := dk_25 5 (dk_at dksX0_imageRead_0 0 rfl rfl)
theorem dX0_imageRead_2 : decode cX0_imageRead 2 = .ok (.iconst 0, 1) := dk_3 (dk_at dksX0_imageRead_0 2 rfl rfl)
theorem dX0_imageRead_3 : decode cX0_imageRead 3 = .ok (.aload_n 0, 1) := dk_42 (dk_at dksX0_imageRead_0 3 rfl rfl)
theorem dX0_imageRead_4 : decode cX0_imageRead 4 = .ok (.iload_n 1, 1) := dk_27 (dk_at dksX0_imageRead_0 4 rfl rfl)
theorem dX0_imageRead_5 : decode cX0_imageRead 5 = .ok (.iload_n 2, 1) := dk_28 (dk_at dksX0_imageRead_0 5 rfl rfl)
theorem dX0_imageRead_6 : decode cX0_imageRead 6 = .ok (.iload_n 3, 1) := dk_29 (dk_at dksX0_imageRead_0 6 rfl rfl)
theorem dX0_imageRead_7 : decode cX0_imageRead 7 = .ok (.iload 4, 2) := dk_21 4 (dk_at dksX0_imageRead_0 7 rfl rfl)
theorem dX0_imageRead_9 : decode cX0_imageRead 9 = .ok (.invokevirtual 67, 3) := dk_182 0 67 (dk_at dksX0_imageRead_0 9 rfl rfl)
theorem dX0_imageRead_12 : decode cX0_imageRead 12 = .ok (.i2l, 1) := dk_133 (dk_at dksX0_imageRead_0 12 rfl rfl)
theorem dX0_imageRead_13 : decode cX0_imageRead 13 = .ok (.lastore, 1) := dk_80 (dk_at dksX0_imageRead_0 13 rfl rfl)
theorem dX0_imageRead_14 : decode cX0_imageRead 14 = .ok (.goto 15, 3) := dk_167 0 15 (dk_at dksX0_imageRead_0 14 rfl rfl)
theorem dX0_imageRead_17 : decode cX0_imageRead 17 = .ok (.astore 6, 2) := dk_58 6 (dk_at dksX0_imageRead_0 17 rfl rfl)
theorem dX0_imageRead_19 : decode cX0_imageRead 19 = .ok (.iconst 1, 1) := dk_4 (dk_at dksX0_imageRead_0 19 rfl rfl)
theorem dX0_imageRead_20 : decode cX0_imageRead 20 = .ok (.ireturn, 1) := dk_172 (dk_at dksX0_imageRead_0 20 rfl rfl)
theorem dX0_imageRead_21 : decode cX0_imageRead 21 = .ok (.astore 6, 2) := dk_58 6 (dk_at dksX0_imageRead_0 21 rfl rfl)
theorem dX0_imageRead_23 : decode cX0_imageRead 23 = .ok (.iconst 2, 1) := dk_5 (dk_at dksX0_imageRead_0 23 rfl rfl)
theorem dX0_imageRead_24 : decode cX0_imageRead 24 = .ok (.ireturn, 1) := dk_172 (dk_at dksX0_imageRead_1 0 rfl rfl)
theorem dX0_imageRead_25 : decode cX0_imageRead 25 = .ok (.astore 6, 2) := dk_58 6 (dk_at dksX0_imageRead_1 1 rfl rfl)
theorem dX0_imageRead_27 : decode cX0_imageRead 27 = .ok (.iconst 3, 1) := dk_6 (dk_at dksX0_imageRead_1 3 rfl rfl)
theorem dX0_imageRead_28 : decode cX0_imageRead 28 = .ok (.ireturn, 1) := dk_172 (dk_at dksX0_imageRead_1 4 rfl rfl)
theorem dX0_imageRead_29 : decode cX0_imageRead 29 = .ok (.iconst 0, 1) := dk_3 (dk_at dksX0_imageRead_1 5 rfl rfl)
theorem dX0_imageRead_30 : decode cX0_imageRead 30 = .ok (.ireturn, 1) := dk_172 (dk_at dksX0_imageRead_1 6 rfl rfl)
theorem c_141_0 : LkP (OkP 141) [(0, o_aload 5 2), (2, o_push 1 (.int 0)), (3, o_aload 0 1), (4, o_iload 1 1), (5, o_iload 2 1), (6, o_iload 3 1), (7, o_iload 4 2), (9, o_cv [(0, 196)] 4 3 false (some [(31, 17), (32, 21), (33, 25)])), (12, o_i2l), (13, o_wrJ), (14, o_goto 29), (17, o_astore 6 2), (19, o_push 1 (.int 1)), (20, o_ret 1), (21, o_astore 6 2), (23, o_push 1 (.int 2)), (24, o_ret 1), (25, o_astore 6 2), (27, o_push 1 (.int 3)), (28, o_ret 1), (29, o_push 1 (.int 0)), (30, o_ret 1)] := lkp_c (P := OkP 141) ⟨(PuOK.ok (ok_aload dX0_imageRead_0)), m_aload⟩ (
  lkp_c (P := OkP 141) ⟨(PuOK.ok (ok_iconst dX0_imageRead_2 rfl)), m_push⟩ (
  lkp_c (P := OkP 141) ⟨(PuOK.ok (ok_aload_n dX0_imageRead_3 rfl)), m_aload⟩ (
  lkp_c (P := OkP 141) ⟨(PuOK.ok (ok_iload_n dX0_imageRead_4 rfl)), m_iload⟩ (
  lkp_c (P := OkP 141) ⟨(PuOK.ok (ok_iload_n dX0_imageRead_5 rfl)), m_iload⟩ (
  lkp_c (P := OkP 141) ⟨(PuOK.ok (ok_iload_n dX0_imageRead_6 rfl)), m_iload⟩ (
  lkp_c (P := OkP 141) ⟨(PuOK.ok (ok_iload dX0_imageRead_7)), m_iload⟩ (
  lkp_c (P := OkP 141) ⟨ok_cv (List.forall_mem_cons.mpr ⟨tg_V (ci := 0) (r := CLr 0) (y := 196) rfl ⟨rfl, by decide⟩ rfl q2048 q2049 q2050 q115 q2051 ⟨cn_33.1, cn_33.2, pd_62⟩ dX0_imageRead_9, (List.forall_mem_nil _)⟩) (hd_cons (r := CLr 31) (k := 0) (x := ⟨0, 14, 17, 27⟩) rfl rfl (List.forall_mem_nil _) (by decide +kernel) (by decide) q1664 q1696 rfl (hd_cons (r := CLr 32) (k := 1) (x := ⟨0, 14, 21, 18⟩) rfl rfl (List.forall_mem_cons.mpr ⟨Or.inr ⟨by decide, "java/lang/IndexOutOfBoundsException", q1664, by decide +kernel⟩, (List.forall_mem_nil _)⟩) (by decide +kernel) (by decide) q1638 q245 rfl (hd_cons (r := CLr 33) (k := 2) (x := ⟨0, 14, 25, 13⟩) rfl rfl (List.forall_mem_cons.mpr ⟨Or.inr ⟨by decide, "java/lang/IndexOutOfBoundsException", q1664, by decide +kernel⟩, (List.forall_mem_cons.mpr ⟨Or.inr ⟨by decide, "java/lang/IllegalArgumentException", q1638, by decide +kernel⟩, (List.forall_mem_nil _)⟩)⟩) (by decide +kernel) (by decide) q1606 q1616 rfl hd_nil))), m_cv⟩ (
  lkp_c (P := OkP 141) ⟨(PuOK.ok (ok_i2l dX0_imageRead_12)), m_i2l⟩ (
  lkp_c (P := OkP 141) ⟨ok_last dX0_imageRead_13, m_wrJ⟩ (
  lkp_c (P := OkP 141) ⟨(PuOK.ok (ok_goto dX0_imageRead_14 rfl)), m_goto⟩ (
  lkp_c (P := OkP 141) ⟨(PuOK.ok (ok_astore dX0_imageRead_17)), m_astore⟩ (
  lkp_c (P := OkP 141) ⟨(PuOK.ok (ok_iconst dX0_imageRead_19 rfl)), m_push⟩ (
  lkp_c (P := OkP 141) ⟨ok_iret rfl rfl (by decide) dX0_imageRead_20, m_ret⟩ (
  lkp_c (P := OkP 141) ⟨(PuOK.ok (ok_astore dX0_imageRead_21)), m_astore⟩ (
  lkp_c (P := OkP 141) ⟨(PuOK.ok (ok_iconst dX0_imageRead_23 rfl)), m_push⟩ (
  lkp_c (P := OkP 141) ⟨ok_iret rfl rfl (by decide) dX0_imageRead_24, m_ret⟩ (
  lkp_c (P := OkP 141) ⟨(PuOK.ok (ok_astore dX0_imageRead_25)), m_astore⟩ (
  lkp_c (P := OkP 141) ⟨(PuOK.ok (ok_iconst dX0_imageRead_27 rfl)), m_push⟩ (
  lkp_c (P := OkP 141) ⟨ok_iret rfl rfl (by decide) dX0_imageRead_28, m_ret⟩ (
  lkp_c (P := OkP 141) ⟨(PuOK.ok (ok_iconst dX0_imageRead_29 rfl)), m_push⟩ (
  lkp_c (P := OkP 141) ⟨ok_iret rfl rfl (by decide) dX0_imageRead_30, m_ret⟩ (
  trivial))))))))))))))))))))))
theorem mt_141 : MtOK TB NT IT 141 := ⟨by decide +kernel, rfl, (fun h => by cases h), Or.inr rfl, rfl, by decide, lk2_all (P := OkP 141) ⟨c_141_0, trivial⟩⟩
def dkwX0_read_0 : List UInt8 := [45, 3, 42, 27, 28, 182, 0, 70, 133, 80, 167, 0, 11, 58, 4, 4, 172, 58, 4, 5, 172, 3, 172]
abbrev dktX0_read_0 : List UInt8 := dkwX0_read_0 ++ []
theorem dksX0_read_0 : cX0_read.data.toList.drop 0 = dktX0_read_0 := by decide +kernel
theorem dX0_read_0 : decode cX0_read 0 = .ok (.aload_n 3, 1) := dk_45 (dk_at dksX0_read_0 0 rfl rfl)
theorem dX0_read_1 : decode cX0_read 1 = .ok (.iconst 0, 1) := dk_3 (dk_at dksX0_read_0 1 rfl rfl)
theorem dX0_read_2 : decode cX0_read 2 = .ok (.aload_n 0, 1) := dk_42 (dk_at dksX0_read_0 2 rfl rfl)
theorem dX0_read_3 : decode cX0_read 3 = .ok (.iload_n 1, 1) := dk_27 (dk_at dksX0_read_0 3 rfl rfl)
theorem dX0_read_4 : decode cX0_read 4 = .ok (.iload_n 2, 1) := dk_28 (dk_at dksX0_read_0 4 rfl rfl)
theorem dX0_read_5 : decode cX0_read 5 = .ok (.invokevirtual 70, 3) := dk_182 0 70 (dk_at dksX0_read_0 5 rfl rfl)
theorem dX0_read_8 : decode cX0_read 8 = .ok (.i2l, 1) := dk_133 (dk_at dksX0_read_0 8 rfl rfl)
theorem dX0_read_9 : decode cX0_read 9 = .ok (.lastore, 1) := dk_80 (dk_at dksX0_read_0 9 rfl rfl)
theorem dX0_read_10 : decode cX0_read 10 = .ok (.goto 11, 3) := dk_167 0 11 (dk_at dksX0_read_0 10 rfl rfl)
theorem dX0_read_13 : decode cX0_read 13 = .ok (.astore 4, 2) := dk_58 4 (dk_at dksX0_read_0 13 rfl rfl)
theorem dX0_read_15 : decode cX0_read 15 = .ok (.iconst 1, 1) := dk_4 (dk_at dksX0_read_0 15 rfl rfl)
theorem dX0_read_16 : decode cX0_read 16 = .ok (.ireturn, 1) := dk_172 (dk_at dksX0_read_0 16 rfl rfl)
theorem dX0_read_17 : decode cX0_read 17 = .ok (.astore 4, 2) := dk_58 4 (dk_at dksX0_read_0 17 rfl rfl)
theorem dX0_read_19 : decode cX0_read 19 = .ok (.iconst 2, 1) := dk_5 (dk_at dksX0_read_0 19 rfl rfl)
theorem dX0_read_20 : decode cX0_read 20 = .ok (.ireturn, 1) := dk_172 (dk_at dksX0_read_0 20 rfl rfl)
theorem dX0_read_21 : decode cX0_read 21 = .ok (.iconst 0, 1) := dk_3 (dk_at dksX0_read_0 21 rfl rfl)
theorem dX0_read_22 : decode cX0_read 22 = .ok (.ireturn, 1) := dk_172 (dk_at dksX0_read_0 22 rfl rfl)
theorem c_142_0 : LkP (OkP 142) [(0, o_aload 3 1), (1, o_push 1 (.int 0)), (2, o_aload 0 1), (3, o_iload 1 1), (4, o_iload 2 1), (5, o_cv [(0, 197)] 2 3 false (some [(31, 13), (32, 17)])), (8, o_i2l), (9, o_wrJ), (10, o_goto 21), (13, o_astore 4 2), (15, o_push 1 (.int 1)), (16, o_ret 1), (17, o_astore 4 2), (19, o_push 1 (.int 2)), (20, o_ret 1), (21, o_push 1 (.int 0)), (22, o_ret 1)] := lkp_c (P := OkP 142) ⟨(PuOK.ok (ok_aload_n dX0_read_0 rfl)), m_aload⟩ (
  lkp_c (P := OkP 142) ⟨(PuOK.ok (ok_iconst dX0_read_1 rfl)), m_push⟩ (
  lkp_c (P := OkP 142) ⟨(PuOK.ok (ok_aload_n dX0_read_2 rfl)), m_aload⟩ (
  lkp_c (P := OkP 142) ⟨(PuOK.ok (ok_iload_n dX0_read_3 rfl)), m_iload⟩ (
  lkp_c (P := OkP 142) ⟨(PuOK.ok (ok_iload_n dX0_read_4 rfl)), m_iload⟩ (
  lkp_c (P := OkP 142) ⟨ok_cv (List.forall_mem_cons.mpr ⟨tg_V (ci := 0) (r := CLr 0) (y := 197) rfl ⟨rfl, by decide⟩ rfl q2056 q2057 q2058 q115 q2059 ⟨cn_33.1, cn_33.2, pd_1⟩ dX0_read_5, (List.forall_mem_nil _)⟩) (hd_cons (r := CLr 31) (k := 0) (x := ⟨0, 10, 13, 27⟩) rfl rfl (List.forall_mem_nil _) (by decide +kernel) (by decide) q1664 q1696 rfl (hd_cons (r := CLr 32) (k := 1) (x := ⟨0, 10, 17, 18⟩) rfl rfl (List.forall_mem_cons.mpr ⟨Or.inr ⟨by decide, "java/lang/IndexOutOfBoundsException", q1664, by decide +kernel⟩, (List.forall_mem_nil _)⟩) (by decide +kernel) (by decide) q1638 q245 rfl hd_nil)), m_cv⟩ (
  lkp_c (P := OkP 142) ⟨(PuOK.ok (ok_i2l dX0_read_8)), m_i2l⟩ (
  lkp_c (P := OkP 142) ⟨ok_last dX0_read_9, m_wrJ⟩ (
  lkp_c (P := OkP 142) ⟨(PuOK.ok (ok_goto dX0_read_10 rfl)), m_goto⟩ (
  lkp_c (P := OkP 142) ⟨(PuOK.ok (ok_astore dX0_read_13)), m_astore⟩ (
  lkp_c (P := OkP 142) ⟨(PuOK.ok (ok_iconst dX0_read_15 rfl)), m_push⟩ (
  lkp_c (P := OkP 142) ⟨ok_iret rfl rfl (by decide) dX0_read_16, m_ret⟩ (
  lkp_c (P := OkP 142) ⟨(PuOK.ok (ok_astore dX0_read_17)), m_astore⟩ (
  lkp_c (P := OkP 142) ⟨(PuOK.ok (ok_iconst dX0_read_19 rfl)), m_push⟩ (
  lkp_c (P := OkP 142) ⟨ok_iret rfl rfl (by decide) dX0_read_20, m_ret⟩ (
  lkp_c (P := OkP 142) ⟨(PuOK.ok (ok_iconst dX0_read_21 rfl)), m_push⟩ (
  lkp_c (P := OkP 142) ⟨ok_iret rfl rfl (by decide) dX0_read_22, m_ret⟩ (
  trivial)))))))))))))))))
theorem mt_142 : MtOK TB NT IT 142 := ⟨by decide +kernel, rfl, (fun h => by cases h), Or.inr rfl, rfl, by decide, lk2_all (P := OkP 142) ⟨c_142_0, trivial⟩⟩
def dkwX0_review_0 : List UInt8 := [44, 3, 42, 27, 182, 0, 73, 133, 80, 167, 0, 6, 78, 4, 172, 3, 172]
abbrev dktX0_review_0 : List UInt8 := dkwX0_review_0 ++ []
theorem dksX0_review_0 : cX0_review.data.toList.drop 0 = dktX0_review_0 := by decide +kernel
theorem dX0_review_0 : decode cX0_review 0 = .ok (.aload_n 2, 1) := dk_44 (dk_at dksX0_review_0 0 rfl rfl)
theorem dX0_review_1 : decode cX0_review 1 = .ok (.iconst 0, 1) := dk_3 (dk_at dksX0_review_0 1 rfl rfl)
theorem dX0_review_2 : decode cX0_review 2 = .ok (.aload_n 0, 1) := dk_42 (dk_at dksX0_review_0 2 rfl rfl)
theorem dX0_review_3 : decode cX0_review 3 = .ok (.iload_n 1, 1) := dk_27 (dk_at dksX0_review_0 3 rfl rfl)
theorem dX0_review_4 : decode cX0_review 4 = .ok (.invokevirtual 73, 3) := dk_182 0 73 (dk_at dksX0_review_0 4 rfl rfl)
theorem dX0_review_7 : decode cX0_review 7 = .ok (.i2l, 1) := dk_133 (dk_at dksX0_review_0 7 rfl rfl)
theorem dX0_review_8 : decode cX0_review 8 = .ok (.lastore, 1) := dk_80 (dk_at dksX0_review_0 8 rfl rfl)
theorem dX0_review_9 : decode cX0_review 9 = .ok (.goto 6, 3) := dk_167 0 6 (dk_at dksX0_review_0 9 rfl rfl)
theorem dX0_review_12 : decode cX0_review 12 = .ok (.astore_n 3, 1) := dk_78 (dk_at dksX0_review_0 12 rfl rfl)
theorem dX0_review_13 : decode cX0_review 13 = .ok (.iconst 1, 1) := dk_4 (dk_at dksX0_review_0 13 rfl rfl)
theorem dX0_review_14 : decode cX0_review 14 = .ok (.ireturn, 1) := dk_172 (dk_at dksX0_review_0 14 rfl rfl)
theorem dX0_review_15 : decode cX0_review 15 = .ok (.iconst 0, 1) := dk_3 (dk_at dksX0_review_0 15 rfl rfl)
theorem dX0_review_16 : decode cX0_review 16 = .ok (.ireturn, 1) := dk_172 (dk_at dksX0_review_0 16 rfl rfl)
theorem c_143_0 : LkP (OkP 143) [(0, o_aload 2 1), (1, o_push 1 (.int 0)), (2, o_aload 0 1), (3, o_iload 1 1), (4, o_cv [(0, 199)] 1 3 false (some [(31, 12)])), (7, o_i2l), (8, o_wrJ), (9, o_goto 15), (12, o_astore 3 1), (13, o_push 1 (.int 1)), (14, o_ret 1), (15, o_push 1 (.int 0)), (16, o_ret 1)] := lkp_c (P := OkP 143) ⟨(PuOK.ok (ok_aload_n dX0_review_0 rfl)), m_aload⟩ (
  lkp_c (P := OkP 143) ⟨(PuOK.ok (ok_iconst dX0_review_1 rfl)), m_push⟩ (
  lkp_c (P := OkP 143) ⟨(PuOK.ok (ok_aload_n dX0_review_2 rfl)), m_aload⟩ (
  lkp_c (P := OkP 143) ⟨(PuOK.ok (ok_iload_n dX0_review_3 rfl)), m_iload⟩ (
  lkp_c (P := OkP 143) ⟨ok_cv (List.forall_mem_cons.mpr ⟨tg_V (ci := 0) (r := CLr 0) (y := 199) rfl ⟨rfl, by decide⟩ rfl q2071 q2072 q2073 q115 q2074 ⟨cn_33.1, cn_33.2, pd_48⟩ dX0_review_4, (List.forall_mem_nil _)⟩) (hd_cons (r := CLr 31) (k := 0) (x := ⟨0, 9, 12, 27⟩) rfl rfl (List.forall_mem_nil _) (by decide +kernel) (by decide) q1664 q1696 rfl hd_nil), m_cv⟩ (
  lkp_c (P := OkP 143) ⟨(PuOK.ok (ok_i2l dX0_review_7)), m_i2l⟩ (
  lkp_c (P := OkP 143) ⟨ok_last dX0_review_8, m_wrJ⟩ (
  lkp_c (P := OkP 143) ⟨(PuOK.ok (ok_goto dX0_review_9 rfl)), m_goto⟩ (
  lkp_c (P := OkP 143) ⟨(PuOK.ok (ok_astore_n dX0_review_12 rfl)), m_astore⟩ (
  lkp_c (P := OkP 143) ⟨(PuOK.ok (ok_iconst dX0_review_13 rfl)), m_push⟩ (
  lkp_c (P := OkP 143) ⟨ok_iret rfl rfl (by decide) dX0_review_14, m_ret⟩ (
  lkp_c (P := OkP 143) ⟨(PuOK.ok (ok_iconst dX0_review_15 rfl)), m_push⟩ (
  lkp_c (P := OkP 143) ⟨ok_iret rfl rfl (by decide) dX0_review_16, m_ret⟩ (
  trivial)))))))))))))
theorem mt_143 : MtOK TB NT IT 143 := ⟨by decide +kernel, rfl, (fun h => by cases h), Or.inr rfl, rfl, by decide, lk2_all (P := OkP 143) ⟨c_143_0, trivial⟩⟩
def dkwX0_decide_0 : List UInt8 := [44, 3, 42, 27, 182, 0, 76, 133, 80, 167, 0, 9, 78, 4, 172, 78, 5, 172, 3, 172]
abbrev dktX0_decide_0 : List UInt8 := dkwX0_decide_0 ++ []
theorem dksX0_decide_0 : cX0_decide.data.toList.drop 0 = dktX0_decide_0 := by decide +kernel
theorem dX0_decide_0 : decode cX0_decide 0 = .ok (.aload_n 2, 1) := dk_44 (dk_at dksX0_decide_0 0 rfl rfl)
theorem dX0_decide_1 : decode cX0_decide 1 = .ok (.iconst 0, 1) := dk_3 (dk_at dksX0_decide_0 1 rfl rfl)
theorem dX0_decide_2 : decode cX0_decide 2 = .ok (.aload_n 0, 1) := dk_42 (dk_at dksX0_decide_0 2 rfl rfl)
theorem dX0_decide_3 : decode cX0_decide 3 = .ok (.iload_n 1, 1) := dk_27 (dk_at dksX0_decide_0 3 rfl rfl)
theorem dX0_decide_4 : decode cX0_decide 4 = .ok (.invokevirtual 76, 3) := dk_182 0 76 (dk_at dksX0_decide_0 4 rfl rfl)
theorem dX0_decide_7 : decode cX0_decide 7 = .ok (.i2l, 1) := dk_133 (dk_at dksX0_decide_0 7 rfl rfl)
theorem dX0_decide_8 : decode cX0_decide 8 = .ok (.lastore, 1) := dk_80 (dk_at dksX0_decide_0 8 rfl rfl)
theorem dX0_decide_9 : decode cX0_decide 9 = .ok (.goto 9, 3) := dk_167 0 9 (dk_at dksX0_decide_0 9 rfl rfl)
theorem dX0_decide_12 : decode cX0_decide 12 = .ok (.astore_n 3, 1) := dk_78 (dk_at dksX0_decide_0 12 rfl rfl)
theorem dX0_decide_13 : decode cX0_decide 13 = .ok (.iconst 1, 1) := dk_4 (dk_at dksX0_decide_0 13 rfl rfl)
theorem dX0_decide_14 : decode cX0_decide 14 = .ok (.ireturn, 1) := dk_172 (dk_at dksX0_decide_0 14 rfl rfl)
theorem dX0_decide_15 : decode cX0_decide 15 = .ok (.astore_n 3, 1) := dk_78 (dk_at dksX0_decide_0 15 rfl rfl)
theorem dX0_decide_16 : decode cX0_decide 16 = .ok (.iconst 2, 1) := dk_5 (dk_at dksX0_decide_0 16 rfl rfl)
theorem dX0_decide_17 : decode cX0_decide 17 = .ok (.ireturn, 1) := dk_172 (dk_at dksX0_decide_0 17 rfl rfl)
theorem dX0_decide_18 : decode cX0_decide 18 = .ok (.iconst 0, 1) := dk_3 (dk_at dksX0_decide_0 18 rfl rfl)
theorem dX0_decide_19 : decode cX0_decide 19 = .ok (.ireturn, 1) := dk_172 (dk_at dksX0_decide_0 19 rfl rfl)
theorem c_144_0 : LkP (OkP 144) [(0, o_aload 2 1), (1, o_push 1 (.int 0)), (2, o_aload 0 1), (3, o_iload 1 1), (4, o_cv [(0, 201)] 1 3 false (some [(31, 12), (33, 15)])), (7, o_i2l), (8, o_wrJ), (9, o_goto 18), (12, o_astore 3 1), (13, o_push 1 (.int 1)), (14, o_ret 1), (15, o_astore 3 1), (16, o_push 1 (.int 2)), (17, o_ret 1), (18, o_push 1 (.int 0)), (19, o_ret 1)] := lkp_c (P := OkP 144) ⟨(PuOK.ok (ok_aload_n dX0_decide_0 rfl)), m_aload⟩ (
  lkp_c (P := OkP 144) ⟨(PuOK.ok (ok_iconst dX0_decide_1 rfl)), m_push⟩ (
  lkp_c (P := OkP 144) ⟨(PuOK.ok (ok_aload_n dX0_decide_2 rfl)), m_aload⟩ (
  lkp_c (P := OkP 144) ⟨(PuOK.ok (ok_iload_n dX0_decide_3 rfl)), m_iload⟩ (
  lkp_c (P := OkP 144) ⟨ok_cv (List.forall_mem_cons.mpr ⟨tg_V (ci := 0) (r := CLr 0) (y := 201) rfl ⟨rfl, by decide⟩ rfl q2201 q2202 q2203 q115 q2204 ⟨cn_33.1, cn_33.2, pd_48⟩ dX0_decide_4, (List.forall_mem_nil _)⟩) (hd_cons (r := CLr 31) (k := 0) (x := ⟨0, 9, 12, 27⟩) rfl rfl (List.forall_mem_nil _) (by decide +kernel) (by decide) q1664 q1696 rfl (hd_cons (r := CLr 33) (k := 1) (x := ⟨0, 9, 15, 13⟩) rfl rfl (List.forall_mem_cons.mpr ⟨Or.inr ⟨by decide, "java/lang/IndexOutOfBoundsException", q1664, by decide +kernel⟩, (List.forall_mem_nil _)⟩) (by decide +kernel) (by decide) q1606 q1616 rfl hd_nil)), m_cv⟩ (
  lkp_c (P := OkP 144) ⟨(PuOK.ok (ok_i2l dX0_decide_7)), m_i2l⟩ (
  lkp_c (P := OkP 144) ⟨ok_last dX0_decide_8, m_wrJ⟩ (
  lkp_c (P := OkP 144) ⟨(PuOK.ok (ok_goto dX0_decide_9 rfl)), m_goto⟩ (
  lkp_c (P := OkP 144) ⟨(PuOK.ok (ok_astore_n dX0_decide_12 rfl)), m_astore⟩ (
  lkp_c (P := OkP 144) ⟨(PuOK.ok (ok_iconst dX0_decide_13 rfl)), m_push⟩ (
  lkp_c (P := OkP 144) ⟨ok_iret rfl rfl (by decide) dX0_decide_14, m_ret⟩ (
  lkp_c (P := OkP 144) ⟨(PuOK.ok (ok_astore_n dX0_decide_15 rfl)), m_astore⟩ (
  lkp_c (P := OkP 144) ⟨(PuOK.ok (ok_iconst dX0_decide_16 rfl)), m_push⟩ (
  lkp_c (P := OkP 144) ⟨ok_iret rfl rfl (by decide) dX0_decide_17, m_ret⟩ (
  lkp_c (P := OkP 144) ⟨(PuOK.ok (ok_iconst dX0_decide_18 rfl)), m_push⟩ (
  lkp_c (P := OkP 144) ⟨ok_iret rfl rfl (by decide) dX0_decide_19, m_ret⟩ (
  trivial))))))))))))))))
theorem mt_144 : MtOK TB NT IT 144 := ⟨by decide +kernel, rfl, (fun h => by cases h), Or.inr rfl, rfl, by decide, lk2_all (P := OkP 144) ⟨c_144_0, trivial⟩⟩
def dkwX0_correct_0 : List UInt8 := [45, 3, 42, 27, 28, 182, 0, 79, 133, 80, 167, 0, 11, 58, 4, 4, 172, 58, 4, 5, 172, 3, 172]
abbrev dktX0_correct_0 : List UInt8 := dkwX0_correct_0 ++ []
theorem dksX0_correct_0 : cX0_correct.data.toList.drop 0 = dktX0_correct_0 := by decide +kernel
theorem dX0_correct_0 : decode cX0_correct 0 = .ok (.aload_n 3, 1) := dk_45 (dk_at dksX0_correct_0 0 rfl rfl)
theorem dX0_correct_1 : decode cX0_correct 1 = .ok (.iconst 0, 1) := dk_3 (dk_at dksX0_correct_0 1 rfl rfl)
theorem dX0_correct_2 : decode cX0_correct 2 = .ok (.aload_n 0, 1) := dk_42 (dk_at dksX0_correct_0 2 rfl rfl)
theorem dX0_correct_3 : decode cX0_correct 3 = .ok (.iload_n 1, 1) := dk_27 (dk_at dksX0_correct_0 3 rfl rfl)
theorem dX0_correct_4 : decode cX0_correct 4 = .ok (.iload_n 2, 1) := dk_28 (dk_at dksX0_correct_0 4 rfl rfl)
theorem dX0_correct_5 : decode cX0_correct 5 = .ok (.invokevirtual 79, 3) := dk_182 0 79 (dk_at dksX0_correct_0 5 rfl rfl)
theorem dX0_correct_8 : decode cX0_correct 8 = .ok (.i2l, 1) := dk_133 (dk_at dksX0_correct_0 8 rfl rfl)
theorem dX0_correct_9 : decode cX0_correct 9 = .ok (.lastore, 1) := dk_80 (dk_at dksX0_correct_0 9 rfl rfl)
theorem dX0_correct_10 : decode cX0_correct 10 = .ok (.goto 11, 3) := dk_167 0 11 (dk_at dksX0_correct_0 10 rfl rfl)
theorem dX0_correct_13 : decode cX0_correct 13 = .ok (.astore 4, 2) := dk_58 4 (dk_at dksX0_correct_0 13 rfl rfl)
theorem dX0_correct_15 : decode cX0_correct 15 = .ok (.iconst 1, 1) := dk_4 (dk_at dksX0_correct_0 15 rfl rfl)
theorem dX0_correct_16 : decode cX0_correct 16 = .ok (.ireturn, 1) := dk_172 (dk_at dksX0_correct_0 16 rfl rfl)
theorem dX0_correct_17 : decode cX0_correct 17 = .ok (.astore 4, 2) := dk_58 4 (dk_at dksX0_correct_0 17 rfl rfl)
theorem dX0_correct_19 : decode cX0_correct 19 = .ok (.iconst 2, 1) := dk_5 (dk_at dksX0_correct_0 19 rfl rfl)
theorem dX0_correct_20 : decode cX0_correct 20 = .ok (.ireturn, 1) := dk_172 (dk_at dksX0_correct_0 20 rfl rfl)
theorem dX0_correct_21 : decode cX0_correct 21 = .ok (.iconst 0, 1) := dk_3 (dk_at dksX0_correct_0 21 rfl rfl)
theorem dX0_correct_22 : decode cX0_correct 22 = .ok (.ireturn, 1) := dk_172 (dk_at dksX0_correct_0 22 rfl rfl)
theorem c_145_0 : LkP (OkP 145) [(0, o_aload 3 1), (1, o_push 1 (.int 0)), (2, o_aload 0 1), (3, o_iload 1 1), (4, o_iload 2 1), (5, o_cv [(0, 202)] 2 3 false (some [(31, 13), (33, 17)])), (8, o_i2l), (9, o_wrJ), (10, o_goto 21), (13, o_astore 4 2), (15, o_push 1 (.int 1)), (16, o_ret 1), (17, o_astore 4 2), (19, o_push 1 (.int 2)), (20, o_ret 1), (21, o_push 1 (.int 0)), (22, o_ret 1)] := lkp_c (P := OkP 145) ⟨(PuOK.ok (ok_aload_n dX0_correct_0 rfl)), m_aload⟩ (
  lkp_c (P := OkP 145) ⟨(PuOK.ok (ok_iconst dX0_correct_1 rfl)), m_push⟩ (
  lkp_c (P := OkP 145) ⟨(PuOK.ok (ok_aload_n dX0_correct_2 rfl)), m_aload⟩ (
  lkp_c (P := OkP 145) ⟨(PuOK.ok (ok_iload_n dX0_correct_3 rfl)), m_iload⟩ (
  lkp_c (P := OkP 145) ⟨(PuOK.ok (ok_iload_n dX0_correct_4 rfl)), m_iload⟩ (
  lkp_c (P := OkP 145) ⟨ok_cv (List.forall_mem_cons.mpr ⟨tg_V (ci := 0) (r := CLr 0) (y := 202) rfl ⟨rfl, by decide⟩ rfl q2209 q2210 q2211 q115 q2212 ⟨cn_33.1, cn_33.2, pd_1⟩ dX0_correct_5, (List.forall_mem_nil _)⟩) (hd_cons (r := CLr 31) (k := 0) (x := ⟨0, 10, 13, 27⟩) rfl rfl (List.forall_mem_nil _) (by decide +kernel) (by decide) q1664 q1696 rfl (hd_cons (r := CLr 33) (k := 1) (x := ⟨0, 10, 17, 13⟩) rfl rfl (List.forall_mem_cons.mpr ⟨Or.inr ⟨by decide, "java/lang/IndexOutOfBoundsException", q1664, by decide +kernel⟩, (List.forall_mem_nil _)⟩) (by decide +kernel) (by decide) q1606 q1616 rfl hd_nil)), m_cv⟩ (
  lkp_c (P := OkP 145) ⟨(PuOK.ok (ok_i2l dX0_correct_8)), m_i2l⟩ (
  lkp_c (P := OkP 145) ⟨ok_last dX0_correct_9, m_wrJ⟩ (
  lkp_c (P := OkP 145) ⟨(PuOK.ok (ok_goto dX0_correct_10 rfl)), m_goto⟩ (
  lkp_c (P := OkP 145) ⟨(PuOK.ok (ok_astore dX0_correct_13)), m_astore⟩ (
  lkp_c (P := OkP 145) ⟨(PuOK.ok (ok_iconst dX0_correct_15 rfl)), m_push⟩ (
  lkp_c (P := OkP 145) ⟨ok_iret rfl rfl (by decide) dX0_correct_16, m_ret⟩ (
  lkp_c (P := OkP 145) ⟨(PuOK.ok (ok_astore dX0_correct_17)), m_astore⟩ (
  lkp_c (P := OkP 145) ⟨(PuOK.ok (ok_iconst dX0_correct_19 rfl)), m_push⟩ (
  lkp_c (P := OkP 145) ⟨ok_iret rfl rfl (by decide) dX0_correct_20, m_ret⟩ (
  lkp_c (P := OkP 145) ⟨(PuOK.ok (ok_iconst dX0_correct_21 rfl)), m_push⟩ (
  lkp_c (P := OkP 145) ⟨ok_iret rfl rfl (by decide) dX0_correct_22, m_ret⟩ (
  trivial)))))))))))))))))
theorem mt_145 : MtOK TB NT IT 145 := ⟨by decide +kernel, rfl, (fun h => by cases h), Or.inr rfl, rfl, by decide, lk2_all (P := OkP 145) ⟨c_145_0, trivial⟩⟩
def dkwX0_trips_0 : List UInt8 := [44, 3, 42, 27, 182, 0, 82, 133, 80, 167, 0, 6, 78, 4, 172, 3, 172]
abbrev dktX0_trips_0 : List UInt8 := dkwX0_trips_0 ++ []
theorem dksX0_trips_0 : cX0_trips.data.toList.drop 0 = dktX0_trips_0 := by decide +kernel
theorem dX0_trips_0 : decode cX0_trips 0 = .ok (.aload_n 2, 1) := dk_44 (dk_at dksX0_trips_0 0 rfl rfl)
theorem dX0_trips_1 : decode cX0_trips 1 = .ok (.iconst 0, 1) := dk_3 (dk_at dksX0_trips_0 1 rfl rfl)
theorem dX0_trips_2 : decode cX0_trips 2 = .ok (.aload_n 0, 1) := dk_42 (dk_at dksX0_trips_0 2 rfl rfl)
theorem dX0_trips_3 : decode cX0_trips 3 = .ok (.iload_n 1, 1) := dk_27 (dk_at dksX0_trips_0 3 rfl rfl)
theorem dX0_trips_4 : decode cX0_trips 4 = .ok (.invokevirtual 82, 3) := dk_182 0 82 (dk_at dksX0_trips_0 4 rfl rfl)
theorem dX0_trips_7 : decode cX0_trips 7 = .ok (.i2l, 1) := dk_133 (dk_at dksX0_trips_0 7 rfl rfl)
theorem dX0_trips_8 : decode cX0_trips 8 = .ok (.lastore, 1) := dk_80 (dk_at dksX0_trips_0 8 rfl rfl)
theorem dX0_trips_9 : decode cX0_trips 9 = .ok (.goto 6, 3) := dk_167 0 6 (dk_at dksX0_trips_0 9 rfl rfl)
theorem dX0_trips_12 : decode cX0_trips 12 = .ok (.astore_n 3, 1) := dk_78 (dk_at dksX0_trips_0 12 rfl rfl)
theorem dX0_trips_13 : decode cX0_trips 13 = .ok (.iconst 1, 1) := dk_4 (dk_at dksX0_trips_0 13 rfl rfl)
theorem dX0_trips_14 : decode cX0_trips 14 = .ok (.ireturn, 1) := dk_172 (dk_at dksX0_trips_0 14 rfl rfl)
theorem dX0_trips_15 : decode cX0_trips 15 = .ok (.iconst 0, 1) := dk_3 (dk_at dksX0_trips_0 15 rfl rfl)
theorem dX0_trips_16 : decode cX0_trips 16 = .ok (.ireturn, 1) := dk_172 (dk_at dksX0_trips_0 16 rfl rfl)
theorem c_146_0 : LkP (OkP 146) [(0, o_aload 2 1), (1, o_push 1 (.int 0)), (2, o_aload 0 1), (3, o_iload 1 1), (4, o_cv [(0, 203)] 1 3 false (some [(31, 12)])), (7, o_i2l), (8, o_wrJ), (9, o_goto 15), (12, o_astore 3 1), (13, o_push 1 (.int 1)), (14, o_ret 1), (15, o_push 1 (.int 0)), (16, o_ret 1)] := lkp_c (P := OkP 146) ⟨(PuOK.ok (ok_aload_n dX0_trips_0 rfl)), m_aload⟩ (
  lkp_c (P := OkP 146) ⟨(PuOK.ok (ok_iconst dX0_trips_1 rfl)), m_push⟩ (
  lkp_c (P := OkP 146) ⟨(PuOK.ok (ok_aload_n dX0_trips_2 rfl)), m_aload⟩ (
  lkp_c (P := OkP 146) ⟨(PuOK.ok (ok_iload_n dX0_trips_3 rfl)), m_iload⟩ (
  lkp_c (P := OkP 146) ⟨ok_cv (List.forall_mem_cons.mpr ⟨tg_V (ci := 0) (r := CLr 0) (y := 203) rfl ⟨rfl, by decide⟩ rfl q2216 q2217 q2218 q115 q2219 ⟨cn_33.1, cn_33.2, pd_48⟩ dX0_trips_4, (List.forall_mem_nil _)⟩) (hd_cons (r := CLr 31) (k := 0) (x := ⟨0, 9, 12, 27⟩) rfl rfl (List.forall_mem_nil _) (by decide +kernel) (by decide) q1664 q1696 rfl hd_nil), m_cv⟩ (
  lkp_c (P := OkP 146) ⟨(PuOK.ok (ok_i2l dX0_trips_7)), m_i2l⟩ (
  lkp_c (P := OkP 146) ⟨ok_last dX0_trips_8, m_wrJ⟩ (
  lkp_c (P := OkP 146) ⟨(PuOK.ok (ok_goto dX0_trips_9 rfl)), m_goto⟩ (
  lkp_c (P := OkP 146) ⟨(PuOK.ok (ok_astore_n dX0_trips_12 rfl)), m_astore⟩ (
  lkp_c (P := OkP 146) ⟨(PuOK.ok (ok_iconst dX0_trips_13 rfl)), m_push⟩ (
  lkp_c (P := OkP 146) ⟨ok_iret rfl rfl (by decide) dX0_trips_14, m_ret⟩ (
  lkp_c (P := OkP 146) ⟨(PuOK.ok (ok_iconst dX0_trips_15 rfl)), m_push⟩ (
  lkp_c (P := OkP 146) ⟨ok_iret rfl rfl (by decide) dX0_trips_16, m_ret⟩ (
  trivial)))))))))))))
theorem mt_146 : MtOK TB NT IT 146 := ⟨by decide +kernel, rfl, (fun h => by cases h), Or.inr rfl, rfl, by decide, lk2_all (P := OkP 146) ⟨c_146_0, trivial⟩⟩
def dkwX0_trip_1 : List UInt8 := [172]
abbrev dktX0_trip_1 : List UInt8 := dkwX0_trip_1 ++ []
def dkwX0_trip_0 : List UInt8 := [25, 4, 3, 42, 27, 28, 29, 182, 0, 85, 133, 80, 167, 0, 11, 58, 5, 4, 172, 58, 5, 5, 172, 3]
abbrev dktX0_trip_0 : List UInt8 := dkwX0_trip_0 ++ dktX0_trip_1
theorem dksX0_trip_0 : cX0_trip.data.toList.drop 0 = dktX0_trip_0 := by decide +kernel
theorem dksX0_trip_1 : cX0_trip.data.toList.drop 24 = dktX0_trip_1 := dk_seg dksX0_trip_0 24 rfl rfl
theorem dX0_trip_0 : decode cX0_trip 0 = .ok (.aload 4, 2) := dk_25 4 (dk_at dksX0_trip_0 0 rfl rfl)
theorem dX0_trip_2 : decode cX0_trip 2 = .ok (.iconst 0, 1) := dk_3 (dk_at dksX0_trip_0 2 rfl rfl)
theorem dX0_trip_3 : decode cX0_trip 3 = .ok (.aload_n 0, 1) := dk_42 (dk_at dksX0_trip_0 3 rfl rfl)
theorem dX0_trip_4 : decode cX0_trip 4 = .ok (.iload_n 1, 1) := dk_27 (dk_at dksX0_trip_0 4 rfl rfl)
theorem dX0_trip_5 : decode cX0_trip 5 = .ok (.iload_n 2, 1) := dk_28 (dk_at dksX0_trip_0 5 rfl rfl)
theorem dX0_trip_6 : decode cX0_trip 6 = .ok (.iload_n 3, 1) := dk_29 (dk_at dksX0_trip_0 6 rfl rfl)
theorem dX0_trip_7 : decode cX0_trip 7 = .ok (.invokevirtual 85, 3) := dk_182 0 85 (dk_at dksX0_trip_0 7 rfl rfl)
theorem dX0_trip_10 : decode cX0_trip 10 = .ok (.i2l, 1) := dk_133 (dk_at dksX0_trip_0 10 rfl rfl)
theorem dX0_trip_11 : decode cX0_trip 11 = .ok (.lastore, 1) := dk_80 (dk_at dksX0_trip_0 11 rfl rfl)
theorem dX0_trip_12 : decode cX0_trip 12 = .ok (.goto 11, 3) := dk_167 0 11 (dk_at dksX0_trip_0 12 rfl rfl)
theorem dX0_trip_15 : decode cX0_trip 15 = .ok (.astore 5, 2) := dk_58 5 (dk_at dksX0_trip_0 15 rfl rfl)
theorem dX0_trip_17 : decode cX0_trip 17 = .ok (.iconst 1, 1) := dk_4 (dk_at dksX0_trip_0 17 rfl rfl)
theorem dX0_trip_18 : decode cX0_trip 18 = .ok (.ireturn, 1) := dk_172 (dk_at dksX0_trip_0 18 rfl rfl)
theorem dX0_trip_19 : decode cX0_trip 19 = .ok (.astore 5, 2) := dk_58 5 (dk_at dksX0_trip_0 19 rfl rfl)
theorem dX0_trip_21 : decode cX0_trip 21 = .ok (.iconst 2, 1) := dk_5 (dk_at dksX0_trip_0 21 rfl rfl)
theorem dX0_trip_22 : decode cX0_trip 22 = .ok (.ireturn, 1) := dk_172 (dk_at dksX0_trip_0 22 rfl rfl)
theorem dX0_trip_23 : decode cX0_trip 23 = .ok (.iconst 0, 1) := dk_3 (dk_at dksX0_trip_0 23 rfl rfl)
theorem dX0_trip_24 : decode cX0_trip 24 = .ok (.ireturn, 1) := dk_172 (dk_at dksX0_trip_1 0 rfl rfl)
theorem c_147_0 : LkP (OkP 147) [(0, o_aload 4 2), (2, o_push 1 (.int 0)), (3, o_aload 0 1), (4, o_iload 1 1), (5, o_iload 2 1), (6, o_iload 3 1), (7, o_cv [(0, 204)] 3 3 false (some [(31, 15), (32, 19)])), (10, o_i2l), (11, o_wrJ), (12, o_goto 23), (15, o_astore 5 2), (17, o_push 1 (.int 1)), (18, o_ret 1), (19, o_astore 5 2), (21, o_push 1 (.int 2)), (22, o_ret 1), (23, o_push 1 (.int 0)), (24, o_ret 1)] := lkp_c (P := OkP 147) ⟨(PuOK.ok (ok_aload dX0_trip_0)), m_aload⟩ (
  lkp_c (P := OkP 147) ⟨(PuOK.ok (ok_iconst dX0_trip_2 rfl)), m_push⟩ (
  lkp_c (P := OkP 147) ⟨(PuOK.ok (ok_aload_n dX0_trip_3 rfl)), m_aload⟩ (
  lkp_c (P := OkP 147) ⟨(PuOK.ok (ok_iload_n dX0_trip_4 rfl)), m_iload⟩ (
  lkp_c (P := OkP 147) ⟨(PuOK.ok (ok_iload_n dX0_trip_5 rfl)), m_iload⟩ (
  lkp_c (P := OkP 147) ⟨(PuOK.ok (ok_iload_n dX0_trip_6 rfl)), m_iload⟩ (
  lkp_c (P := OkP 147) ⟨ok_cv (List.forall_mem_cons.mpr ⟨tg_V (ci := 0) (r := CLr 0) (y := 204) rfl ⟨rfl, by decide⟩ rfl q2525 q2526 q2527 q115 q2528 ⟨cn_33.1, cn_33.2, pd_25⟩ dX0_trip_7, (List.forall_mem_nil _)⟩) (hd_cons (r := CLr 31) (k := 0) (x := ⟨0, 12, 15, 27⟩) rfl rfl (List.forall_mem_nil _) (by decide +kernel) (by decide) q1664 q1696 rfl (hd_cons (r := CLr 32) (k := 1) (x := ⟨0, 12, 19, 18⟩) rfl rfl (List.forall_mem_cons.mpr ⟨Or.inr ⟨by decide, "java/lang/IndexOutOfBoundsException", q1664, by decide +kernel⟩, (List.forall_mem_nil _)⟩) (by decide +kernel) (by decide) q1638 q245 rfl hd_nil)), m_cv⟩ (
  lkp_c (P := OkP 147) ⟨(PuOK.ok (ok_i2l dX0_trip_10)), m_i2l⟩ (
  lkp_c (P := OkP 147) ⟨ok_last dX0_trip_11, m_wrJ⟩ (
  lkp_c (P := OkP 147) ⟨(PuOK.ok (ok_goto dX0_trip_12 rfl)), m_goto⟩ (
  lkp_c (P := OkP 147) ⟨(PuOK.ok (ok_astore dX0_trip_15)), m_astore⟩ (
  lkp_c (P := OkP 147) ⟨(PuOK.ok (ok_iconst dX0_trip_17 rfl)), m_push⟩ (
  lkp_c (P := OkP 147) ⟨ok_iret rfl rfl (by decide) dX0_trip_18, m_ret⟩ (
  lkp_c (P := OkP 147) ⟨(PuOK.ok (ok_astore dX0_trip_19)), m_astore⟩ (
  lkp_c (P := OkP 147) ⟨(PuOK.ok (ok_iconst dX0_trip_21 rfl)), m_push⟩ (
  lkp_c (P := OkP 147) ⟨ok_iret rfl rfl (by decide) dX0_trip_22, m_ret⟩ (
  lkp_c (P := OkP 147) ⟨(PuOK.ok (ok_iconst dX0_trip_23 rfl)), m_push⟩ (
  lkp_c (P := OkP 147) ⟨ok_iret rfl rfl (by decide) dX0_trip_24, m_ret⟩ (
  trivial))))))))))))))))))
theorem mt_147 : MtOK TB NT IT 147 := ⟨by decide +kernel, rfl, (fun h => by cases h), Or.inr rfl, rfl, by decide, lk2_all (P := OkP 147) ⟨c_147_0, trivial⟩⟩
def dkwX0_tripGantry_0 : List UInt8 := [25, 4, 3, 42, 27, 28, 29, 182, 0, 88, 133, 80, 167, 0, 7, 58, 5, 4, 172, 3, 172]
abbrev dktX0_tripGantry_0 : List UInt8 := dkwX0_tripGantry_0 ++ []
theorem dksX0_tripGantry_0 : cX0_tripGantry.data.toList.drop 0 = dktX0_tripGantry_0 := by decide +kernel
theorem dX0_tripGantry_0 : decode cX0_tripGantry 0 = .ok (.aload 4, 2) := dk_25 4 (dk_at dksX0_tripGantry_0 0 rfl rfl)
theorem dX0_tripGantry_2 : decode cX0_tripGantry 2 = .ok (.iconst 0, 1) := dk_3 (dk_at dksX0_tripGantry_0 2 rfl rfl)
theorem dX0_tripGantry_3 : decode cX0_tripGantry 3 = .ok (.aload_n 0, 1) := dk_42 (dk_at dksX0_tripGantry_0 3 rfl rfl)
theorem dX0_tripGantry_4 : decode cX0_tripGantry 4 = .ok (.iload_n 1, 1) := dk_27 (dk_at dksX0_tripGantry_0 4 rfl rfl)
theorem dX0_tripGantry_5 : decode cX0_tripGantry 5 = .ok (.iload_n 2, 1) := dk_28 (dk_at dksX0_tripGantry_0 5 rfl rfl)
theorem dX0_tripGantry_6 : decode cX0_tripGantry 6 = .ok (.iload_n 3, 1) := dk_29 (dk_at dksX0_tripGantry_0 6 rfl rfl)
theorem dX0_tripGantry_7 : decode cX0_tripGantry 7 = .ok (.invokevirtual 88, 3) := dk_182 0 88 (dk_at dksX0_tripGantry_0 7 rfl rfl)
theorem dX0_tripGantry_10 : decode cX0_tripGantry 10 = .ok (.i2l, 1) := dk_133 (dk_at dksX0_tripGantry_0 10 rfl rfl)
theorem dX0_tripGantry_11 : decode cX0_tripGantry 11 = .ok (.lastore, 1) := dk_80 (dk_at dksX0_tripGantry_0 11 rfl rfl)
theorem dX0_tripGantry_12 : decode cX0_tripGantry 12 = .ok (.goto 7, 3) := dk_167 0 7 (dk_at dksX0_tripGantry_0 12 rfl rfl)
theorem dX0_tripGantry_15 : decode cX0_tripGantry 15 = .ok (.astore 5, 2) := dk_58 5 (dk_at dksX0_tripGantry_0 15 rfl rfl)
theorem dX0_tripGantry_17 : decode cX0_tripGantry 17 = .ok (.iconst 1, 1) := dk_4 (dk_at dksX0_tripGantry_0 17 rfl rfl)
theorem dX0_tripGantry_18 : decode cX0_tripGantry 18 = .ok (.ireturn, 1) := dk_172 (dk_at dksX0_tripGantry_0 18 rfl rfl)
theorem dX0_tripGantry_19 : decode cX0_tripGantry 19 = .ok (.iconst 0, 1) := dk_3 (dk_at dksX0_tripGantry_0 19 rfl rfl)
theorem dX0_tripGantry_20 : decode cX0_tripGantry 20 = .ok (.ireturn, 1) := dk_172 (dk_at dksX0_tripGantry_0 20 rfl rfl)
theorem c_148_0 : LkP (OkP 148) [(0, o_aload 4 2), (2, o_push 1 (.int 0)), (3, o_aload 0 1), (4, o_iload 1 1), (5, o_iload 2 1), (6, o_iload 3 1), (7, o_cv [(0, 206)] 3 3 false (some [(31, 15)])), (10, o_i2l), (11, o_wrJ), (12, o_goto 19), (15, o_astore 5 2), (17, o_push 1 (.int 1)), (18, o_ret 1), (19, o_push 1 (.int 0)), (20, o_ret 1)] := lkp_c (P := OkP 148) ⟨(PuOK.ok (ok_aload dX0_tripGantry_0)), m_aload⟩ (
  lkp_c (P := OkP 148) ⟨(PuOK.ok (ok_iconst dX0_tripGantry_2 rfl)), m_push⟩ (
  lkp_c (P := OkP 148) ⟨(PuOK.ok (ok_aload_n dX0_tripGantry_3 rfl)), m_aload⟩ (
  lkp_c (P := OkP 148) ⟨(PuOK.ok (ok_iload_n dX0_tripGantry_4 rfl)), m_iload⟩ (
  lkp_c (P := OkP 148) ⟨(PuOK.ok (ok_iload_n dX0_tripGantry_5 rfl)), m_iload⟩ (
  lkp_c (P := OkP 148) ⟨(PuOK.ok (ok_iload_n dX0_tripGantry_6 rfl)), m_iload⟩ (
  lkp_c (P := OkP 148) ⟨ok_cv (List.forall_mem_cons.mpr ⟨tg_V (ci := 0) (r := CLr 0) (y := 206) rfl ⟨rfl, by decide⟩ rfl q2556 q2557 q2558 q115 q2559 ⟨cn_33.1, cn_33.2, pd_25⟩ dX0_tripGantry_7, (List.forall_mem_nil _)⟩) (hd_cons (r := CLr 31) (k := 0) (x := ⟨0, 12, 15, 27⟩) rfl rfl (List.forall_mem_nil _) (by decide +kernel) (by decide) q1664 q1696 rfl hd_nil), m_cv⟩ (
  lkp_c (P := OkP 148) ⟨(PuOK.ok (ok_i2l dX0_tripGantry_10)), m_i2l⟩ (
  lkp_c (P := OkP 148) ⟨ok_last dX0_tripGantry_11, m_wrJ⟩ (
  lkp_c (P := OkP 148) ⟨(PuOK.ok (ok_goto dX0_tripGantry_12 rfl)), m_goto⟩ (
  lkp_c (P := OkP 148) ⟨(PuOK.ok (ok_astore dX0_tripGantry_15)), m_astore⟩ (
  lkp_c (P := OkP 148) ⟨(PuOK.ok (ok_iconst dX0_tripGantry_17 rfl)), m_push⟩ (
  lkp_c (P := OkP 148) ⟨ok_iret rfl rfl (by decide) dX0_tripGantry_18, m_ret⟩ (
  lkp_c (P := OkP 148) ⟨(PuOK.ok (ok_iconst dX0_tripGantry_19 rfl)), m_push⟩ (
  lkp_c (P := OkP 148) ⟨ok_iret rfl rfl (by decide) dX0_tripGantry_20, m_ret⟩ (
  trivial)))))))))))))))
theorem mt_148 : MtOK TB NT IT 148 := ⟨by decide +kernel, rfl, (fun h => by cases h), Or.inr rfl, rfl, by decide, lk2_all (P := OkP 148) ⟨c_148_0, trivial⟩⟩
def dkwX0_bill_0 : List UInt8 := [45, 3, 42, 27, 28, 182, 0, 91, 133, 80, 167, 0, 11, 58, 4, 4, 172, 58, 4, 5, 172, 3, 172]
abbrev dktX0_bill_0 : List UInt8 := dkwX0_bill_0 ++ []
theorem dksX0_bill_0 : cX0_bill.data.toList.drop 0 = dktX0_bill_0 := by decide +kernel
theorem dX0_bill_0 : decode cX0_bill 0 = .ok (.aload_n 3, 1) := dk_45 (dk_at dksX0_bill_0 0 rfl rfl)
theorem dX0_bill_1 : decode cX0_bill 1 = .ok (.iconst 0, 1) := dk_3 (dk_at dksX0_bill_0 1 rfl rfl)
theorem dX0_bill_2 : decode cX0_bill 2 = .ok (.aload_n 0, 1) := dk_42 (dk_at dksX0_bill_0 2 rfl rfl)
theorem dX0_bill_3 : decode cX0_bill 3 = .ok (.iload_n 1, 1) := dk_27 (dk_at dksX0_bill_0 3 rfl rfl)
theorem dX0_bill_4 : decode cX0_bill 4 = .ok (.iload_n 2, 1) := dk_28 (dk_at dksX0_bill_0 4 rfl rfl)
theorem dX0_bill_5 : decode cX0_bill 5 = .ok (.invokevirtual 91, 3) := dk_182 0 91 (dk_at dksX0_bill_0 5 rfl rfl)
theorem dX0_bill_8 : decode cX0_bill 8 = .ok (.i2l, 1) := dk_133 (dk_at dksX0_bill_0 8 rfl rfl)
theorem dX0_bill_9 : decode cX0_bill 9 = .ok (.lastore, 1) := dk_80 (dk_at dksX0_bill_0 9 rfl rfl)
theorem dX0_bill_10 : decode cX0_bill 10 = .ok (.goto 11, 3) := dk_167 0 11 (dk_at dksX0_bill_0 10 rfl rfl)
theorem dX0_bill_13 : decode cX0_bill 13 = .ok (.astore 4, 2) := dk_58 4 (dk_at dksX0_bill_0 13 rfl rfl)
theorem dX0_bill_15 : decode cX0_bill 15 = .ok (.iconst 1, 1) := dk_4 (dk_at dksX0_bill_0 15 rfl rfl)
theorem dX0_bill_16 : decode cX0_bill 16 = .ok (.ireturn, 1) := dk_172 (dk_at dksX0_bill_0 16 rfl rfl)
theorem dX0_bill_17 : decode cX0_bill 17 = .ok (.astore 4, 2) := dk_58 4 (dk_at dksX0_bill_0 17 rfl rfl)
theorem dX0_bill_19 : decode cX0_bill 19 = .ok (.iconst 2, 1) := dk_5 (dk_at dksX0_bill_0 19 rfl rfl)
theorem dX0_bill_20 : decode cX0_bill 20 = .ok (.ireturn, 1) := dk_172 (dk_at dksX0_bill_0 20 rfl rfl)
theorem dX0_bill_21 : decode cX0_bill 21 = .ok (.iconst 0, 1) := dk_3 (dk_at dksX0_bill_0 21 rfl rfl)
theorem dX0_bill_22 : decode cX0_bill 22 = .ok (.ireturn, 1) := dk_172 (dk_at dksX0_bill_0 22 rfl rfl)
theorem c_149_0 : LkP (OkP 149) [(0, o_aload 3 1), (1, o_push 1 (.int 0)), (2, o_aload 0 1), (3, o_iload 1 1), (4, o_iload 2 1), (5, o_cv [(0, 207)] 2 3 false (some [(31, 13), (32, 17)])), (8, o_i2l), (9, o_wrJ), (10, o_goto 21), (13, o_astore 4 2), (15, o_push 1 (.int 1)), (16, o_ret 1), (17, o_astore 4 2), (19, o_push 1 (.int 2)), (20, o_ret 1), (21, o_push 1 (.int 0)), (22, o_ret 1)] := lkp_c (P := OkP 149) ⟨(PuOK.ok (ok_aload_n dX0_bill_0 rfl)), m_aload⟩ (
  lkp_c (P := OkP 149) ⟨(PuOK.ok (ok_iconst dX0_bill_1 rfl)), m_push⟩ (
  lkp_c (P := OkP 149) ⟨(PuOK.ok (ok_aload_n dX0_bill_2 rfl)), m_aload⟩ (
  lkp_c (P := OkP 149) ⟨(PuOK.ok (ok_iload_n dX0_bill_3 rfl)), m_iload⟩ (
  lkp_c (P := OkP 149) ⟨(PuOK.ok (ok_iload_n dX0_bill_4 rfl)), m_iload⟩ (
  lkp_c (P := OkP 149) ⟨ok_cv (List.forall_mem_cons.mpr ⟨tg_V (ci := 0) (r := CLr 0) (y := 207) rfl ⟨rfl, by decide⟩ rfl q2565 q2566 q2567 q115 q2568 ⟨cn_33.1, cn_33.2, pd_1⟩ dX0_bill_5, (List.forall_mem_nil _)⟩) (hd_cons (r := CLr 31) (k := 0) (x := ⟨0, 10, 13, 27⟩) rfl rfl (List.forall_mem_nil _) (by decide +kernel) (by decide) q1664 q1696 rfl (hd_cons (r := CLr 32) (k := 1) (x := ⟨0, 10, 17, 18⟩) rfl rfl (List.forall_mem_cons.mpr ⟨Or.inr ⟨by decide, "java/lang/IndexOutOfBoundsException", q1664, by decide +kernel⟩, (List.forall_mem_nil _)⟩) (by decide +kernel) (by decide) q1638 q245 rfl hd_nil)), m_cv⟩ (
  lkp_c (P := OkP 149) ⟨(PuOK.ok (ok_i2l dX0_bill_8)), m_i2l⟩ (
  lkp_c (P := OkP 149) ⟨ok_last dX0_bill_9, m_wrJ⟩ (
  lkp_c (P := OkP 149) ⟨(PuOK.ok (ok_goto dX0_bill_10 rfl)), m_goto⟩ (
  lkp_c (P := OkP 149) ⟨(PuOK.ok (ok_astore dX0_bill_13)), m_astore⟩ (
  lkp_c (P := OkP 149) ⟨(PuOK.ok (ok_iconst dX0_bill_15 rfl)), m_push⟩ (
  lkp_c (P := OkP 149) ⟨ok_iret rfl rfl (by decide) dX0_bill_16, m_ret⟩ (
  lkp_c (P := OkP 149) ⟨(PuOK.ok (ok_astore dX0_bill_17)), m_astore⟩ (
  lkp_c (P := OkP 149) ⟨(PuOK.ok (ok_iconst dX0_bill_19 rfl)), m_push⟩ (
  lkp_c (P := OkP 149) ⟨ok_iret rfl rfl (by decide) dX0_bill_20, m_ret⟩ (
  lkp_c (P := OkP 149) ⟨(PuOK.ok (ok_iconst dX0_bill_21 rfl)), m_push⟩ (
  lkp_c (P := OkP 149) ⟨ok_iret rfl rfl (by decide) dX0_bill_22, m_ret⟩ (
  trivial)))))))))))))))))
theorem mt_149 : MtOK TB NT IT 149 := ⟨by decide +kernel, rfl, (fun h => by cases h), Or.inr rfl, rfl, by decide, lk2_all (P := OkP 149) ⟨c_149_0, trivial⟩⟩
def dkwX0_billAll_0 : List UInt8 := [44, 3, 42, 27, 182, 0, 94, 133, 80, 167, 0, 6, 78, 4, 172, 3, 172]
abbrev dktX0_billAll_0 : List UInt8 := dkwX0_billAll_0 ++ []
theorem dksX0_billAll_0 : cX0_billAll.data.toList.drop 0 = dktX0_billAll_0 := by decide +kernel
theorem dX0_billAll_0 : decode cX0_billAll 0 = .ok (.aload_n 2, 1) := dk_44 (dk_at dksX0_billAll_0 0 rfl rfl)
theorem dX0_billAll_1 : decode cX0_billAll 1 = .ok (.iconst 0, 1) := dk_3 (dk_at dksX0_billAll_0 1 rfl rfl)
theorem dX0_billAll_2 : decode cX0_billAll 2 = .ok (.aload_n 0, 1) := dk_42 (dk_at dksX0_billAll_0 2 rfl rfl)
theorem dX0_billAll_3 : decode cX0_billAll 3 = .ok (.iload_n 1, 1) := dk_27 (dk_at dksX0_billAll_0 3 rfl rfl)
theorem dX0_billAll_4 : decode cX0_billAll 4 = .ok (.invokevirtual 94, 3) := dk_182 0 94 (dk_at dksX0_billAll_0 4 rfl rfl)
theorem dX0_billAll_7 : decode cX0_billAll 7 = .ok (.i2l, 1) := dk_133 (dk_at dksX0_billAll_0 7 rfl rfl)
theorem dX0_billAll_8 : decode cX0_billAll 8 = .ok (.lastore, 1) := dk_80 (dk_at dksX0_billAll_0 8 rfl rfl)
theorem dX0_billAll_9 : decode cX0_billAll 9 = .ok (.goto 6, 3) := dk_167 0 6 (dk_at dksX0_billAll_0 9 rfl rfl)
theorem dX0_billAll_12 : decode cX0_billAll 12 = .ok (.astore_n 3, 1) := dk_78 (dk_at dksX0_billAll_0 12 rfl rfl)
theorem dX0_billAll_13 : decode cX0_billAll 13 = .ok (.iconst 1, 1) := dk_4 (dk_at dksX0_billAll_0 13 rfl rfl)
theorem dX0_billAll_14 : decode cX0_billAll 14 = .ok (.ireturn, 1) := dk_172 (dk_at dksX0_billAll_0 14 rfl rfl)
theorem dX0_billAll_15 : decode cX0_billAll 15 = .ok (.iconst 0, 1) := dk_3 (dk_at dksX0_billAll_0 15 rfl rfl)
theorem dX0_billAll_16 : decode cX0_billAll 16 = .ok (.ireturn, 1) := dk_172 (dk_at dksX0_billAll_0 16 rfl rfl)
theorem c_150_0 : LkP (OkP 150) [(0, o_aload 2 1), (1, o_push 1 (.int 0)), (2, o_aload 0 1), (3, o_iload 1 1), (4, o_cv [(0, 209)] 1 3 false (some [(32, 12)])), (7, o_i2l), (8, o_wrJ), (9, o_goto 15), (12, o_astore 3 1), (13, o_push 1 (.int 1)), (14, o_ret 1), (15, o_push 1 (.int 0)), (16, o_ret 1)] := lkp_c (P := OkP 150) ⟨(PuOK.ok (ok_aload_n dX0_billAll_0 rfl)), m_aload⟩ (
  lkp_c (P := OkP 150) ⟨(PuOK.ok (ok_iconst dX0_billAll_1 rfl)), m_push⟩ (
  lkp_c (P := OkP 150) ⟨(PuOK.ok (ok_aload_n dX0_billAll_2 rfl)), m_aload⟩ (
  lkp_c (P := OkP 150) ⟨(PuOK.ok (ok_iload_n dX0_billAll_3 rfl)), m_iload⟩ (
  lkp_c (P := OkP 150) ⟨ok_cv (List.forall_mem_cons.mpr ⟨tg_V (ci := 0) (r := CLr 0) (y := 209) rfl ⟨rfl, by decide⟩ rfl q2839 q2840 q2841 q115 q2842 ⟨cn_33.1, cn_33.2, pd_48⟩ dX0_billAll_4, (List.forall_mem_nil _)⟩) (hd_cons (r := CLr 32) (k := 0) (x := ⟨0, 9, 12, 18⟩) rfl rfl (List.forall_mem_nil _) (by decide +kernel) (by decide) q1638 q245 rfl hd_nil), m_cv⟩ (
  lkp_c (P := OkP 150) ⟨(PuOK.ok (ok_i2l dX0_billAll_7)), m_i2l⟩ (
  lkp_c (P := OkP 150) ⟨ok_last dX0_billAll_8, m_wrJ⟩ (
  lkp_c (P := OkP 150) ⟨(PuOK.ok (ok_goto dX0_billAll_9 rfl)), m_goto⟩ (
  lkp_c (P := OkP 150) ⟨(PuOK.ok (ok_astore_n dX0_billAll_12 rfl)), m_astore⟩ (
  lkp_c (P := OkP 150) ⟨(PuOK.ok (ok_iconst dX0_billAll_13 rfl)), m_push⟩ (
  lkp_c (P := OkP 150) ⟨ok_iret rfl rfl (by decide) dX0_billAll_14, m_ret⟩ (
  lkp_c (P := OkP 150) ⟨(PuOK.ok (ok_iconst dX0_billAll_15 rfl)), m_push⟩ (
  lkp_c (P := OkP 150) ⟨ok_iret rfl rfl (by decide) dX0_billAll_16, m_ret⟩ (
  trivial)))))))))))))
theorem mt_150 : MtOK TB NT IT 150 := ⟨by decide +kernel, rfl, (fun h => by cases h), Or.inr rfl, rfl, by decide, lk2_all (P := OkP 150) ⟨c_150_0, trivial⟩⟩
def dkwX0_due_0 : List UInt8 := [45, 3, 42, 27, 28, 182, 0, 97, 133, 80, 167, 0, 11, 58, 4, 4, 172, 58, 4, 5, 172, 3, 172]
abbrev dktX0_due_0 : List UInt8 := dkwX0_due_0 ++ []
theorem dksX0_due_0 : cX0_due.data.toList.drop 0 = dktX0_due_0 := by decide +kernel
theorem dX0_due_0 : decode cX0_due 0 = .ok (.aload_n 3, 1) := dk_45 (dk_at dksX0_due_0 0 rfl rfl)
theorem dX0_due_1 : decode cX0_due 1 = .ok (.iconst 0, 1) := dk_3 (dk_at dksX0_due_0 1 rfl rfl)
theorem dX0_due_2 : decode cX0_due 2 = .ok (.aload_n 0, 1) := dk_42 (dk_at dksX0_due_0 2 rfl rfl)
theorem dX0_due_3 : decode cX0_due 3 = .ok (.iload_n 1, 1) := dk_27 (dk_at dksX0_due_0 3 rfl rfl)
theorem dX0_due_4 : decode cX0_due 4 = .ok (.iload_n 2, 1) := dk_28 (dk_at dksX0_due_0 4 rfl rfl)
theorem dX0_due_5 : decode cX0_due 5 = .ok (.invokevirtual 97, 3) := dk_182 0 97 (dk_at dksX0_due_0 5 rfl rfl)
theorem dX0_due_8 : decode cX0_due 8 = .ok (.i2l, 1) := dk_133 (dk_at dksX0_due_0 8 rfl rfl)
theorem dX0_due_9 : decode cX0_due 9 = .ok (.lastore, 1) := dk_80 (dk_at dksX0_due_0 9 rfl rfl)
theorem dX0_due_10 : decode cX0_due 10 = .ok (.goto 11, 3) := dk_167 0 11 (dk_at dksX0_due_0 10 rfl rfl)
theorem dX0_due_13 : decode cX0_due 13 = .ok (.astore 4, 2) := dk_58 4 (dk_at dksX0_due_0 13 rfl rfl)
theorem dX0_due_15 : decode cX0_due 15 = .ok (.iconst 1, 1) := dk_4 (dk_at dksX0_due_0 15 rfl rfl)
theorem dX0_due_16 : decode cX0_due 16 = .ok (.ireturn, 1) := dk_172 (dk_at dksX0_due_0 16 rfl rfl)
theorem dX0_due_17 : decode cX0_due 17 = .ok (.astore 4, 2) := dk_58 4 (dk_at dksX0_due_0 17 rfl rfl)
theorem dX0_due_19 : decode cX0_due 19 = .ok (.iconst 2, 1) := dk_5 (dk_at dksX0_due_0 19 rfl rfl)
theorem dX0_due_20 : decode cX0_due 20 = .ok (.ireturn, 1) := dk_172 (dk_at dksX0_due_0 20 rfl rfl)
theorem dX0_due_21 : decode cX0_due 21 = .ok (.iconst 0, 1) := dk_3 (dk_at dksX0_due_0 21 rfl rfl)
theorem dX0_due_22 : decode cX0_due 22 = .ok (.ireturn, 1) := dk_172 (dk_at dksX0_due_0 22 rfl rfl)
theorem c_151_0 : LkP (OkP 151) [(0, o_aload 3 1), (1, o_push 1 (.int 0)), (2, o_aload 0 1), (3, o_iload 1 1), (4, o_iload 2 1), (5, o_cv [(0, 210)] 2 3 false (some [(31, 13), (32, 17)])), (8, o_i2l), (9, o_wrJ), (10, o_goto 21), (13, o_astore 4 2), (15, o_push 1 (.int 1)), (16, o_ret 1), (17, o_astore 4 2), (19, o_push 1 (.int 2)), (20, o_ret 1), (21, o_push 1 (.int 0)), (22, o_ret 1)] := lkp_c (P := OkP 151) ⟨(PuOK.ok (ok_aload_n dX0_due_0 rfl)), m_aload⟩ (
  lkp_c (P := OkP 151) ⟨(PuOK.ok (ok_iconst dX0_due_1 rfl)), m_push⟩ (
  lkp_c (P := OkP 151) ⟨(PuOK.ok (ok_aload_n dX0_due_2 rfl)), m_aload⟩ (
  lkp_c (P := OkP 151) ⟨(PuOK.ok (ok_iload_n dX0_due_3 rfl)), m_iload⟩ (
  lkp_c (P := OkP 151) ⟨(PuOK.ok (ok_iload_n dX0_due_4 rfl)), m_iload⟩ (
  lkp_c (P := OkP 151) ⟨ok_cv (List.forall_mem_cons.mpr ⟨tg_V (ci := 0) (r := CLr 0) (y := 210) rfl ⟨rfl, by decide⟩ rfl q2846 q2847 q2848 q115 q2849 ⟨cn_33.1, cn_33.2, pd_1⟩ dX0_due_5, (List.forall_mem_nil _)⟩) (hd_cons (r := CLr 31) (k := 0) (x := ⟨0, 10, 13, 27⟩) rfl rfl (List.forall_mem_nil _) (by decide +kernel) (by decide) q1664 q1696 rfl (hd_cons (r := CLr 32) (k := 1) (x := ⟨0, 10, 17, 18⟩) rfl rfl (List.forall_mem_cons.mpr ⟨Or.inr ⟨by decide, "java/lang/IndexOutOfBoundsException", q1664, by decide +kernel⟩, (List.forall_mem_nil _)⟩) (by decide +kernel) (by decide) q1638 q245 rfl hd_nil)), m_cv⟩ (
  lkp_c (P := OkP 151) ⟨(PuOK.ok (ok_i2l dX0_due_8)), m_i2l⟩ (
  lkp_c (P := OkP 151) ⟨ok_last dX0_due_9, m_wrJ⟩ (
  lkp_c (P := OkP 151) ⟨(PuOK.ok (ok_goto dX0_due_10 rfl)), m_goto⟩ (
  lkp_c (P := OkP 151) ⟨(PuOK.ok (ok_astore dX0_due_13)), m_astore⟩ (
  lkp_c (P := OkP 151) ⟨(PuOK.ok (ok_iconst dX0_due_15 rfl)), m_push⟩ (
  lkp_c (P := OkP 151) ⟨ok_iret rfl rfl (by decide) dX0_due_16, m_ret⟩ (
  lkp_c (P := OkP 151) ⟨(PuOK.ok (ok_astore dX0_due_17)), m_astore⟩ (
  lkp_c (P := OkP 151) ⟨(PuOK.ok (ok_iconst dX0_due_19 rfl)), m_push⟩ (
  lkp_c (P := OkP 151) ⟨ok_iret rfl rfl (by decide) dX0_due_20, m_ret⟩ (
  lkp_c (P := OkP 151) ⟨(PuOK.ok (ok_iconst dX0_due_21 rfl)), m_push⟩ (
  lkp_c (P := OkP 151) ⟨ok_iret rfl rfl (by decide) dX0_due_22, m_ret⟩ (
  trivial)))))))))))))))))
theorem mt_151 : MtOK TB NT IT 151 := ⟨by decide +kernel, rfl, (fun h => by cases h), Or.inr rfl, rfl, by decide, lk2_all (P := OkP 151) ⟨c_151_0, trivial⟩⟩
def dkwX0_billed_0 : List UInt8 := [45, 3, 42, 27, 28, 182, 0, 100, 133, 80, 167, 0, 11, 58, 4, 4, 172, 58, 4, 5, 172, 3, 172]
abbrev dktX0_billed_0 : List UInt8 := dkwX0_billed_0 ++ []
theorem dksX0_billed_0 : cX0_billed.data.toList.drop 0 = dktX0_billed_0 := by decide +kernel
theorem dX0_billed_0 : decode cX0_billed 0 = .ok (.aload_n 3, 1) := dk_45 (dk_at dksX0_billed_0 0 rfl rfl)
theorem dX0_billed_1 : decode cX0_billed 1 = .ok (.iconst 0, 1) := dk_3 (dk_at dksX0_billed_0 1 rfl rfl)
theorem dX0_billed_2 : decode cX0_billed 2 = .ok (.aload_n 0, 1) := dk_42 (dk_at dksX0_billed_0 2 rfl rfl)
theorem dX0_billed_3 : decode cX0_billed 3 = .ok (.iload_n 1, 1) := dk_27 (dk_at dksX0_billed_0 3 rfl rfl)
theorem dX0_billed_4 : decode cX0_billed 4 = .ok (.iload_n 2, 1) := dk_28 (dk_at dksX0_billed_0 4 rfl rfl)
theorem dX0_billed_5 : decode cX0_billed 5 = .ok (.invokevirtual 100, 3) := dk_182 0 100 (dk_at dksX0_billed_0 5 rfl rfl)
theorem dX0_billed_8 : decode cX0_billed 8 = .ok (.i2l, 1) := dk_133 (dk_at dksX0_billed_0 8 rfl rfl)
theorem dX0_billed_9 : decode cX0_billed 9 = .ok (.lastore, 1) := dk_80 (dk_at dksX0_billed_0 9 rfl rfl)
theorem dX0_billed_10 : decode cX0_billed 10 = .ok (.goto 11, 3) := dk_167 0 11 (dk_at dksX0_billed_0 10 rfl rfl)
theorem dX0_billed_13 : decode cX0_billed 13 = .ok (.astore 4, 2) := dk_58 4 (dk_at dksX0_billed_0 13 rfl rfl)
theorem dX0_billed_15 : decode cX0_billed 15 = .ok (.iconst 1, 1) := dk_4 (dk_at dksX0_billed_0 15 rfl rfl)
theorem dX0_billed_16 : decode cX0_billed 16 = .ok (.ireturn, 1) := dk_172 (dk_at dksX0_billed_0 16 rfl rfl)
theorem dX0_billed_17 : decode cX0_billed 17 = .ok (.astore 4, 2) := dk_58 4 (dk_at dksX0_billed_0 17 rfl rfl)
theorem dX0_billed_19 : decode cX0_billed 19 = .ok (.iconst 2, 1) := dk_5 (dk_at dksX0_billed_0 19 rfl rfl)
theorem dX0_billed_20 : decode cX0_billed 20 = .ok (.ireturn, 1) := dk_172 (dk_at dksX0_billed_0 20 rfl rfl)
theorem dX0_billed_21 : decode cX0_billed 21 = .ok (.iconst 0, 1) := dk_3 (dk_at dksX0_billed_0 21 rfl rfl)
theorem dX0_billed_22 : decode cX0_billed 22 = .ok (.ireturn, 1) := dk_172 (dk_at dksX0_billed_0 22 rfl rfl)
theorem c_152_0 : LkP (OkP 152) [(0, o_aload 3 1), (1, o_push 1 (.int 0)), (2, o_aload 0 1), (3, o_iload 1 1), (4, o_iload 2 1), (5, o_cv [(0, 211)] 2 3 false (some [(31, 13), (32, 17)])), (8, o_i2l), (9, o_wrJ), (10, o_goto 21), (13, o_astore 4 2), (15, o_push 1 (.int 1)), (16, o_ret 1), (17, o_astore 4 2), (19, o_push 1 (.int 2)), (20, o_ret 1), (21, o_push 1 (.int 0)), (22, o_ret 1)] := lkp_c (P := OkP 152) ⟨(PuOK.ok (ok_aload_n dX0_billed_0 rfl)), m_aload⟩ (
  lkp_c (P := OkP 152) ⟨(PuOK.ok (ok_iconst dX0_billed_1 rfl)), m_push⟩ (
  lkp_c (P := OkP 152) ⟨(PuOK.ok (ok_aload_n dX0_billed_2 rfl)), m_aload⟩ (
  lkp_c (P := OkP 152) ⟨(PuOK.ok (ok_iload_n dX0_billed_3 rfl)), m_iload⟩ (
  lkp_c (P := OkP 152) ⟨(PuOK.ok (ok_iload_n dX0_billed_4 rfl)), m_iload⟩ (
  lkp_c (P := OkP 152) ⟨ok_cv (List.forall_mem_cons.mpr ⟨tg_V (ci := 0) (r := CLr 0) (y := 211) rfl ⟨rfl, by decide⟩ rfl q2857 q2858 q2859 q115 q2860 ⟨cn_33.1, cn_33.2, pd_1⟩ dX0_billed_5, (List.forall_mem_nil _)⟩) (hd_cons (r := CLr 31) (k := 0) (x := ⟨0, 10, 13, 27⟩) rfl rfl (List.forall_mem_nil _) (by decide +kernel) (by decide) q1664 q1696 rfl (hd_cons (r := CLr 32) (k := 1) (x := ⟨0, 10, 17, 18⟩) rfl rfl (List.forall_mem_cons.mpr ⟨Or.inr ⟨by decide, "java/lang/IndexOutOfBoundsException", q1664, by decide +kernel⟩, (List.forall_mem_nil _)⟩) (by decide +kernel) (by decide) q1638 q245 rfl hd_nil)), m_cv⟩ (
  lkp_c (P := OkP 152) ⟨(PuOK.ok (ok_i2l dX0_billed_8)), m_i2l⟩ (
  lkp_c (P := OkP 152) ⟨ok_last dX0_billed_9, m_wrJ⟩ (
  lkp_c (P := OkP 152) ⟨(PuOK.ok (ok_goto dX0_billed_10 rfl)), m_goto⟩ (
  lkp_c (P := OkP 152) ⟨(PuOK.ok (ok_astore dX0_billed_13)), m_astore⟩ (
  lkp_c (P := OkP 152) ⟨(PuOK.ok (ok_iconst dX0_billed_15 rfl)), m_push⟩ (
  lkp_c (P := OkP 152) ⟨ok_iret rfl rfl (by decide) dX0_billed_16, m_ret⟩ (
  lkp_c (P := OkP 152) ⟨(PuOK.ok (ok_astore dX0_billed_17)), m_astore⟩ (
  lkp_c (P := OkP 152) ⟨(PuOK.ok (ok_iconst dX0_billed_19 rfl)), m_push⟩ (
  lkp_c (P := OkP 152) ⟨ok_iret rfl rfl (by decide) dX0_billed_20, m_ret⟩ (
  lkp_c (P := OkP 152) ⟨(PuOK.ok (ok_iconst dX0_billed_21 rfl)), m_push⟩ (
  lkp_c (P := OkP 152) ⟨ok_iret rfl rfl (by decide) dX0_billed_22, m_ret⟩ (
  trivial)))))))))))))))))
theorem mt_152 : MtOK TB NT IT 152 := ⟨by decide +kernel, rfl, (fun h => by cases h), Or.inr rfl, rfl, by decide, lk2_all (P := OkP 152) ⟨c_152_0, trivial⟩⟩
def dkwX0_billedGantry_0 : List UInt8 := [45, 3, 42, 27, 28, 182, 0, 103, 133, 80, 167, 0, 7, 58, 4, 4, 172, 3, 172]
abbrev dktX0_billedGantry_0 : List UInt8 := dkwX0_billedGantry_0 ++ []
theorem dksX0_billedGantry_0 : cX0_billedGantry.data.toList.drop 0 = dktX0_billedGantry_0 := by decide +kernel
theorem dX0_billedGantry_0 : decode cX0_billedGantry 0 = .ok (.aload_n 3, 1) := dk_45 (dk_at dksX0_billedGantry_0 0 rfl rfl)
theorem dX0_billedGantry_1 : decode cX0_billedGantry 1 = .ok (.iconst 0, 1) := dk_3 (dk_at dksX0_billedGantry_0 1 rfl rfl)
theorem dX0_billedGantry_2 : decode cX0_billedGantry 2 = .ok (.aload_n 0, 1) := dk_42 (dk_at dksX0_billedGantry_0 2 rfl rfl)
theorem dX0_billedGantry_3 : decode cX0_billedGantry 3 = .ok (.iload_n 1, 1) := dk_27 (dk_at dksX0_billedGantry_0 3 rfl rfl)
theorem dX0_billedGantry_4 : decode cX0_billedGantry 4 = .ok (.iload_n 2, 1) := dk_28 (dk_at dksX0_billedGantry_0 4 rfl rfl)
theorem dX0_billedGantry_5 : decode cX0_billedGantry 5 = .ok (.invokevirtual 103, 3) := dk_182 0 103 (dk_at dksX0_billedGantry_0 5 rfl rfl)
theorem dX0_billedGantry_8 : decode cX0_billedGantry 8 = .ok (.i2l, 1) := dk_133 (dk_at dksX0_billedGantry_0 8 rfl rfl)
theorem dX0_billedGantry_9 : decode cX0_billedGantry 9 = .ok (.lastore, 1) := dk_80 (dk_at dksX0_billedGantry_0 9 rfl rfl)
theorem dX0_billedGantry_10 : decode cX0_billedGantry 10 = .ok (.goto 7, 3) := dk_167 0 7 (dk_at dksX0_billedGantry_0 10 rfl rfl)
theorem dX0_billedGantry_13 : decode cX0_billedGantry 13 = .ok (.astore 4, 2) := dk_58 4 (dk_at dksX0_billedGantry_0 13 rfl rfl)
theorem dX0_billedGantry_15 : decode cX0_billedGantry 15 = .ok (.iconst 1, 1) := dk_4 (dk_at dksX0_billedGantry_0 15 rfl rfl)
theorem dX0_billedGantry_16 : decode cX0_billedGantry 16 = .ok (.ireturn, 1) := dk_172 (dk_at dksX0_billedGantry_0 16 rfl rfl)
theorem dX0_billedGantry_17 : decode cX0_billedGantry 17 = .ok (.iconst 0, 1) := dk_3 (dk_at dksX0_billedGantry_0 17 rfl rfl)
theorem dX0_billedGantry_18 : decode cX0_billedGantry 18 = .ok (.ireturn, 1) := dk_172 (dk_at dksX0_billedGantry_0 18 rfl rfl)
theorem c_153_0 : LkP (OkP 153) [(0, o_aload 3 1), (1, o_push 1 (.int 0)), (2, o_aload 0 1), (3, o_iload 1 1), (4, o_iload 2 1), (5, o_cv [(0, 213)] 2 3 false (some [(31, 13)])), (8, o_i2l), (9, o_wrJ), (10, o_goto 17), (13, o_astore 4 2), (15, o_push 1 (.int 1)), (16, o_ret 1), (17, o_push 1 (.int 0)), (18, o_ret 1)] := lkp_c (P := OkP 153) ⟨(PuOK.ok (ok_aload_n dX0_billedGantry_0 rfl)), m_aload⟩ (
  lkp_c (P := OkP 153) ⟨(PuOK.ok (ok_iconst dX0_billedGantry_1 rfl)), m_push⟩ (
  lkp_c (P := OkP 153) ⟨(PuOK.ok (ok_aload_n dX0_billedGantry_2 rfl)), m_aload⟩ (
  lkp_c (P := OkP 153) ⟨(PuOK.ok (ok_iload_n dX0_billedGantry_3 rfl)), m_iload⟩ (
  lkp_c (P := OkP 153) ⟨(PuOK.ok (ok_iload_n dX0_billedGantry_4 rfl)), m_iload⟩ (
  lkp_c (P := OkP 153) ⟨ok_cv (List.forall_mem_cons.mpr ⟨tg_V (ci := 0) (r := CLr 0) (y := 213) rfl ⟨rfl, by decide⟩ rfl q2875 q2876 q2877 q115 q2878 ⟨cn_33.1, cn_33.2, pd_1⟩ dX0_billedGantry_5, (List.forall_mem_nil _)⟩) (hd_cons (r := CLr 31) (k := 0) (x := ⟨0, 10, 13, 27⟩) rfl rfl (List.forall_mem_nil _) (by decide +kernel) (by decide) q1664 q1696 rfl hd_nil), m_cv⟩ (
  lkp_c (P := OkP 153) ⟨(PuOK.ok (ok_i2l dX0_billedGantry_8)), m_i2l⟩ (
  lkp_c (P := OkP 153) ⟨ok_last dX0_billedGantry_9, m_wrJ⟩ (
  lkp_c (P := OkP 153) ⟨(PuOK.ok (ok_goto dX0_billedGantry_10 rfl)), m_goto⟩ (
  lkp_c (P := OkP 153) ⟨(PuOK.ok (ok_astore dX0_billedGantry_13)), m_astore⟩ (
  lkp_c (P := OkP 153) ⟨(PuOK.ok (ok_iconst dX0_billedGantry_15 rfl)), m_push⟩ (
  lkp_c (P := OkP 153) ⟨ok_iret rfl rfl (by decide) dX0_billedGantry_16, m_ret⟩ (
  lkp_c (P := OkP 153) ⟨(PuOK.ok (ok_iconst dX0_billedGantry_17 rfl)), m_push⟩ (
  lkp_c (P := OkP 153) ⟨ok_iret rfl rfl (by decide) dX0_billedGantry_18, m_ret⟩ (
  trivial))))))))))))))
theorem mt_153 : MtOK TB NT IT 153 := ⟨by decide +kernel, rfl, (fun h => by cases h), Or.inr rfl, rfl, by decide, lk2_all (P := OkP 153) ⟨c_153_0, trivial⟩⟩
def dkwX0_dispute_1 : List UInt8 := [172, 3, 172]
abbrev dktX0_dispute_1 : List UInt8 := dkwX0_dispute_1 ++ []
def dkwX0_dispute_0 : List UInt8 := [45, 3, 42, 27, 28, 182, 0, 106, 133, 80, 167, 0, 15, 58, 4, 4, 172, 58, 4, 5, 172, 58, 4, 6]
abbrev dktX0_dispute_0 : List UInt8 := dkwX0_dispute_0 ++ dktX0_dispute_1
theorem dksX0_dispute_0 : cX0_dispute.data.toList.drop 0 = dktX0_dispute_0 := by decide +kernel
theorem dksX0_dispute_1 : cX0_dispute.data.toList.drop 24 = dktX0_dispute_1 := dk_seg dksX0_dispute_0 24 rfl rfl
theorem dX0_dispute_0 : decode cX0_dispute 0 = .ok (.aload_n 3, 1) := dk_45 (dk_at dksX0_dispute_0 0 rfl rfl)
theorem dX0_dispute_1 : decode cX0_dispute 1 = .ok (.iconst 0, 1) := dk_3 (dk_at dksX0_dispute_0 1 rfl rfl)
theorem dX0_dispute_2 : decode cX0_dispute 2 = .ok (.aload_n 0, 1) := dk_42 (dk_at dksX0_dispute_0 2 rfl rfl)
theorem dX0_dispute_3 : decode cX0_dispute 3 = .ok (.iload_n 1, 1) := dk_27 (dk_at dksX0_dispute_0 3 rfl rfl)
theorem dX0_dispute_4 : decode cX0_dispute 4 = .ok (.iload_n 2, 1) := dk_28 (dk_at dksX0_dispute_0 4 rfl rfl)
theorem dX0_dispute_5 : decode cX0_dispute 5 = .ok (.invokevirtual 106, 3) := dk_182 0 106 (dk_at dksX0_dispute_0 5 rfl rfl)
theorem dX0_dispute_8 : decode cX0_dispute 8 = .ok (.i2l, 1) := dk_133 (dk_at dksX0_dispute_0 8 rfl rfl)
theorem dX0_dispute_9 : decode cX0_dispute 9 = .ok (.lastore, 1) := dk_80 (dk_at dksX0_dispute_0 9 rfl rfl)
theorem dX0_dispute_10 : decode cX0_dispute 10 = .ok (.goto 15, 3) := dk_167 0 15 (dk_at dksX0_dispute_0 10 rfl rfl)
theorem dX0_dispute_13 : decode cX0_dispute 13 = .ok (.astore 4, 2) := dk_58 4 (dk_at dksX0_dispute_0 13 rfl rfl)
theorem dX0_dispute_15 : decode cX0_dispute 15 = .ok (.iconst 1, 1) := dk_4 (dk_at dksX0_dispute_0 15 rfl rfl)
theorem dX0_dispute_16 : decode cX0_dispute 16 = .ok (.ireturn, 1) := dk_172 (dk_at dksX0_dispute_0 16 rfl rfl)
theorem dX0_dispute_17 : decode cX0_dispute 17 = .ok (.astore 4, 2) := dk_58 4 (dk_at dksX0_dispute_0 17 rfl rfl)
theorem dX0_dispute_19 : decode cX0_dispute 19 = .ok (.iconst 2, 1) := dk_5 (dk_at dksX0_dispute_0 19 rfl rfl)
theorem dX0_dispute_20 : decode cX0_dispute 20 = .ok (.ireturn, 1) := dk_172 (dk_at dksX0_dispute_0 20 rfl rfl)
theorem dX0_dispute_21 : decode cX0_dispute 21 = .ok (.astore 4, 2) := dk_58 4 (dk_at dksX0_dispute_0 21 rfl rfl)
theorem dX0_dispute_23 : decode cX0_dispute 23 = .ok (.iconst 3, 1) := dk_6 (dk_at dksX0_dispute_0 23 rfl rfl)
theorem dX0_dispute_24 : decode cX0_dispute 24 = .ok (.ireturn, 1) := dk_172 (dk_at dksX0_dispute_1 0 rfl rfl)
theorem dX0_dispute_25 : decode cX0_dispute 25 = .ok (.iconst 0, 1) := dk_3 (dk_at dksX0_dispute_1 1 rfl rfl)
theorem dX0_dispute_26 : decode cX0_dispute 26 = .ok (.ireturn, 1) := dk_172 (dk_at dksX0_dispute_1 2 rfl rfl)
theorem c_154_0 : LkP (OkP 154) [(0, o_aload 3 1), (1, o_push 1 (.int 0)), (2, o_aload 0 1), (3, o_iload 1 1), (4, o_iload 2 1), (5, o_cv [(0, 214)] 2 3 false (some [(31, 13), (32, 17), (33, 21)])), (8, o_i2l), (9, o_wrJ), (10, o_goto 25), (13, o_astore 4 2), (15, o_push 1 (.int 1)), (16, o_ret 1), (17, o_astore 4 2), (19, o_push 1 (.int 2)), (20, o_ret 1), (21, o_astore 4 2), (23, o_push 1 (.int 3)), (24, o_ret 1), (25, o_push 1 (.int 0)), (26, o_ret 1)] := lkp_c (P := OkP 154) ⟨(PuOK.ok (ok_aload_n dX0_dispute_0 rfl)), m_aload⟩ (
  lkp_c (P := OkP 154) ⟨(PuOK.ok (ok_iconst dX0_dispute_1 rfl)), m_push⟩ (
  lkp_c (P := OkP 154) ⟨(PuOK.ok (ok_aload_n dX0_dispute_2 rfl)), m_aload⟩ (
  lkp_c (P := OkP 154) ⟨(PuOK.ok (ok_iload_n dX0_dispute_3 rfl)), m_iload⟩ (
  lkp_c (P := OkP 154) ⟨(PuOK.ok (ok_iload_n dX0_dispute_4 rfl)), m_iload⟩ (
  lkp_c (P := OkP 154) ⟨ok_cv (List.forall_mem_cons.mpr ⟨tg_V (ci := 0) (r := CLr 0) (y := 214) rfl ⟨rfl, by decide⟩ rfl q2882 q2883 q2884 q115 q2885 ⟨cn_33.1, cn_33.2, pd_1⟩ dX0_dispute_5, (List.forall_mem_nil _)⟩) (hd_cons (r := CLr 31) (k := 0) (x := ⟨0, 10, 13, 27⟩) rfl rfl (List.forall_mem_nil _) (by decide +kernel) (by decide) q1664 q1696 rfl (hd_cons (r := CLr 32) (k := 1) (x := ⟨0, 10, 17, 18⟩) rfl rfl (List.forall_mem_cons.mpr ⟨Or.inr ⟨by decide, "java/lang/IndexOutOfBoundsException", q1664, by decide +kernel⟩, (List.forall_mem_nil _)⟩) (by decide +kernel) (by decide) q1638 q245 rfl (hd_cons (r := CLr 33) (k := 2) (x := ⟨0, 10, 21, 13⟩) rfl rfl (List.forall_mem_cons.mpr ⟨Or.inr ⟨by decide, "java/lang/IndexOutOfBoundsException", q1664, by decide +kernel⟩, (List.forall_mem_cons.mpr ⟨Or.inr ⟨by decide, "java/lang/IllegalArgumentException", q1638, by decide +kernel⟩, (List.forall_mem_nil _)⟩)⟩) (by decide +kernel) (by decide) q1606 q1616 rfl hd_nil))), m_cv⟩ (
  lkp_c (P := OkP 154) ⟨(PuOK.ok (ok_i2l dX0_dispute_8)), m_i2l⟩ (
  lkp_c (P := OkP 154) ⟨ok_last dX0_dispute_9, m_wrJ⟩ (
  lkp_c (P := OkP 154) ⟨(PuOK.ok (ok_goto dX0_dispute_10 rfl)), m_goto⟩ (
  lkp_c (P := OkP 154) ⟨(PuOK.ok (ok_astore dX0_dispute_13)), m_astore⟩ (
  lkp_c (P := OkP 154) ⟨(PuOK.ok (ok_iconst dX0_dispute_15 rfl)), m_push⟩ (
  lkp_c (P := OkP 154) ⟨ok_iret rfl rfl (by decide) dX0_dispute_16, m_ret⟩ (
  lkp_c (P := OkP 154) ⟨(PuOK.ok (ok_astore dX0_dispute_17)), m_astore⟩ (
  lkp_c (P := OkP 154) ⟨(PuOK.ok (ok_iconst dX0_dispute_19 rfl)), m_push⟩ (
  lkp_c (P := OkP 154) ⟨ok_iret rfl rfl (by decide) dX0_dispute_20, m_ret⟩ (
  lkp_c (P := OkP 154) ⟨(PuOK.ok (ok_astore dX0_dispute_21)), m_astore⟩ (
  lkp_c (P := OkP 154) ⟨(PuOK.ok (ok_iconst dX0_dispute_23 rfl)), m_push⟩ (
  lkp_c (P := OkP 154) ⟨ok_iret rfl rfl (by decide) dX0_dispute_24, m_ret⟩ (
  lkp_c (P := OkP 154) ⟨(PuOK.ok (ok_iconst dX0_dispute_25 rfl)), m_push⟩ (
  lkp_c (P := OkP 154) ⟨ok_iret rfl rfl (by decide) dX0_dispute_26, m_ret⟩ (
  trivial))))))))))))))))))))
theorem mt_154 : MtOK TB NT IT 154 := ⟨by decide +kernel, rfl, (fun h => by cases h), Or.inr rfl, rfl, by decide, lk2_all (P := OkP 154) ⟨c_154_0, trivial⟩⟩
def dkwX0_disputable_0 : List UInt8 := [44, 3, 42, 27, 182, 0, 109, 133, 80, 167, 0, 6, 78, 4, 172, 3, 172]
abbrev dktX0_disputable_0 : List UInt8 := dkwX0_disputable_0 ++ []
theorem dksX0_disputable_0 : cX0_disputable.data.toList.drop 0 = dktX0_disputable_0 := by decide +kernel
theorem dX0_disputable_0 : decode cX0_disputable 0 = .ok (.aload_n 2, 1) := dk_44 (dk_at dksX0_disputable_0 0 rfl rfl)
theorem dX0_disputable_1 : decode cX0_disputable 1 = .ok (.iconst 0, 1) := dk_3 (dk_at dksX0_disputable_0 1 rfl rfl)
theorem dX0_disputable_2 : decode cX0_disputable 2 = .ok (.aload_n 0, 1) := dk_42 (dk_at dksX0_disputable_0 2 rfl rfl)
theorem dX0_disputable_3 : decode cX0_disputable 3 = .ok (.iload_n 1, 1) := dk_27 (dk_at dksX0_disputable_0 3 rfl rfl)
theorem dX0_disputable_4 : decode cX0_disputable 4 = .ok (.invokevirtual 109, 3) := dk_182 0 109 (dk_at dksX0_disputable_0 4 rfl rfl)
theorem dX0_disputable_7 : decode cX0_disputable 7 = .ok (.i2l, 1) := dk_133 (dk_at dksX0_disputable_0 7 rfl rfl)
theorem dX0_disputable_8 : decode cX0_disputable 8 = .ok (.lastore, 1) := dk_80 (dk_at dksX0_disputable_0 8 rfl rfl)
theorem dX0_disputable_9 : decode cX0_disputable 9 = .ok (.goto 6, 3) := dk_167 0 6 (dk_at dksX0_disputable_0 9 rfl rfl)
theorem dX0_disputable_12 : decode cX0_disputable 12 = .ok (.astore_n 3, 1) := dk_78 (dk_at dksX0_disputable_0 12 rfl rfl)
theorem dX0_disputable_13 : decode cX0_disputable 13 = .ok (.iconst 1, 1) := dk_4 (dk_at dksX0_disputable_0 13 rfl rfl)
theorem dX0_disputable_14 : decode cX0_disputable 14 = .ok (.ireturn, 1) := dk_172 (dk_at dksX0_disputable_0 14 rfl rfl)
theorem dX0_disputable_15 : decode cX0_disputable 15 = .ok (.iconst 0, 1) := dk_3 (dk_at dksX0_disputable_0 15 rfl rfl)
theorem dX0_disputable_16 : decode cX0_disputable 16 = .ok (.ireturn, 1) := dk_172 (dk_at dksX0_disputable_0 16 rfl rfl)
theorem c_155_0 : LkP (OkP 155) [(0, o_aload 2 1), (1, o_push 1 (.int 0)), (2, o_aload 0 1), (3, o_iload 1 1), (4, o_cv [(0, 215)] 1 3 false (some [(32, 12)])), (7, o_i2l), (8, o_wrJ), (9, o_goto 15), (12, o_astore 3 1), (13, o_push 1 (.int 1)), (14, o_ret 1), (15, o_push 1 (.int 0)), (16, o_ret 1)] := lkp_c (P := OkP 155) ⟨(PuOK.ok (ok_aload_n dX0_disputable_0 rfl)), m_aload⟩ (
  lkp_c (P := OkP 155) ⟨(PuOK.ok (ok_iconst dX0_disputable_1 rfl)), m_push⟩ (
  lkp_c (P := OkP 155) ⟨(PuOK.ok (ok_aload_n dX0_disputable_2 rfl)), m_aload⟩ (
  lkp_c (P := OkP 155) ⟨(PuOK.ok (ok_iload_n dX0_disputable_3 rfl)), m_iload⟩ (
  lkp_c (P := OkP 155) ⟨ok_cv (List.forall_mem_cons.mpr ⟨tg_V (ci := 0) (r := CLr 0) (y := 215) rfl ⟨rfl, by decide⟩ rfl q2925 q2926 q2927 q115 q2928 ⟨cn_33.1, cn_33.2, pd_48⟩ dX0_disputable_4, (List.forall_mem_nil _)⟩) (hd_cons (r := CLr 32) (k := 0) (x := ⟨0, 9, 12, 18⟩) rfl rfl (List.forall_mem_nil _) (by decide +kernel) (by decide) q1638 q245 rfl hd_nil), m_cv⟩ (
  lkp_c (P := OkP 155) ⟨(PuOK.ok (ok_i2l dX0_disputable_7)), m_i2l⟩ (
  lkp_c (P := OkP 155) ⟨ok_last dX0_disputable_8, m_wrJ⟩ (
  lkp_c (P := OkP 155) ⟨(PuOK.ok (ok_goto dX0_disputable_9 rfl)), m_goto⟩ (
  lkp_c (P := OkP 155) ⟨(PuOK.ok (ok_astore_n dX0_disputable_12 rfl)), m_astore⟩ (
  lkp_c (P := OkP 155) ⟨(PuOK.ok (ok_iconst dX0_disputable_13 rfl)), m_push⟩ (
  lkp_c (P := OkP 155) ⟨ok_iret rfl rfl (by decide) dX0_disputable_14, m_ret⟩ (
  lkp_c (P := OkP 155) ⟨(PuOK.ok (ok_iconst dX0_disputable_15 rfl)), m_push⟩ (
  lkp_c (P := OkP 155) ⟨ok_iret rfl rfl (by decide) dX0_disputable_16, m_ret⟩ (
  trivial)))))))))))))
theorem mt_155 : MtOK TB NT IT 155 := ⟨by decide +kernel, rfl, (fun h => by cases h), Or.inr rfl, rfl, by decide, lk2_all (P := OkP 155) ⟨c_155_0, trivial⟩⟩
def dkwX0_gantry_0 : List UInt8 := [45, 3, 42, 27, 28, 182, 0, 112, 133, 80, 167, 0, 11, 58, 4, 4, 172, 58, 4, 5, 172, 3, 172]
abbrev dktX0_gantry_0 : List UInt8 := dkwX0_gantry_0 ++ []
theorem dksX0_gantry_0 : cX0_gantry.data.toList.drop 0 = dktX0_gantry_0 := by decide +kernel
theorem dX0_gantry_0 : decode cX0_gantry 0 = .ok (.aload_n 3, 1) := dk_45 (dk_at dksX0_gantry_0 0 rfl rfl)
theorem dX0_gantry_1 : decode cX0_gantry 1 = .ok (.iconst 0, 1) := dk_3 (dk_at dksX0_gantry_0 1 rfl rfl)
theorem dX0_gantry_2 : decode cX0_gantry 2 = .ok (.aload_n 0, 1) := dk_42 (dk_at dksX0_gantry_0 2 rfl rfl)
theorem dX0_gantry_3 : decode cX0_gantry 3 = .ok (.iload_n 1, 1) := dk_27 (dk_at dksX0_gantry_0 3 rfl rfl)
theorem dX0_gantry_4 : decode cX0_gantry 4 = .ok (.iload_n 2, 1) := dk_28 (dk_at dksX0_gantry_0 4 rfl rfl)
theorem dX0_gantry_5 : decode cX0_gantry 5 = .ok (.invokevirtual 112, 3) := dk_182 0 112 (dk_at dksX0_gantry_0 5 rfl rfl)
theorem dX0_gantry_8 : decode cX0_gantry 8 = .ok (.i2l, 1) := dk_133 (dk_at dksX0_gantry_0 8 rfl rfl)
theorem dX0_gantry_9 : decode cX0_gantry 9 = .ok (.lastore, 1) := dk_80 (dk_at dksX0_gantry_0 9 rfl rfl)
theorem dX0_gantry_10 : decode cX0_gantry 10 = .ok (.goto 11, 3) := dk_167 0 11 (dk_at dksX0_gantry_0 10 rfl rfl)
theorem dX0_gantry_13 : decode cX0_gantry 13 = .ok (.astore 4, 2) := dk_58 4 (dk_at dksX0_gantry_0 13 rfl rfl)
theorem dX0_gantry_15 : decode cX0_gantry 15 = .ok (.iconst 1, 1) := dk_4 (dk_at dksX0_gantry_0 15 rfl rfl)
theorem dX0_gantry_16 : decode cX0_gantry 16 = .ok (.ireturn, 1) := dk_172 (dk_at dksX0_gantry_0 16 rfl rfl)
theorem dX0_gantry_17 : decode cX0_gantry 17 = .ok (.astore 4, 2) := dk_58 4 (dk_at dksX0_gantry_0 17 rfl rfl)
theorem dX0_gantry_19 : decode cX0_gantry 19 = .ok (.iconst 2, 1) := dk_5 (dk_at dksX0_gantry_0 19 rfl rfl)
theorem dX0_gantry_20 : decode cX0_gantry 20 = .ok (.ireturn, 1) := dk_172 (dk_at dksX0_gantry_0 20 rfl rfl)
theorem dX0_gantry_21 : decode cX0_gantry 21 = .ok (.iconst 0, 1) := dk_3 (dk_at dksX0_gantry_0 21 rfl rfl)
theorem dX0_gantry_22 : decode cX0_gantry 22 = .ok (.ireturn, 1) := dk_172 (dk_at dksX0_gantry_0 22 rfl rfl)
theorem c_156_0 : LkP (OkP 156) [(0, o_aload 3 1), (1, o_push 1 (.int 0)), (2, o_aload 0 1), (3, o_iload 1 1), (4, o_iload 2 1), (5, o_cv [(0, 216)] 2 3 false (some [(31, 13), (32, 17)])), (8, o_i2l), (9, o_wrJ), (10, o_goto 21), (13, o_astore 4 2), (15, o_push 1 (.int 1)), (16, o_ret 1), (17, o_astore 4 2), (19, o_push 1 (.int 2)), (20, o_ret 1), (21, o_push 1 (.int 0)), (22, o_ret 1)] := lkp_c (P := OkP 156) ⟨(PuOK.ok (ok_aload_n dX0_gantry_0 rfl)), m_aload⟩ (
  lkp_c (P := OkP 156) ⟨(PuOK.ok (ok_iconst dX0_gantry_1 rfl)), m_push⟩ (
  lkp_c (P := OkP 156) ⟨(PuOK.ok (ok_aload_n dX0_gantry_2 rfl)), m_aload⟩ (
  lkp_c (P := OkP 156) ⟨(PuOK.ok (ok_iload_n dX0_gantry_3 rfl)), m_iload⟩ (
  lkp_c (P := OkP 156) ⟨(PuOK.ok (ok_iload_n dX0_gantry_4 rfl)), m_iload⟩ (
  lkp_c (P := OkP 156) ⟨ok_cv (List.forall_mem_cons.mpr ⟨tg_V (ci := 0) (r := CLr 0) (y := 216) rfl ⟨rfl, by decide⟩ rfl q2933 q2934 q2935 q115 q2936 ⟨cn_33.1, cn_33.2, pd_1⟩ dX0_gantry_5, (List.forall_mem_nil _)⟩) (hd_cons (r := CLr 31) (k := 0) (x := ⟨0, 10, 13, 27⟩) rfl rfl (List.forall_mem_nil _) (by decide +kernel) (by decide) q1664 q1696 rfl (hd_cons (r := CLr 32) (k := 1) (x := ⟨0, 10, 17, 18⟩) rfl rfl (List.forall_mem_cons.mpr ⟨Or.inr ⟨by decide, "java/lang/IndexOutOfBoundsException", q1664, by decide +kernel⟩, (List.forall_mem_nil _)⟩) (by decide +kernel) (by decide) q1638 q245 rfl hd_nil)), m_cv⟩ (
  lkp_c (P := OkP 156) ⟨(PuOK.ok (ok_i2l dX0_gantry_8)), m_i2l⟩ (
  lkp_c (P := OkP 156) ⟨ok_last dX0_gantry_9, m_wrJ⟩ (
  lkp_c (P := OkP 156) ⟨(PuOK.ok (ok_goto dX0_gantry_10 rfl)), m_goto⟩ (
  lkp_c (P := OkP 156) ⟨(PuOK.ok (ok_astore dX0_gantry_13)), m_astore⟩ (
  lkp_c (P := OkP 156) ⟨(PuOK.ok (ok_iconst dX0_gantry_15 rfl)), m_push⟩ (
  lkp_c (P := OkP 156) ⟨ok_iret rfl rfl (by decide) dX0_gantry_16, m_ret⟩ (
  lkp_c (P := OkP 156) ⟨(PuOK.ok (ok_astore dX0_gantry_17)), m_astore⟩ (
  lkp_c (P := OkP 156) ⟨(PuOK.ok (ok_iconst dX0_gantry_19 rfl)), m_push⟩ (
  lkp_c (P := OkP 156) ⟨ok_iret rfl rfl (by decide) dX0_gantry_20, m_ret⟩ (
  lkp_c (P := OkP 156) ⟨(PuOK.ok (ok_iconst dX0_gantry_21 rfl)), m_push⟩ (
  lkp_c (P := OkP 156) ⟨ok_iret rfl rfl (by decide) dX0_gantry_22, m_ret⟩ (
  trivial)))))))))))))))))
theorem mt_156 : MtOK TB NT IT 156 := ⟨by decide +kernel, rfl, (fun h => by cases h), Or.inr rfl, rfl, by decide, lk2_all (P := OkP 156) ⟨c_156_0, trivial⟩⟩
def dkwX0_missRate_0 : List UInt8 := [44, 3, 42, 27, 182, 0, 115, 141, 82, 167, 0, 6, 78, 4, 172, 3, 172]
abbrev dktX0_missRate_0 : List UInt8 := dkwX0_missRate_0 ++ []
theorem dksX0_missRate_0 : cX0_missRate.data.toList.drop 0 = dktX0_missRate_0 := by decide +kernel
theorem dX0_missRate_0 : decode cX0_missRate 0 = .ok (.aload_n 2, 1) := dk_44 (dk_at dksX0_missRate_0 0 rfl rfl)
theorem dX0_missRate_1 : decode cX0_missRate 1 = .ok (.iconst 0, 1) := dk_3 (dk_at dksX0_missRate_0 1 rfl rfl)
theorem dX0_missRate_2 : decode cX0_missRate 2 = .ok (.aload_n 0, 1) := dk_42 (dk_at dksX0_missRate_0 2 rfl rfl)
theorem dX0_missRate_3 : decode cX0_missRate 3 = .ok (.iload_n 1, 1) := dk_27 (dk_at dksX0_missRate_0 3 rfl rfl)
theorem dX0_missRate_4 : decode cX0_missRate 4 = .ok (.invokevirtual 115, 3) := dk_182 0 115 (dk_at dksX0_missRate_0 4 rfl rfl)
theorem dX0_missRate_7 : decode cX0_missRate 7 = .ok (.f2d, 1) := dk_141 (dk_at dksX0_missRate_0 7 rfl rfl)
theorem dX0_missRate_8 : decode cX0_missRate 8 = .ok (.dastore, 1) := dk_82 (dk_at dksX0_missRate_0 8 rfl rfl)
theorem dX0_missRate_9 : decode cX0_missRate 9 = .ok (.goto 6, 3) := dk_167 0 6 (dk_at dksX0_missRate_0 9 rfl rfl)
theorem dX0_missRate_12 : decode cX0_missRate 12 = .ok (.astore_n 3, 1) := dk_78 (dk_at dksX0_missRate_0 12 rfl rfl)
theorem dX0_missRate_13 : decode cX0_missRate 13 = .ok (.iconst 1, 1) := dk_4 (dk_at dksX0_missRate_0 13 rfl rfl)
theorem dX0_missRate_14 : decode cX0_missRate 14 = .ok (.ireturn, 1) := dk_172 (dk_at dksX0_missRate_0 14 rfl rfl)
theorem dX0_missRate_15 : decode cX0_missRate 15 = .ok (.iconst 0, 1) := dk_3 (dk_at dksX0_missRate_0 15 rfl rfl)
theorem dX0_missRate_16 : decode cX0_missRate 16 = .ok (.ireturn, 1) := dk_172 (dk_at dksX0_missRate_0 16 rfl rfl)
theorem c_157_0 : LkP (OkP 157) [(0, o_aload 2 1), (1, o_push 1 (.int 0)), (2, o_aload 0 1), (3, o_iload 1 1), (4, o_cv [(0, 219)] 1 3 false (some [(31, 12)])), (7, o_f2d), (8, o_wrD), (9, o_goto 15), (12, o_astore 3 1), (13, o_push 1 (.int 1)), (14, o_ret 1), (15, o_push 1 (.int 0)), (16, o_ret 1)] := lkp_c (P := OkP 157) ⟨(PuOK.ok (ok_aload_n dX0_missRate_0 rfl)), m_aload⟩ (
  lkp_c (P := OkP 157) ⟨(PuOK.ok (ok_iconst dX0_missRate_1 rfl)), m_push⟩ (
  lkp_c (P := OkP 157) ⟨(PuOK.ok (ok_aload_n dX0_missRate_2 rfl)), m_aload⟩ (
  lkp_c (P := OkP 157) ⟨(PuOK.ok (ok_iload_n dX0_missRate_3 rfl)), m_iload⟩ (
  lkp_c (P := OkP 157) ⟨ok_cv (List.forall_mem_cons.mpr ⟨tg_V (ci := 0) (r := CLr 0) (y := 219) rfl ⟨rfl, by decide⟩ rfl q2948 q2949 q2950 q115 q2951 ⟨cn_33.1, cn_33.2, pd_67⟩ dX0_missRate_4, (List.forall_mem_nil _)⟩) (hd_cons (r := CLr 31) (k := 0) (x := ⟨0, 9, 12, 27⟩) rfl rfl (List.forall_mem_nil _) (by decide +kernel) (by decide) q1664 q1696 rfl hd_nil), m_cv⟩ (
  lkp_c (P := OkP 157) ⟨(PuOK.ok (ok_f2d dX0_missRate_7)), m_f2d⟩ (
  lkp_c (P := OkP 157) ⟨ok_dast dX0_missRate_8, m_wrD⟩ (
  lkp_c (P := OkP 157) ⟨(PuOK.ok (ok_goto dX0_missRate_9 rfl)), m_goto⟩ (
  lkp_c (P := OkP 157) ⟨(PuOK.ok (ok_astore_n dX0_missRate_12 rfl)), m_astore⟩ (
  lkp_c (P := OkP 157) ⟨(PuOK.ok (ok_iconst dX0_missRate_13 rfl)), m_push⟩ (
  lkp_c (P := OkP 157) ⟨ok_iret rfl rfl (by decide) dX0_missRate_14, m_ret⟩ (
  lkp_c (P := OkP 157) ⟨(PuOK.ok (ok_iconst dX0_missRate_15 rfl)), m_push⟩ (
  lkp_c (P := OkP 157) ⟨ok_iret rfl rfl (by decide) dX0_missRate_16, m_ret⟩ (
  trivial)))))))))))))
theorem mt_157 : MtOK TB NT IT 157 := ⟨by decide +kernel, rfl, (fun h => by cases h), Or.inr rfl, rfl, by decide, lk2_all (P := OkP 157) ⟨c_157_0, trivial⟩⟩
def dkwX0_save_0 : List UInt8 := [42, 27, 182, 0, 119, 167, 0, 6, 77, 4, 172, 3, 172]
abbrev dktX0_save_0 : List UInt8 := dkwX0_save_0 ++ []
theorem dksX0_save_0 : cX0_save.data.toList.drop 0 = dktX0_save_0 := by decide +kernel
theorem dX0_save_0 : decode cX0_save 0 = .ok (.aload_n 0, 1) := dk_42 (dk_at dksX0_save_0 0 rfl rfl)
theorem dX0_save_1 : decode cX0_save 1 = .ok (.iload_n 1, 1) := dk_27 (dk_at dksX0_save_0 1 rfl rfl)
theorem dX0_save_2 : decode cX0_save 2 = .ok (.invokevirtual 119, 3) := dk_182 0 119 (dk_at dksX0_save_0 2 rfl rfl)
theorem dX0_save_5 : decode cX0_save 5 = .ok (.goto 6, 3) := dk_167 0 6 (dk_at dksX0_save_0 5 rfl rfl)
theorem dX0_save_8 : decode cX0_save 8 = .ok (.astore_n 2, 1) := dk_77 (dk_at dksX0_save_0 8 rfl rfl)
theorem dX0_save_9 : decode cX0_save 9 = .ok (.iconst 1, 1) := dk_4 (dk_at dksX0_save_0 9 rfl rfl)
theorem dX0_save_10 : decode cX0_save 10 = .ok (.ireturn, 1) := dk_172 (dk_at dksX0_save_0 10 rfl rfl)
theorem dX0_save_11 : decode cX0_save 11 = .ok (.iconst 0, 1) := dk_3 (dk_at dksX0_save_0 11 rfl rfl)
theorem dX0_save_12 : decode cX0_save 12 = .ok (.ireturn, 1) := dk_172 (dk_at dksX0_save_0 12 rfl rfl)
theorem c_158_0 : LkP (OkP 158) [(0, o_aload 0 1), (1, o_iload 1 1), (2, o_cv [(0, 220)] 1 3 true (some [(32, 8)])), (5, o_goto 11), (8, o_astore 2 1), (9, o_push 1 (.int 1)), (10, o_ret 1), (11, o_push 1 (.int 0)), (12, o_ret 1)] := lkp_c (P := OkP 158) ⟨(PuOK.ok (ok_aload_n dX0_save_0 rfl)), m_aload⟩ (
  lkp_c (P := OkP 158) ⟨(PuOK.ok (ok_iload_n dX0_save_1 rfl)), m_iload⟩ (
  lkp_c (P := OkP 158) ⟨ok_cv (List.forall_mem_cons.mpr ⟨tg_V (ci := 0) (r := CLr 0) (y := 220) rfl ⟨rfl, by decide⟩ rfl q2956 q2957 q2958 q115 q2959 ⟨cn_33.1, cn_33.2, pd_9⟩ dX0_save_2, (List.forall_mem_nil _)⟩) (hd_cons (r := CLr 32) (k := 0) (x := ⟨0, 5, 8, 18⟩) rfl rfl (List.forall_mem_nil _) (by decide +kernel) (by decide) q1638 q245 rfl hd_nil), m_cv⟩ (
  lkp_c (P := OkP 158) ⟨(PuOK.ok (ok_goto dX0_save_5 rfl)), m_goto⟩ (
  lkp_c (P := OkP 158) ⟨(PuOK.ok (ok_astore_n dX0_save_8 rfl)), m_astore⟩ (
  lkp_c (P := OkP 158) ⟨(PuOK.ok (ok_iconst dX0_save_9 rfl)), m_push⟩ (
  lkp_c (P := OkP 158) ⟨ok_iret rfl rfl (by decide) dX0_save_10, m_ret⟩ (
  lkp_c (P := OkP 158) ⟨(PuOK.ok (ok_iconst dX0_save_11 rfl)), m_push⟩ (
  lkp_c (P := OkP 158) ⟨ok_iret rfl rfl (by decide) dX0_save_12, m_ret⟩ (
  trivial)))))))))
theorem mt_158 : MtOK TB NT IT 158 := ⟨by decide +kernel, rfl, (fun h => by cases h), Or.inr rfl, rfl, by decide, lk2_all (P := OkP 158) ⟨c_158_0, trivial⟩⟩
def dkwX0_restore_0 : List UInt8 := [42, 27, 182, 0, 123, 167, 0, 9, 77, 4, 172, 77, 5, 172, 3, 172]
abbrev dktX0_restore_0 : List UInt8 := dkwX0_restore_0 ++ []
theorem dksX0_restore_0 : cX0_restore.data.toList.drop 0 = dktX0_restore_0 := by decide +kernel
theorem dX0_restore_0 : decode cX0_restore 0 = .ok (.aload_n 0, 1) := dk_42 (dk_at dksX0_restore_0 0 rfl rfl)
theorem dX0_restore_1 : decode cX0_restore 1 = .ok (.iload_n 1, 1) := dk_27 (dk_at dksX0_restore_0 1 rfl rfl)
theorem dX0_restore_2 : decode cX0_restore 2 = .ok (.invokevirtual 123, 3) := dk_182 0 123 (dk_at dksX0_restore_0 2 rfl rfl)
theorem dX0_restore_5 : decode cX0_restore 5 = .ok (.goto 9, 3) := dk_167 0 9 (dk_at dksX0_restore_0 5 rfl rfl)
theorem dX0_restore_8 : decode cX0_restore 8 = .ok (.astore_n 2, 1) := dk_77 (dk_at dksX0_restore_0 8 rfl rfl)
theorem dX0_restore_9 : decode cX0_restore 9 = .ok (.iconst 1, 1) := dk_4 (dk_at dksX0_restore_0 9 rfl rfl)
theorem dX0_restore_10 : decode cX0_restore 10 = .ok (.ireturn, 1) := dk_172 (dk_at dksX0_restore_0 10 rfl rfl)
theorem dX0_restore_11 : decode cX0_restore 11 = .ok (.astore_n 2, 1) := dk_77 (dk_at dksX0_restore_0 11 rfl rfl)
theorem dX0_restore_12 : decode cX0_restore 12 = .ok (.iconst 2, 1) := dk_5 (dk_at dksX0_restore_0 12 rfl rfl)
theorem dX0_restore_13 : decode cX0_restore 13 = .ok (.ireturn, 1) := dk_172 (dk_at dksX0_restore_0 13 rfl rfl)
theorem dX0_restore_14 : decode cX0_restore 14 = .ok (.iconst 0, 1) := dk_3 (dk_at dksX0_restore_0 14 rfl rfl)
theorem dX0_restore_15 : decode cX0_restore 15 = .ok (.ireturn, 1) := dk_172 (dk_at dksX0_restore_0 15 rfl rfl)
theorem c_159_0 : LkP (OkP 159) [(0, o_aload 0 1), (1, o_iload 1 1), (2, o_cv [(0, 221)] 1 3 true (some [(32, 8), (33, 11)])), (5, o_goto 14), (8, o_astore 2 1), (9, o_push 1 (.int 1)), (10, o_ret 1), (11, o_astore 2 1), (12, o_push 1 (.int 2)), (13, o_ret 1), (14, o_push 1 (.int 0)), (15, o_ret 1)] := lkp_c (P := OkP 159) ⟨(PuOK.ok (ok_aload_n dX0_restore_0 rfl)), m_aload⟩ (
  lkp_c (P := OkP 159) ⟨(PuOK.ok (ok_iload_n dX0_restore_1 rfl)), m_iload⟩ (
  lkp_c (P := OkP 159) ⟨ok_cv (List.forall_mem_cons.mpr ⟨tg_V (ci := 0) (r := CLr 0) (y := 221) rfl ⟨rfl, by decide⟩ rfl q3066 q3067 q3068 q115 q3069 ⟨cn_33.1, cn_33.2, pd_9⟩ dX0_restore_2, (List.forall_mem_nil _)⟩) (hd_cons (r := CLr 32) (k := 0) (x := ⟨0, 5, 8, 18⟩) rfl rfl (List.forall_mem_nil _) (by decide +kernel) (by decide) q1638 q245 rfl (hd_cons (r := CLr 33) (k := 1) (x := ⟨0, 5, 11, 13⟩) rfl rfl (List.forall_mem_cons.mpr ⟨Or.inr ⟨by decide, "java/lang/IllegalArgumentException", q1638, by decide +kernel⟩, (List.forall_mem_nil _)⟩) (by decide +kernel) (by decide) q1606 q1616 rfl hd_nil)), m_cv⟩ (
  lkp_c (P := OkP 159) ⟨(PuOK.ok (ok_goto dX0_restore_5 rfl)), m_goto⟩ (
  lkp_c (P := OkP 159) ⟨(PuOK.ok (ok_astore_n dX0_restore_8 rfl)), m_astore⟩ (
  lkp_c (P := OkP 159) ⟨(PuOK.ok (ok_iconst dX0_restore_9 rfl)), m_push⟩ (
  lkp_c (P := OkP 159) ⟨ok_iret rfl rfl (by decide) dX0_restore_10, m_ret⟩ (
  lkp_c (P := OkP 159) ⟨(PuOK.ok (ok_astore_n dX0_restore_11 rfl)), m_astore⟩ (
  lkp_c (P := OkP 159) ⟨(PuOK.ok (ok_iconst dX0_restore_12 rfl)), m_push⟩ (
  lkp_c (P := OkP 159) ⟨ok_iret rfl rfl (by decide) dX0_restore_13, m_ret⟩ (
  lkp_c (P := OkP 159) ⟨(PuOK.ok (ok_iconst dX0_restore_14 rfl)), m_push⟩ (
  lkp_c (P := OkP 159) ⟨ok_iret rfl rfl (by decide) dX0_restore_15, m_ret⟩ (
  trivial))))))))))))
theorem mt_159 : MtOK TB NT IT 159 := ⟨by decide +kernel, rfl, (fun h => by cases h), Or.inr rfl, rfl, by decide, lk2_all (P := OkP 159) ⟨c_159_0, trivial⟩⟩
def dkwX1_init_1 : List UInt8 := [17, 2, 188, 188, 8, 181, 0, 29, 42, 2, 181, 0, 33, 177]
abbrev dktX1_init_1 : List UInt8 := dkwX1_init_1 ++ []
def dkwX1_init_0 : List UInt8 := [42, 183, 0, 13, 42, 187, 0, 16, 89, 183, 0, 18, 181, 0, 19, 42, 5, 189, 0, 16, 181, 0, 25, 42]
abbrev dktX1_init_0 : List UInt8 := dkwX1_init_0 ++ dktX1_init_1
theorem dksX1_init_0 : cX1_init.data.toList.drop 0 = dktX1_init_0 := by decide +kernel
theorem dksX1_init_1 : cX1_init.data.toList.drop 24 = dktX1_init_1 := dk_seg dksX1_init_0 24 rfl rfl
theorem dX1_init_0 : decode cX1_init 0 = .ok (.aload_n 0, 1) := dk_42 (dk_at dksX1_init_0 0 rfl rfl)
theorem dX1_init_1 : decode cX1_init 1 = .ok (.invokespecial 13, 3) := dk_183 0 13 (dk_at dksX1_init_0 1 rfl rfl)
theorem dX1_init_4 : decode cX1_init 4 = .ok (.aload_n 0, 1) := dk_42 (dk_at dksX1_init_0 4 rfl rfl)
theorem dX1_init_5 : decode cX1_init 5 = .ok (.new 16, 3) := dk_187 0 16 (dk_at dksX1_init_0 5 rfl rfl)
theorem dX1_init_8 : decode cX1_init 8 = .ok (.dup, 1) := dk_89 (dk_at dksX1_init_0 8 rfl rfl)
theorem dX1_init_9 : decode cX1_init 9 = .ok (.invokespecial 18, 3) := dk_183 0 18 (dk_at dksX1_init_0 9 rfl rfl)
theorem dX1_init_12 : decode cX1_init 12 = .ok (.putfield 19, 3) := dk_181 0 19 (dk_at dksX1_init_0 12 rfl rfl)
theorem dX1_init_15 : decode cX1_init 15 = .ok (.aload_n 0, 1) := dk_42 (dk_at dksX1_init_0 15 rfl rfl)
theorem dX1_init_16 : decode cX1_init 16 = .ok (.iconst 2, 1) := dk_5 (dk_at dksX1_init_0 16 rfl rfl)
theorem dX1_init_17 : decode cX1_init 17 = .ok (.anewarray 16, 3) := dk_189 0 16 (dk_at dksX1_init_0 17 rfl rfl)
theorem dX1_init_20 : decode cX1_init 20 = .ok (.putfield 25, 3) := dk_181 0 25 (dk_at dksX1_init_0 20 rfl rfl)
theorem dX1_init_23 : decode cX1_init 23 = .ok (.aload_n 0, 1) := dk_42 (dk_at dksX1_init_0 23 rfl rfl)
theorem dX1_init_24 : decode cX1_init 24 = .ok (.sipush 700, 3) := dk_17 2 188 (dk_at dksX1_init_1 0 rfl rfl)
theorem dX1_init_27 : decode cX1_init 27 = .ok (.newarray .byte, 2) := dk_188_8 (dk_at dksX1_init_1 3 rfl rfl)
theorem dX1_init_29 : decode cX1_init 29 = .ok (.putfield 29, 3) := dk_181 0 29 (dk_at dksX1_init_1 5 rfl rfl)
theorem dX1_init_32 : decode cX1_init 32 = .ok (.aload_n 0, 1) := dk_42 (dk_at dksX1_init_1 8 rfl rfl)
theorem dX1_init_33 : decode cX1_init 33 = .ok (.iconst (-1), 1) := dk_2 (dk_at dksX1_init_1 9 rfl rfl)
theorem dX1_init_34 : decode cX1_init 34 = .ok (.putfield 33, 3) := dk_181 0 33 (dk_at dksX1_init_1 10 rfl rfl)
theorem dX1_init_37 : decode cX1_init 37 = .ok (.return_, 1) := dk_177 (dk_at dksX1_init_1 13 rfl rfl)
theorem c_160_0 : LkP (OkP 160) [(0, o_aload 0 1), (1, o_oi), (4, o_aload 0 1), (5, o_new 1 8 dv1), (8, o_dup), (9, o_ci 256 0), (12, o_put 0 0), (15, o_aload 0 1), (16, o_push 1 (.int 2)), (17, o_newa 8 3), (20, o_put 1 0), (23, o_aload 0 1), (24, o_push 3 (.int 700)), (27, o_newa 1 2), (29, o_put 2 0), (32, o_aload 0 1), (33, o_push 1 (.int (-1))), (34, o_put 5 1), (37, o_vret)] := lkp_c (P := OkP 160) ⟨(PuOK.ok (ok_aload_n dX1_init_0 rfl)), m_aload⟩ (
  lkp_c (P := OkP 160) ⟨ok_oi q187 q188 q_oi dX1_init_1, m_oi⟩ (
  lkp_c (P := OkP 160) ⟨(PuOK.ok (ok_aload_n dX1_init_4 rfl)), m_aload⟩ (
  lkp_c (P := OkP 160) ⟨ok_new (ci := 1) (r := CLr 1) rfl dvok_1 q190 q191 q116 dX1_init_5, m_new⟩ (
  lkp_c (P := OkP 160) ⟨(PuOK.ok (ok_dup dX1_init_8)), m_dup⟩ (
  lkp_c (P := OkP 160) ⟨ok_ci (tg_IN (rt := none) ⟨rfl, by decide⟩ rfl q192 q193 q116 q194 ⟨cn_36.1, cn_36.2, pd_0⟩ dX1_init_9) hd_no, m_ci⟩ (
  lkp_c (P := OkP 160) ⟨ok_put ⟨"TollRoad", q664, Or.inl rfl⟩ rfl fd_0 rfl dX1_init_12, m_put⟩ (
  lkp_c (P := OkP 160) ⟨(PuOK.ok (ok_aload_n dX1_init_15 rfl)), m_aload⟩ (
  lkp_c (P := OkP 160) ⟨(PuOK.ok (ok_iconst dX1_init_16 rfl)), m_push⟩ (
  lkp_c (P := OkP 160) ⟨ok_anew (by decide) (by decide) rfl q190 q663 dX1_init_17, m_newa⟩ (
  lkp_c (P := OkP 160) ⟨ok_putF q665 rfl rfl rfl fd_1 rfl dX1_init_20, m_put⟩ (
  lkp_c (P := OkP 160) ⟨(PuOK.ok (ok_aload_n dX1_init_23 rfl)), m_aload⟩ (
  lkp_c (P := OkP 160) ⟨(PuOK.ok (ok_sipush dX1_init_24 rfl)), m_push⟩ (
  lkp_c (P := OkP 160) ⟨ok_newa (by decide) rfl q331 dX1_init_27, m_newa⟩ (
  lkp_c (P := OkP 160) ⟨ok_putF q667 rfl rfl rfl fd_2 rfl dX1_init_29, m_put⟩ (
  lkp_c (P := OkP 160) ⟨(PuOK.ok (ok_aload_n dX1_init_32 rfl)), m_aload⟩ (
  lkp_c (P := OkP 160) ⟨(PuOK.ok (ok_iconst dX1_init_33 rfl)), m_push⟩ (
  lkp_c (P := OkP 160) ⟨ok_put ⟨"TollRoad", q670, Or.inl rfl⟩ rfl fd_5 rfl dX1_init_34, m_put⟩ (
  lkp_c (P := OkP 160) ⟨ok_vret rfl dX1_init_37, m_vret⟩ (
  trivial)))))))))))))))))))
theorem mt_160 : MtOK TB NT IT 160 := ⟨by decide +kernel, rfl, fun _ => rfl, Or.inl ⟨rfl, rfl⟩, rfl, by decide, lk2_all (P := OkP 160) ⟨c_160_0, trivial⟩⟩
def dkwX1_revenue_2 : List UInt8 := [64, 167, 255, 221, 31, 173]
abbrev dktX1_revenue_2 : List UInt8 := dkwX1_revenue_2 ++ []
def dkwX1_revenue_1 : List UInt8 := [185, 0, 156, 1, 0, 192, 0, 168, 58, 4, 31, 25, 4, 180, 1, 118, 25, 4, 180, 1, 132, 100, 133, 97]
abbrev dktX1_revenue_1 : List UInt8 := dkwX1_revenue_1 ++ dktX1_revenue_2
def dkwX1_revenue_0 : List UInt8 := [9, 64, 42, 180, 0, 19, 180, 0, 165, 182, 0, 146, 78, 45, 185, 0, 150, 1, 0, 153, 0, 32, 45]
abbrev dktX1_revenue_0 : List UInt8 := dkwX1_revenue_0 ++ dktX1_revenue_1
theorem dksX1_revenue_0 : cX1_revenue.data.toList.drop 0 = dktX1_revenue_0 := by decide +kernel
theorem dksX1_revenue_1 : cX1_revenue.data.toList.drop 23 = dktX1_revenue_1 := dk_seg dksX1_revenue_0 23 rfl rfl
theorem dksX1_revenue_2 : cX1_revenue.data.toList.drop 47 = dktX1_revenue_2 := dk_seg dksX1_revenue_1 24 rfl rfl
theorem dX1_revenue_0 : decode cX1_revenue 0 = .ok (.lconst 0, 1) := dk_9 (dk_at dksX1_revenue_0 0 rfl rfl)
theorem dX1_revenue_1 : decode cX1_revenue 1 = .ok (.lstore_n 1, 1) := dk_64 (dk_at dksX1_revenue_0 1 rfl rfl)
theorem dX1_revenue_2 : decode cX1_revenue 2 = .ok (.aload_n 0, 1) := dk_42 (dk_at dksX1_revenue_0 2 rfl rfl)
theorem dX1_revenue_3 : decode cX1_revenue 3 = .ok (.getfield 19, 3) := dk_180 0 19 (dk_at dksX1_revenue_0 3 rfl rfl)
theorem dX1_revenue_6 : decode cX1_revenue 6 = .ok (.getfield 165, 3) := dk_180 0 165 (dk_at dksX1_revenue_0 6 rfl rfl)
theorem dX1_revenue_9 : decode cX1_revenue 9 = .ok (.invokevirtual 146, 3) := dk_182 0 146 (dk_at dksX1_revenue_0 9 rfl rfl)
theorem dX1_revenue_12 : decode cX1_revenue 12 = .ok (.astore_n 3, 1) := dk_78 (dk_at dksX1_revenue_0 12 rfl rfl)
theorem dX1_revenue_13 : decode cX1_revenue 13 = .ok (.aload_n 3, 1) := dk_45 (dk_at dksX1_revenue_0 13 rfl rfl)
theorem dX1_revenue_14 : decode cX1_revenue 14 = .ok (.invokeinterface 150 1, 5) := by decide +kernel
theorem dX1_revenue_19 : decode cX1_revenue 19 = .ok (.ifCond .eq 32, 3) := dk_153 0 32 (dk_at dksX1_revenue_0 19 rfl rfl)
theorem dX1_revenue_22 : decode cX1_revenue 22 = .ok (.aload_n 3, 1) := dk_45 (dk_at dksX1_revenue_0 22 rfl rfl)
theorem dX1_revenue_23 : decode cX1_revenue 23 = .ok (.invokeinterface 156 1, 5) := by decide +kernel
theorem dX1_revenue_28 : decode cX1_revenue 28 = .ok (.checkcast 168, 3) := dk_192 0 168 (dk_at dksX1_revenue_1 5 rfl rfl)
theorem dX1_revenue_31 : decode cX1_revenue 31 = .ok (.astore 4, 2) := dk_58 4 (dk_at dksX1_revenue_1 8 rfl rfl)
theorem dX1_revenue_33 : decode cX1_revenue 33 = .ok (.lload_n 1, 1) := dk_31 (dk_at dksX1_revenue_1 10 rfl rfl)
theorem dX1_revenue_34 : decode cX1_revenue 34 = .ok (.aload 4, 2) := dk_25 4 (dk_at dksX1_revenue_1 11 rfl rfl)
theorem dX1_revenue_36 : decode cX1_revenue 36 = .ok (.getfield 374, 3) := dk_180 1 118 (dk_at dksX1_revenue_1 13 rfl rfl)
theorem dX1_revenue_39 : decode cX1_revenue 39 = .ok (.aload 4, 2) := dk_25 4 (dk_at dksX1_revenue_1 16 rfl rfl)
theorem dX1_revenue_41 : decode cX1_revenue 41 = .ok (.getfield 388, 3) := dk_180 1 132 (dk_at dksX1_revenue_1 18 rfl rfl)
theorem dX1_revenue_44 : decode cX1_revenue 44 = .ok (.isub, 1) := dk_100 (dk_at dksX1_revenue_1 21 rfl rfl)
theorem dX1_revenue_45 : decode cX1_revenue 45 = .ok (.i2l, 1) := dk_133 (dk_at dksX1_revenue_1 22 rfl rfl)
theorem dX1_revenue_46 : decode cX1_revenue 46 = .ok (.ladd, 1) := dk_97 (dk_at dksX1_revenue_1 23 rfl rfl)
theorem dX1_revenue_47 : decode cX1_revenue 47 = .ok (.lstore_n 1, 1) := dk_64 (dk_at dksX1_revenue_2 0 rfl rfl)
theorem dX1_revenue_48 : decode cX1_revenue 48 = .ok (.goto (-35), 3) := dk_167 255 221 (dk_at dksX1_revenue_2 1 rfl rfl)
theorem dX1_revenue_51 : decode cX1_revenue 51 = .ok (.lload_n 1, 1) := dk_31 (dk_at dksX1_revenue_2 4 rfl rfl)
theorem dX1_revenue_52 : decode cX1_revenue 52 = .ok (.lreturn, 1) := dk_173 (dk_at dksX1_revenue_2 5 rfl rfl)
theorem c_161_0 : LkP (OkP 161) [(0, o_push 1 (.long 0)), (1, o_lstore 1 1), (2, o_aload 0 1), (3, o_get 0), (6, o_get 12), (9, o_cv [(3, 40)] 0 3 false none), (12, o_astore 3 1), (13, o_aload 3 1), (14, o_cv [(7, 50), (24, 86), (25, 92)] 0 5 false none), (19, o_if (fun x => decide (x = 0)) 51), (22, o_aload 3 1), (23, o_cv [(7, 51), (24, 89), (25, 95)] 0 5 false none), (28, o_cast [27]), (31, o_astore 4 2), (33, o_lload 1 1), (34, o_aload 4 2), (36, o_get 135), (39, o_aload 4 2), (41, o_get 142), (44, o_iop (fun x y => x - y)), (45, o_i2l), (46, o_lop (fun x y => x + y)), (47, o_lstore 1 1), (48, o_goto 13), (51, o_lload 1 1), (52, o_ret 2)] := lkp_c (P := OkP 161) ⟨(PuOK.ok (ok_lconst dX1_revenue_0 rfl)), m_push⟩ (
  lkp_c (P := OkP 161) ⟨(PuOK.ok (ok_lstore_n dX1_revenue_1 rfl)), m_lstore⟩ (
  lkp_c (P := OkP 161) ⟨(PuOK.ok (ok_aload_n dX1_revenue_2 rfl)), m_aload⟩ (
  lkp_c (P := OkP 161) ⟨ok_get ⟨"TollRoad", q664, Or.inl rfl⟩ dX1_revenue_3, m_get⟩ (
  lkp_c (P := OkP 161) ⟨ok_getN ⟨"TollRoad$World", "TollRoad", q644, Or.inl rfl⟩ dX1_revenue_6, m_get⟩ (
  lkp_c (P := OkP 161) ⟨ok_cv (List.forall_mem_cons.mpr ⟨tg_V (ci := 3) (r := CLr 3) (y := 40) rfl ⟨rfl, by decide⟩ rfl q688 q689 q690 q120 q691 ⟨cn_15.1, cn_15.2, pd_70⟩ dX1_revenue_9, (List.forall_mem_nil _)⟩) hd_no, m_cv⟩ (
  lkp_c (P := OkP 161) ⟨(PuOK.ok (ok_astore_n dX1_revenue_12 rfl)), m_astore⟩ (
  lkp_c (P := OkP 161) ⟨(PuOK.ok (ok_aload_n dX1_revenue_13 rfl)), m_aload⟩ (
  lkp_c (P := OkP 161) ⟨ok_cv (List.forall_mem_cons.mpr ⟨tg_F (ci := 7) (r := CLr 7) (y := 50) rfl ⟨rfl, by decide⟩ q712 q716 q718 q150 q720 q714 q713 q719 q717 q715 ⟨cn_37.1, cn_37.2, pd_50⟩ dX1_revenue_14, (List.forall_mem_cons.mpr ⟨tg_F (ci := 24) (r := CLr 24) (y := 86) rfl ⟨rfl, by decide⟩ q712 q722 q724 q168 q726 q714 q713 q725 q723 q721 ⟨cn_37.1, cn_37.2, pd_50⟩ dX1_revenue_14, (List.forall_mem_cons.mpr ⟨tg_F (ci := 25) (r := CLr 25) (y := 92) rfl ⟨rfl, by decide⟩ q712 q738 q740 q171 q742 q714 q713 q741 q739 q737 ⟨cn_37.1, cn_37.2, pd_50⟩ dX1_revenue_14, (List.forall_mem_nil _)⟩)⟩)⟩) hd_no, m_cv⟩ (
  lkp_c (P := OkP 161) ⟨(PuOK.ok (ok_if_eq dX1_revenue_19 rfl)), m_if⟩ (
  lkp_c (P := OkP 161) ⟨(PuOK.ok (ok_aload_n dX1_revenue_22 rfl)), m_aload⟩ (
  lkp_c (P := OkP 161) ⟨ok_cv (List.forall_mem_cons.mpr ⟨tg_F (ci := 7) (r := CLr 7) (y := 51) rfl ⟨rfl, by decide⟩ q744 q747 q749 q150 q751 q746 q745 q750 q748 q715 ⟨cn_37.1, cn_37.2, pd_71⟩ dX1_revenue_23, (List.forall_mem_cons.mpr ⟨tg_F (ci := 24) (r := CLr 24) (y := 89) rfl ⟨rfl, by decide⟩ q744 q756 q758 q169 q760 q746 q745 q759 q757 q721 ⟨cn_37.1, cn_37.2, pd_71⟩ dX1_revenue_23, (List.forall_mem_cons.mpr ⟨tg_F (ci := 25) (r := CLr 25) (y := 95) rfl ⟨rfl, by decide⟩ q744 q790 q792 q172 q794 q746 q745 q793 q791 q737 ⟨cn_37.1, cn_37.2, pd_71⟩ dX1_revenue_23, (List.forall_mem_nil _)⟩)⟩)⟩) hd_no, m_cv⟩ (
  lkp_c (P := OkP 161) ⟨ok_cast q804 cst_5 dX1_revenue_28, m_cast⟩ (
  lkp_c (P := OkP 161) ⟨(PuOK.ok (ok_astore dX1_revenue_31)), m_astore⟩ (
  lkp_c (P := OkP 161) ⟨(PuOK.ok (ok_lload_n dX1_revenue_33 rfl)), m_lload⟩ (
  lkp_c (P := OkP 161) ⟨(PuOK.ok (ok_aload dX1_revenue_34)), m_aload⟩ (
  lkp_c (P := OkP 161) ⟨ok_getN ⟨"TollRoad$Bill", "TollRoad", q2636, Or.inl rfl⟩ dX1_revenue_36, m_get⟩ (
  lkp_c (P := OkP 161) ⟨(PuOK.ok (ok_aload dX1_revenue_39)), m_aload⟩ (
  lkp_c (P := OkP 161) ⟨ok_getN ⟨"TollRoad$Bill", "TollRoad", q2653, Or.inl rfl⟩ dX1_revenue_41, m_get⟩ (
  lkp_c (P := OkP 161) ⟨(PuOK.ok (ok_isub dX1_revenue_44)), m_iop⟩ (
  lkp_c (P := OkP 161) ⟨(PuOK.ok (ok_i2l dX1_revenue_45)), m_i2l⟩ (
  lkp_c (P := OkP 161) ⟨(PuOK.ok (ok_ladd dX1_revenue_46)), m_lop⟩ (
  lkp_c (P := OkP 161) ⟨(PuOK.ok (ok_lstore_n dX1_revenue_47 rfl)), m_lstore⟩ (
  lkp_c (P := OkP 161) ⟨(PuOK.ok (ok_goto dX1_revenue_48 rfl)), m_goto⟩ (
  lkp_c (P := OkP 161) ⟨(PuOK.ok (ok_lload_n dX1_revenue_51 rfl)), m_lload⟩ (
  lkp_c (P := OkP 161) ⟨ok_lret rfl dX1_revenue_52, m_ret⟩ (
  trivial))))))))))))))))))))))))))
theorem mt_161 : MtOK TB NT IT 161 := ⟨by decide +kernel, rfl, (fun h => by cases h), Or.inl ⟨rfl, rfl⟩, rfl, by decide, lk2_all (P := OkP 161) ⟨c_161_0, trivial⟩⟩
def dkwX1_worstGantry_2 : List UInt8 := [184, 1, 159, 61, 132, 3, 1, 167, 255, 209, 27, 172]
abbrev dktX1_worstGantry_2 : List UInt8 := dkwX1_worstGantry_2 ++ []
def dkwX1_worstGantry_1 : List UInt8 := [29, 4, 182, 1, 145, 54, 4, 21, 4, 28, 164, 0, 7, 29, 167, 0, 4, 27, 60, 28, 21, 4]
abbrev dktX1_worstGantry_1 : List UInt8 := dkwX1_worstGantry_1 ++ dktX1_worstGantry_2
def dkwX1_worstGantry_0 : List UInt8 := [2, 60, 3, 61, 3, 62, 29, 42, 180, 0, 19, 180, 0, 37, 180, 0, 41, 162, 0, 39, 42, 180, 0, 19]
abbrev dktX1_worstGantry_0 : List UInt8 := dkwX1_worstGantry_0 ++ dktX1_worstGantry_1
theorem dksX1_worstGantry_0 : cX1_worstGantry.data.toList.drop 0 = dktX1_worstGantry_0 := by decide +kernel
theorem dksX1_worstGantry_1 : cX1_worstGantry.data.toList.drop 24 = dktX1_worstGantry_1 := dk_seg dksX1_worstGantry_0 24 rfl rfl
theorem dksX1_worstGantry_2 : cX1_worstGantry.data.toList.drop 46 = dktX1_worstGantry_2 := dk_seg dksX1_worstGantry_1 22 rfl rfl
theorem dX1_worstGantry_0 : decode cX1_worstGantry 0 = .ok (.iconst (-1), 1) := dk_2 (dk_at dksX1_worstGantry_0 0 rfl rfl)
theorem dX1_worstGantry_1 : decode cX1_worstGantry 1 = .ok (.istore_n 1, 1) := dk_60 (dk_at dksX1_worstGantry_0 1 rfl rfl)
theorem dX1_worstGantry_2 : decode cX1_worstGantry 2 = .ok (.iconst 0, 1) := dk_3 (dk_at dksX1_worstGantry_0 2 rfl rfl)
theorem dX1_worstGantry_3 : decode cX1_worstGantry 3 = .ok (.istore_n 2, 1) := dk_61 (dk_at dksX1_worstGantry_0 3 rfl rfl)
theorem dX1_worstGantry_4 : decode cX1_worstGantry 4 = .ok (.iconst 0, 1) := dk_3 (dk_at dksX1_worstGantry_0 4 rfl rfl)
theorem dX1_worstGantry_5 : decode cX1_worstGantry 5 = .ok (.istore_n 3, 1) := dk_62 (dk_at dksX1_worstGantry_0 5 rfl rfl)
theorem dX1_worstGantry_6 : decode cX1_worstGantry 6 = .ok (.iload_n 3, 1) := dk_29 (dk_at dksX1_worstGantry_0 6 rfl rfl)
theorem dX1_worstGantry_7 : decode cX1_worstGantry 7 = .ok (.aload_n 0, 1) := dk_42 (dk_at dksX1_worstGantry_0 7 rfl rfl)
theorem dX1_worstGantry_8 : decode cX1_worstGantry 8 = .ok (.getfield 19, 3) := dk_180 0 19 (dk_at dksX1_worstGantry_0 8 rfl rfl)
theorem dX1_worstGantry_11 : decode cX1_worstGantry 11 = .ok (.getfield 37, 3) := dk_180 0 37 (dk_at dksX1_worstGantry_0 11 rfl rfl)
theorem dX1_worstGantry_14 : decode cX1_worstGantry 14 = .ok (.getfield 41, 3) := dk_180 0 41 (dk_at dksX1_worstGantry_0 14 rfl rfl)
theorem dX1_worstGantry_17 : decode cX1_worstGantry 17 = .ok (.if_icmp .ge 39, 3) := dk_162 0 39 (dk_at dksX1_worstGantry_0 17 rfl rfl)
theorem dX1_worstGantry_20 : decode cX1_worstGantry 20 = .ok (.aload_n 0, 1) := dk_42 (dk_at dksX1_worstGantry_0 20 rfl rfl)
theorem dX1_worstGantry_21 : decode cX1_worstGantry 21 = .ok (.getfield 19, 3) := dk_180 0 19 (dk_at dksX1_worstGantry_0 21 rfl rfl)
theorem dX1_worstGantry_24 : decode cX1_worstGantry 24 = .ok (.iload_n 3, 1) := dk_29 (dk_at dksX1_worstGantry_1 0 rfl rfl)
theorem dX1_worstGantry_25 : decode cX1_worstGantry 25 = .ok (.iconst 1, 1) := dk_4 (dk_at dksX1_worstGantry_1 1 rfl rfl)
theorem dX1_worstGantry_26 : decode cX1_worstGantry 26 = .ok (.invokevirtual 401, 3) := dk_182 1 145 (dk_at dksX1_worstGantry_1 2 rfl rfl)
theorem dX1_worstGantry_29 : decode cX1_worstGantry 29 = .ok (.istore 4, 2) := dk_54 4 (dk_at dksX1_worstGantry_1 5 rfl rfl)
theorem dX1_worstGantry_31 : decode cX1_worstGantry 31 = .ok (.iload 4, 2) := dk_21 4 (dk_at dksX1_worstGantry_1 7 rfl rfl)
theorem dX1_worstGantry_33 : decode cX1_worstGantry 33 = .ok (.iload_n 2, 1) := dk_28 (dk_at dksX1_worstGantry_1 9 rfl rfl)
theorem dX1_worstGantry_34 : decode cX1_worstGantry 34 = .ok (.if_icmp .le 7, 3) := dk_164 0 7 (dk_at dksX1_worstGantry_1 10 rfl rfl)
theorem dX1_worstGantry_37 : decode cX1_worstGantry 37 = .ok (.iload_n 3, 1) := dk_29 (dk_at dksX1_worstGantry_1 13 rfl rfl)
theorem dX1_worstGantry_38 : decode cX1_worstGantry 38 = .ok (.goto 4, 3) := dk_167 0 4 (dk_at dksX1_worstGantry_1 14 rfl rfl)
theorem dX1_worstGantry_41 : decode cX1_worstGantry 41 = .ok (.iload_n 1, 1) := dk_27 (dk_at dksX1_worstGantry_1 17 rfl rfl)
theorem dX1_worstGantry_42 : decode cX1_worstGantry 42 = .ok (.istore_n 1, 1) := dk_60 (dk_at dksX1_worstGantry_1 18 rfl rfl)
theorem dX1_worstGantry_43 : decode cX1_worstGantry 43 = .ok (.iload_n 2, 1) := dk_28 (dk_at dksX1_worstGantry_1 19 rfl rfl)
theorem dX1_worstGantry_44 : decode cX1_worstGantry 44 = .ok (.iload 4, 2) := dk_21 4 (dk_at dksX1_worstGantry_1 20 rfl rfl)
theorem dX1_worstGantry_46 : decode cX1_worstGantry 46 = .ok (.invokestatic 415, 3) := dk_184 1 159 (dk_at dksX1_worstGantry_2 0 rfl rfl)
theorem dX1_worstGantry_49 : decode cX1_worstGantry 49 = .ok (.istore_n 2, 1) := dk_61 (dk_at dksX1_worstGantry_2 3 rfl rfl)
theorem dX1_worstGantry_50 : decode cX1_worstGantry 50 = .ok (.iinc 3 1, 3) := dk_132 3 1 (dk_at dksX1_worstGantry_2 4 rfl rfl)
theorem dX1_worstGantry_53 : decode cX1_worstGantry 53 = .ok (.goto (-47), 3) := dk_167 255 209 (dk_at dksX1_worstGantry_2 7 rfl rfl)
theorem dX1_worstGantry_56 : decode cX1_worstGantry 56 = .ok (.iload_n 1, 1) := dk_27 (dk_at dksX1_worstGantry_2 10 rfl rfl)
theorem dX1_worstGantry_57 : decode cX1_worstGantry 57 = .ok (.ireturn, 1) := dk_172 (dk_at dksX1_worstGantry_2 11 rfl rfl)
theorem c_162_0 : LkP (OkP 162) [(0, o_push 1 (.int (-1))), (1, o_istore 1 1), (2, o_push 1 (.int 0)), (3, o_istore 2 1), (4, o_push 1 (.int 0)), (5, o_istore 3 1), (6, o_iload 3 1), (7, o_aload 0 1), (8, o_get 0), (11, o_get 6), (14, o_get 15), (17, o_icmp (fun x y => decide (y ≤ x)) 56), (20, o_aload 0 1), (21, o_get 0), (24, o_iload 3 1), (25, o_push 1 (.int 1)), (26, o_cv [(1, 257)] 2 3 false none), (29, o_istore 4 2), (31, o_iload 4 2), (33, o_iload 2 1), (34, o_icmp (fun x y => decide (x ≤ y)) 41), (37, o_iload 3 1), (38, o_goto 42), (41, o_iload 1 1), (42, o_istore 1 1), (43, o_iload 2 1), (44, o_iload 4 2), (46, o_cs 6 2 false none), (49, o_istore 2 1), (50, o_iinc 3 1), (53, o_goto 6), (56, o_iload 1 1), (57, o_ret 1)] := lkp_c (P := OkP 162) ⟨(PuOK.ok (ok_iconst dX1_worstGantry_0 rfl)), m_push⟩ (
  lkp_c (P := OkP 162) ⟨(PuOK.ok (ok_istore_n dX1_worstGantry_1 rfl)), m_istore⟩ (
  lkp_c (P := OkP 162) ⟨(PuOK.ok (ok_iconst dX1_worstGantry_2 rfl)), m_push⟩ (
  lkp_c (P := OkP 162) ⟨(PuOK.ok (ok_istore_n dX1_worstGantry_3 rfl)), m_istore⟩ (
  lkp_c (P := OkP 162) ⟨(PuOK.ok (ok_iconst dX1_worstGantry_4 rfl)), m_push⟩ (
  lkp_c (P := OkP 162) ⟨(PuOK.ok (ok_istore_n dX1_worstGantry_5 rfl)), m_istore⟩ (
  lkp_c (P := OkP 162) ⟨(PuOK.ok (ok_iload_n dX1_worstGantry_6 rfl)), m_iload⟩ (
  lkp_c (P := OkP 162) ⟨(PuOK.ok (ok_aload_n dX1_worstGantry_7 rfl)), m_aload⟩ (
  lkp_c (P := OkP 162) ⟨ok_get ⟨"TollRoad", q664, Or.inl rfl⟩ dX1_worstGantry_8, m_get⟩ (
  lkp_c (P := OkP 162) ⟨ok_getN ⟨"TollRoad$World", "TollRoad", q627, Or.inl rfl⟩ dX1_worstGantry_11, m_get⟩ (
  lkp_c (P := OkP 162) ⟨ok_getN ⟨"TollRoad$Network", "TollRoad", q209, Or.inl rfl⟩ dX1_worstGantry_14, m_get⟩ (
  lkp_c (P := OkP 162) ⟨(PuOK.ok (ok_icmp_ge dX1_worstGantry_17 rfl)), m_icmp⟩ (
  lkp_c (P := OkP 162) ⟨(PuOK.ok (ok_aload_n dX1_worstGantry_20 rfl)), m_aload⟩ (
  lkp_c (P := OkP 162) ⟨ok_get ⟨"TollRoad", q664, Or.inl rfl⟩ dX1_worstGantry_21, m_get⟩ (
  lkp_c (P := OkP 162) ⟨(PuOK.ok (ok_iload_n dX1_worstGantry_24 rfl)), m_iload⟩ (
  lkp_c (P := OkP 162) ⟨(PuOK.ok (ok_iconst dX1_worstGantry_25 rfl)), m_push⟩ (
  lkp_c (P := OkP 162) ⟨ok_cv (List.forall_mem_cons.mpr ⟨tg_V (ci := 1) (r := CLr 1) (y := 257) rfl ⟨rfl, by decide⟩ rfl q809 q810 q811 q116 q812 ⟨cn_36.1, cn_36.2, pd_72⟩ dX1_worstGantry_26, (List.forall_mem_nil _)⟩) hd_no, m_cv⟩ (
  lkp_c (P := OkP 162) ⟨(PuOK.ok (ok_istore dX1_worstGantry_29)), m_istore⟩ (
  lkp_c (P := OkP 162) ⟨(PuOK.ok (ok_iload dX1_worstGantry_31)), m_iload⟩ (
  lkp_c (P := OkP 162) ⟨(PuOK.ok (ok_iload_n dX1_worstGantry_33 rfl)), m_iload⟩ (
  lkp_c (P := OkP 162) ⟨(PuOK.ok (ok_icmp_le dX1_worstGantry_34 rfl)), m_icmp⟩ (
  lkp_c (P := OkP 162) ⟨(PuOK.ok (ok_iload_n dX1_worstGantry_37 rfl)), m_iload⟩ (
  lkp_c (P := OkP 162) ⟨(PuOK.ok (ok_goto dX1_worstGantry_38 rfl)), m_goto⟩ (
  lkp_c (P := OkP 162) ⟨(PuOK.ok (ok_iload_n dX1_worstGantry_41 rfl)), m_iload⟩ (
  lkp_c (P := OkP 162) ⟨(PuOK.ok (ok_istore_n dX1_worstGantry_42 rfl)), m_istore⟩ (
  lkp_c (P := OkP 162) ⟨(PuOK.ok (ok_iload_n dX1_worstGantry_43 rfl)), m_iload⟩ (
  lkp_c (P := OkP 162) ⟨(PuOK.ok (ok_iload dX1_worstGantry_44)), m_iload⟩ (
  lkp_c (P := OkP 162) ⟨ok_cs (tg_S ⟨rfl, by decide⟩ q1246 q356 q130 q357 ⟨cn_1.1, cn_1.2, pd_1⟩ dX1_worstGantry_46) hd_no, m_cs⟩ (
  lkp_c (P := OkP 162) ⟨(PuOK.ok (ok_istore_n dX1_worstGantry_49 rfl)), m_istore⟩ (
  lkp_c (P := OkP 162) ⟨(PuOK.ok (ok_iinc dX1_worstGantry_50 rfl)), m_iinc⟩ (
  lkp_c (P := OkP 162) ⟨(PuOK.ok (ok_goto dX1_worstGantry_53 rfl)), m_goto⟩ (
  lkp_c (P := OkP 162) ⟨(PuOK.ok (ok_iload_n dX1_worstGantry_56 rfl)), m_iload⟩ (
  lkp_c (P := OkP 162) ⟨ok_iret rfl rfl (by decide) dX1_worstGantry_57, m_ret⟩ (
  trivial)))))))))))))))))))))))))))))))))
theorem mt_162 : MtOK TB NT IT 162 := ⟨by decide +kernel, rfl, (fun h => by cases h), Or.inl ⟨rfl, rfl⟩, rfl, by decide, lk2_all (P := OkP 162) ⟨c_162_0, trivial⟩⟩
def dkwX1_meanAmount_3 : List UInt8 := [180, 0, 165, 182, 0, 58, 135, 111, 175]
abbrev dktX1_meanAmount_3 : List UInt8 := dkwX1_meanAmount_3 ++ []
def dkwX1_meanAmount_2 : List UInt8 := [180, 0, 19, 180, 0, 165, 182, 1, 164, 153, 0, 9, 20, 1, 167, 167, 0, 17, 31, 138, 42, 180, 0, 19]
abbrev dktX1_meanAmount_2 : List UInt8 := dkwX1_meanAmount_2 ++ dktX1_meanAmount_3
def dkwX1_meanAmount_1 : List UInt8 := [185, 0, 156, 1, 0, 192, 0, 168, 58, 4, 31, 25, 4, 180, 1, 118, 133, 97, 64, 167, 255, 227, 42]
abbrev dktX1_meanAmount_1 : List UInt8 := dkwX1_meanAmount_1 ++ dktX1_meanAmount_2
def dkwX1_meanAmount_0 : List UInt8 := [9, 64, 42, 180, 0, 19, 180, 0, 165, 182, 0, 146, 78, 45, 185, 0, 150, 1, 0, 153, 0, 26, 45]
abbrev dktX1_meanAmount_0 : List UInt8 := dkwX1_meanAmount_0 ++ dktX1_meanAmount_1
theorem dksX1_meanAmount_0 : cX1_meanAmount.data.toList.drop 0 = dktX1_meanAmount_0 := by decide +kernel
theorem dksX1_meanAmount_1 : cX1_meanAmount.data.toList.drop 23 = dktX1_meanAmount_1 := dk_seg dksX1_meanAmount_0 23 rfl rfl
theorem dksX1_meanAmount_2 : cX1_meanAmount.data.toList.drop 46 = dktX1_meanAmount_2 := dk_seg dksX1_meanAmount_1 23 rfl rfl
theorem dksX1_meanAmount_3 : cX1_meanAmount.data.toList.drop 70 = dktX1_meanAmount_3 := dk_seg dksX1_meanAmount_2 24 rfl rfl
theorem dX1_meanAmount_0 : decode cX1_meanAmount 0 = .ok (.lconst 0, 1) := dk_9 (dk_at dksX1_meanAmount_0 0 rfl rfl)
theorem dX1_meanAmount_1 : decode cX1_meanAmount 1 = .ok (.lstore_n 1, 1) := dk_64 (dk_at dksX1_meanAmount_0 1 rfl rfl)
theorem dX1_meanAmount_2 : decode cX1_meanAmount 2 = .ok (.aload_n 0, 1) := dk_42 (dk_at dksX1_meanAmount_0 2 rfl rfl)
theorem dX1_meanAmount_3 : decode cX1_meanAmount 3 = .ok (.getfield 19, 3) := dk_180 0 19 (dk_at dksX1_meanAmount_0 3 rfl rfl)
theorem dX1_meanAmount_6 : decode cX1_meanAmount 6 = .ok (.getfield 165, 3) := dk_180 0 165 (dk_at dksX1_meanAmount_0 6 rfl rfl)
theorem dX1_meanAmount_9 : decode cX1_meanAmount 9 = .ok (.invokevirtual 146, 3) := dk_182 0 146 (dk_at dksX1_meanAmount_0 9 rfl rfl)
theorem dX1_meanAmount_12 : decode cX1_meanAmount 12 = .ok (.astore_n 3, 1) := dk_78 (dk_at dksX1_meanAmount_0 12 rfl rfl)
theorem dX1_meanAmount_13 : decode cX1_meanAmount 13 = .ok (.aload_n 3, 1) := dk_45 (dk_at dksX1_meanAmount_0 13 rfl rfl)
theorem dX1_meanAmount_14 : decode cX1_meanAmount 14 = .ok (.invokeinterface 150 1, 5) := by decide +kernel
theorem dX1_meanAmount_19 : decode cX1_meanAmount 19 = .ok (.ifCond .eq 26, 3) := dk_153 0 26 (dk_at dksX1_meanAmount_0 19 rfl rfl)
theorem dX1_meanAmount_22 : decode cX1_meanAmount 22 = .ok (.aload_n 3, 1) := dk_45 (dk_at dksX1_meanAmount_0 22 rfl rfl)
theorem dX1_meanAmount_23 : decode cX1_meanAmount 23 = .ok (.invokeinterface 156 1, 5) := by decide +kernel
theorem dX1_meanAmount_28 : decode cX1_meanAmount 28 = .ok (.checkcast 168, 3) := dk_192 0 168 (dk_at dksX1_meanAmount_1 5 rfl rfl)
theorem dX1_meanAmount_31 : decode cX1_meanAmount 31 = .ok (.astore 4, 2) := dk_58 4 (dk_at dksX1_meanAmount_1 8 rfl rfl)
theorem dX1_meanAmount_33 : decode cX1_meanAmount 33 = .ok (.lload_n 1, 1) := dk_31 (dk_at dksX1_meanAmount_1 10 rfl rfl)
theorem dX1_meanAmount_34 : decode cX1_meanAmount 34 = .ok (.aload 4, 2) := dk_25 4 (dk_at dksX1_meanAmount_1 11 rfl rfl)
theorem dX1_meanAmount_36 : decode cX1_meanAmount 36 = .ok (.getfield 374, 3) := dk_180 1 118 (dk_at dksX1_meanAmount_1 13 rfl rfl)
theorem dX1_meanAmount_39 : decode cX1_meanAmount 39 = .ok (.i2l, 1) := dk_133 (dk_at dksX1_meanAmount_1 16 rfl rfl)
theorem dX1_meanAmount_40 : decode cX1_meanAmount 40 = .ok (.ladd, 1) := dk_97 (dk_at dksX1_meanAmount_1 17 rfl rfl)
theorem dX1_meanAmount_41 : decode cX1_meanAmount 41 = .ok (.lstore_n 1, 1) := dk_64 (dk_at dksX1_meanAmount_1 18 rfl rfl)
theorem dX1_meanAmount_42 : decode cX1_meanAmount 42 = .ok (.goto (-29), 3) := dk_167 255 227 (dk_at dksX1_meanAmount_1 19 rfl rfl)
theorem dX1_meanAmount_45 : decode cX1_meanAmount 45 = .ok (.aload_n 0, 1) := dk_42 (dk_at dksX1_meanAmount_1 22 rfl rfl)
theorem dX1_meanAmount_46 : decode cX1_meanAmount 46 = .ok (.getfield 19, 3) := dk_180 0 19 (dk_at dksX1_meanAmount_2 0 rfl rfl)
theorem dX1_meanAmount_49 : decode cX1_meanAmount 49 = .ok (.getfield 165, 3) := dk_180 0 165 (dk_at dksX1_meanAmount_2 3 rfl rfl)
theorem dX1_meanAmount_52 : decode cX1_meanAmount 52 = .ok (.invokevirtual 420, 3) := dk_182 1 164 (dk_at dksX1_meanAmount_2 6 rfl rfl)
theorem dX1_meanAmount_55 : decode cX1_meanAmount 55 = .ok (.ifCond .eq 9, 3) := dk_153 0 9 (dk_at dksX1_meanAmount_2 9 rfl rfl)
theorem dX1_meanAmount_58 : decode cX1_meanAmount 58 = .ok (.ldc2_w 423, 3) := dk_20 1 167 (dk_at dksX1_meanAmount_2 12 rfl rfl)
theorem dX1_meanAmount_61 : decode cX1_meanAmount 61 = .ok (.goto 17, 3) := dk_167 0 17 (dk_at dksX1_meanAmount_2 15 rfl rfl)
theorem dX1_meanAmount_64 : decode cX1_meanAmount 64 = .ok (.lload_n 1, 1) := dk_31 (dk_at dksX1_meanAmount_2 18 rfl rfl)
theorem dX1_meanAmount_65 : decode cX1_meanAmount 65 = .ok (.l2d, 1) := dk_138 (dk_at dksX1_meanAmount_2 19 rfl rfl)
theorem dX1_meanAmount_66 : decode cX1_meanAmount 66 = .ok (.aload_n 0, 1) := dk_42 (dk_at dksX1_meanAmount_2 20 rfl rfl)
theorem dX1_meanAmount_67 : decode cX1_meanAmount 67 = .ok (.getfield 19, 3) := dk_180 0 19 (dk_at dksX1_meanAmount_2 21 rfl rfl)
theorem dX1_meanAmount_70 : decode cX1_meanAmount 70 = .ok (.getfield 165, 3) := dk_180 0 165 (dk_at dksX1_meanAmount_3 0 rfl rfl)
theorem dX1_meanAmount_73 : decode cX1_meanAmount 73 = .ok (.invokevirtual 58, 3) := dk_182 0 58 (dk_at dksX1_meanAmount_3 3 rfl rfl)
theorem dX1_meanAmount_76 : decode cX1_meanAmount 76 = .ok (.i2d, 1) := dk_135 (dk_at dksX1_meanAmount_3 6 rfl rfl)
theorem dX1_meanAmount_77 : decode cX1_meanAmount 77 = .ok (.ddiv, 1) := dk_111 (dk_at dksX1_meanAmount_3 7 rfl rfl)
theorem dX1_meanAmount_78 : decode cX1_meanAmount 78 = .ok (.dreturn, 1) := dk_175 (dk_at dksX1_meanAmount_3 8 rfl rfl)
theorem c_163_0 : LkP (OkP 163) [(0, o_push 1 (.long 0)), (1, o_lstore 1 1), (2, o_aload 0 1), (3, o_get 0), (6, o_get 12), (9, o_cv [(3, 40)] 0 3 false none), (12, o_astore 3 1), (13, o_aload 3 1), (14, o_cv [(7, 50), (24, 86), (25, 92)] 0 5 false none), (19, o_if (fun x => decide (x = 0)) 45), (22, o_aload 3 1), (23, o_cv [(7, 51), (24, 89), (25, 95)] 0 5 false none), (28, o_cast [27]), (31, o_astore 4 2), (33, o_lload 1 1), (34, o_aload 4 2), (36, o_get 135), (39, o_i2l), (40, o_lop (fun x y => x + y)), (41, o_lstore 1 1), (42, o_goto 13), (45, o_aload 0 1), (46, o_get 0), (49, o_get 12), (52, o_cv [(3, 41)] 0 3 false none), (55, o_if (fun x => decide (x = 0)) 64), (58, o_push 3 (.double 13830554455654793216)), (61, o_goto 78)] := lkp_c (P := OkP 163) ⟨(PuOK.ok (ok_lconst dX1_meanAmount_0 rfl)), m_push⟩ (
  lkp_c (P := OkP 163) ⟨(PuOK.ok (ok_lstore_n dX1_meanAmount_1 rfl)), m_lstore⟩ (
  lkp_c (P := OkP 163) ⟨(PuOK.ok (ok_aload_n dX1_meanAmount_2 rfl)), m_aload⟩ (
  lkp_c (P := OkP 163) ⟨ok_get ⟨"TollRoad", q664, Or.inl rfl⟩ dX1_meanAmount_3, m_get⟩ (
  lkp_c (P := OkP 163) ⟨ok_getN ⟨"TollRoad$World", "TollRoad", q644, Or.inl rfl⟩ dX1_meanAmount_6, m_get⟩ (
  lkp_c (P := OkP 163) ⟨ok_cv (List.forall_mem_cons.mpr ⟨tg_V (ci := 3) (r := CLr 3) (y := 40) rfl ⟨rfl, by decide⟩ rfl q688 q689 q690 q120 q691 ⟨cn_15.1, cn_15.2, pd_70⟩ dX1_meanAmount_9, (List.forall_mem_nil _)⟩) hd_no, m_cv⟩ (
  lkp_c (P := OkP 163) ⟨(PuOK.ok (ok_astore_n dX1_meanAmount_12 rfl)), m_astore⟩ (
  lkp_c (P := OkP 163) ⟨(PuOK.ok (ok_aload_n dX1_meanAmount_13 rfl)), m_aload⟩ (
  lkp_c (P := OkP 163) ⟨ok_cv (List.forall_mem_cons.mpr ⟨tg_F (ci := 7) (r := CLr 7) (y := 50) rfl ⟨rfl, by decide⟩ q712 q716 q718 q150 q720 q714 q713 q719 q717 q715 ⟨cn_37.1, cn_37.2, pd_50⟩ dX1_meanAmount_14, (List.forall_mem_cons.mpr ⟨tg_F (ci := 24) (r := CLr 24) (y := 86) rfl ⟨rfl, by decide⟩ q712 q722 q724 q168 q726 q714 q713 q725 q723 q721 ⟨cn_37.1, cn_37.2, pd_50⟩ dX1_meanAmount_14, (List.forall_mem_cons.mpr ⟨tg_F (ci := 25) (r := CLr 25) (y := 92) rfl ⟨rfl, by decide⟩ q712 q738 q740 q171 q742 q714 q713 q741 q739 q737 ⟨cn_37.1, cn_37.2, pd_50⟩ dX1_meanAmount_14, (List.forall_mem_nil _)⟩)⟩)⟩) hd_no, m_cv⟩ (
  lkp_c (P := OkP 163) ⟨(PuOK.ok (ok_if_eq dX1_meanAmount_19 rfl)), m_if⟩ (
  lkp_c (P := OkP 163) ⟨(PuOK.ok (ok_aload_n dX1_meanAmount_22 rfl)), m_aload⟩ (
  lkp_c (P := OkP 163) ⟨ok_cv (List.forall_mem_cons.mpr ⟨tg_F (ci := 7) (r := CLr 7) (y := 51) rfl ⟨rfl, by decide⟩ q744 q747 q749 q150 q751 q746 q745 q750 q748 q715 ⟨cn_37.1, cn_37.2, pd_71⟩ dX1_meanAmount_23, (List.forall_mem_cons.mpr ⟨tg_F (ci := 24) (r := CLr 24) (y := 89) rfl ⟨rfl, by decide⟩ q744 q756 q758 q169 q760 q746 q745 q759 q757 q721 ⟨cn_37.1, cn_37.2, pd_71⟩ dX1_meanAmount_23, (List.forall_mem_cons.mpr ⟨tg_F (ci := 25) (r := CLr 25) (y := 95) rfl ⟨rfl, by decide⟩ q744 q790 q792 q172 q794 q746 q745 q793 q791 q737 ⟨cn_37.1, cn_37.2, pd_71⟩ dX1_meanAmount_23, (List.forall_mem_nil _)⟩)⟩)⟩) hd_no, m_cv⟩ (
  lkp_c (P := OkP 163) ⟨ok_cast q804 cst_5 dX1_meanAmount_28, m_cast⟩ (
  lkp_c (P := OkP 163) ⟨(PuOK.ok (ok_astore dX1_meanAmount_31)), m_astore⟩ (
  lkp_c (P := OkP 163) ⟨(PuOK.ok (ok_lload_n dX1_meanAmount_33 rfl)), m_lload⟩ (
  lkp_c (P := OkP 163) ⟨(PuOK.ok (ok_aload dX1_meanAmount_34)), m_aload⟩ (
  lkp_c (P := OkP 163) ⟨ok_getN ⟨"TollRoad$Bill", "TollRoad", q2636, Or.inl rfl⟩ dX1_meanAmount_36, m_get⟩ (
  lkp_c (P := OkP 163) ⟨(PuOK.ok (ok_i2l dX1_meanAmount_39)), m_i2l⟩ (
  lkp_c (P := OkP 163) ⟨(PuOK.ok (ok_ladd dX1_meanAmount_40)), m_lop⟩ (
  lkp_c (P := OkP 163) ⟨(PuOK.ok (ok_lstore_n dX1_meanAmount_41 rfl)), m_lstore⟩ (
  lkp_c (P := OkP 163) ⟨(PuOK.ok (ok_goto dX1_meanAmount_42 rfl)), m_goto⟩ (
  lkp_c (P := OkP 163) ⟨(PuOK.ok (ok_aload_n dX1_meanAmount_45 rfl)), m_aload⟩ (
  lkp_c (P := OkP 163) ⟨ok_get ⟨"TollRoad", q664, Or.inl rfl⟩ dX1_meanAmount_46, m_get⟩ (
  lkp_c (P := OkP 163) ⟨ok_getN ⟨"TollRoad$World", "TollRoad", q644, Or.inl rfl⟩ dX1_meanAmount_49, m_get⟩ (
  lkp_c (P := OkP 163) ⟨ok_cv (List.forall_mem_cons.mpr ⟨tg_V (ci := 3) (r := CLr 3) (y := 41) rfl ⟨rfl, by decide⟩ rfl q1251 q1252 q1253 q120 q1254 ⟨cn_15.1, cn_15.2, pd_50⟩ dX1_meanAmount_52, (List.forall_mem_nil _)⟩) hd_no, m_cv⟩ (
  lkp_c (P := OkP 163) ⟨(PuOK.ok (ok_if_eq dX1_meanAmount_55 rfl)), m_if⟩ (
  lkp_c (P := OkP 163) ⟨(PuOK.ok (ok_ldc2d q1255 dX1_meanAmount_58)), m_push⟩ (
  lkp_c (P := OkP 163) ⟨(PuOK.ok (ok_goto dX1_meanAmount_61 rfl)), m_goto⟩ (
  trivial))))))))))))))))))))))))))))
theorem c_163_1 : LkP (OkP 163) [(64, o_lload 1 1), (65, o_l2d), (66, o_aload 0 1), (67, o_get 0), (70, o_get 12), (73, o_cv [(3, 42)] 0 3 false none), (76, o_i2d), (77, o_ddiv), (78, o_ret 4)] := lkp_c (P := OkP 163) ⟨(PuOK.ok (ok_lload_n dX1_meanAmount_64 rfl)), m_lload⟩ (
  lkp_c (P := OkP 163) ⟨(PuOK.ok (ok_l2d dX1_meanAmount_65)), m_l2d⟩ (
  lkp_c (P := OkP 163) ⟨(PuOK.ok (ok_aload_n dX1_meanAmount_66 rfl)), m_aload⟩ (
  lkp_c (P := OkP 163) ⟨ok_get ⟨"TollRoad", q664, Or.inl rfl⟩ dX1_meanAmount_67, m_get⟩ (
  lkp_c (P := OkP 163) ⟨ok_getN ⟨"TollRoad$World", "TollRoad", q644, Or.inl rfl⟩ dX1_meanAmount_70, m_get⟩ (
  lkp_c (P := OkP 163) ⟨ok_cv (List.forall_mem_cons.mpr ⟨tg_V (ci := 3) (r := CLr 3) (y := 42) rfl ⟨rfl, by decide⟩ rfl q1256 q1257 q1258 q120 q1259 ⟨cn_15.1, cn_15.2, pd_13⟩ dX1_meanAmount_73, (List.forall_mem_nil _)⟩) hd_no, m_cv⟩ (
  lkp_c (P := OkP 163) ⟨(PuOK.ok (ok_i2d dX1_meanAmount_76)), m_i2d⟩ (
  lkp_c (P := OkP 163) ⟨(PuOK.ok (ok_ddiv dX1_meanAmount_77)), m_ddiv⟩ (
  lkp_c (P := OkP 163) ⟨ok_dret rfl dX1_meanAmount_78, m_ret⟩ (
  trivial)))))))))
theorem mt_163 : MtOK TB NT IT 163 := ⟨by decide +kernel, rfl, (fun h => by cases h), Or.inl ⟨rfl, rfl⟩, rfl, by decide, lk2_all (P := OkP 163) ⟨c_163_0, c_163_1, trivial⟩⟩
def dkwX1_load_2 : List UInt8 := [180, 1, 208, 181, 1, 197, 42, 44, 180, 1, 211, 181, 0, 33, 2, 172]
abbrev dktX1_load_2 : List UInt8 := dkwX1_load_2 ++ []
def dkwX1_load_1 : List UInt8 := [2, 181, 0, 33, 43, 182, 1, 200, 61, 42, 43, 180, 1, 203, 181, 0, 19, 28, 172, 77, 42, 44]
abbrev dktX1_load_1 : List UInt8 := dkwX1_load_1 ++ dktX1_load_2
def dkwX1_load_0 : List UInt8 := [187, 1, 192, 89, 42, 42, 180, 1, 189, 183, 1, 194, 76, 42, 3, 181, 1, 189, 42, 3, 181, 1, 197, 42]
abbrev dktX1_load_0 : List UInt8 := dkwX1_load_0 ++ dktX1_load_1
theorem dksX1_load_0 : cX1_load.data.toList.drop 0 = dktX1_load_0 := by decide +kernel
theorem dksX1_load_1 : cX1_load.data.toList.drop 24 = dktX1_load_1 := dk_seg dksX1_load_0 24 rfl rfl
theorem dksX1_load_2 : cX1_load.data.toList.drop 46 = dktX1_load_2 := dk_seg dksX1_load_1 22 rfl rfl
theorem dX1_load_0 : decode cX1_load 0 = .ok (.new 448, 3) := dk_187 1 192 (dk_at dksX1_load_0 0 rfl rfl)
theorem dX1_load_3 : decode cX1_load 3 = .ok (.dup, 1) := dk_89 (dk_at dksX1_load_0 3 rfl rfl)
theorem dX1_load_4 : decode cX1_load 4 = .ok (.aload_n 0, 1) := dk_42 (dk_at dksX1_load_0 4 rfl rfl)
theorem dX1_load_5 : decode cX1_load 5 = .ok (.aload_n 0, 1) := dk_42 (dk_at dksX1_load_0 5 rfl rfl)
theorem dX1_load_6 : decode cX1_load 6 = .ok (.getfield 445, 3) := dk_180 1 189 (dk_at dksX1_load_0 6 rfl rfl)
theorem dX1_load_9 : decode cX1_load 9 = .ok (.invokespecial 450, 3) := dk_183 1 194 (dk_at dksX1_load_0 9 rfl rfl)
theorem dX1_load_12 : decode cX1_load 12 = .ok (.astore_n 1, 1) := dk_76 (dk_at dksX1_load_0 12 rfl rfl)
theorem dX1_load_13 : decode cX1_load 13 = .ok (.aload_n 0, 1) := dk_42 (dk_at dksX1_load_0 13 rfl rfl)
theorem dX1_load_14 : decode cX1_load 14 = .ok (.iconst 0, 1) := dk_3 (dk_at dksX1_load_0 14 rfl rfl)
theorem dX1_load_15 : decode cX1_load 15 = .ok (.putfield 445, 3) := dk_181 1 189 (dk_at dksX1_load_0 15 rfl rfl)
theorem dX1_load_18 : decode cX1_load 18 = .ok (.aload_n 0, 1) := dk_42 (dk_at dksX1_load_0 18 rfl rfl)
theorem dX1_load_19 : decode cX1_load 19 = .ok (.iconst 0, 1) := dk_3 (dk_at dksX1_load_0 19 rfl rfl)
theorem dX1_load_20 : decode cX1_load 20 = .ok (.putfield 453, 3) := dk_181 1 197 (dk_at dksX1_load_0 20 rfl rfl)
theorem dX1_load_23 : decode cX1_load 23 = .ok (.aload_n 0, 1) := dk_42 (dk_at dksX1_load_0 23 rfl rfl)
theorem dX1_load_24 : decode cX1_load 24 = .ok (.iconst (-1), 1) := dk_2 (dk_at dksX1_load_1 0 rfl rfl)
theorem dX1_load_25 : decode cX1_load 25 = .ok (.putfield 33, 3) := dk_181 0 33 (dk_at dksX1_load_1 1 rfl rfl)
theorem dX1_load_28 : decode cX1_load 28 = .ok (.aload_n 1, 1) := dk_43 (dk_at dksX1_load_1 4 rfl rfl)
theorem dX1_load_29 : decode cX1_load 29 = .ok (.invokevirtual 456, 3) := dk_182 1 200 (dk_at dksX1_load_1 5 rfl rfl)
theorem dX1_load_32 : decode cX1_load 32 = .ok (.istore_n 2, 1) := dk_61 (dk_at dksX1_load_1 8 rfl rfl)
theorem dX1_load_33 : decode cX1_load 33 = .ok (.aload_n 0, 1) := dk_42 (dk_at dksX1_load_1 9 rfl rfl)
theorem dX1_load_34 : decode cX1_load 34 = .ok (.aload_n 1, 1) := dk_43 (dk_at dksX1_load_1 10 rfl rfl)
theorem dX1_load_35 : decode cX1_load 35 = .ok (.getfield 459, 3) := dk_180 1 203 (dk_at dksX1_load_1 11 rfl rfl)
theorem dX1_load_38 : decode cX1_load 38 = .ok (.putfield 19, 3) := dk_181 0 19 (dk_at dksX1_load_1 14 rfl rfl)
theorem dX1_load_41 : decode cX1_load 41 = .ok (.iload_n 2, 1) := dk_28 (dk_at dksX1_load_1 17 rfl rfl)
theorem dX1_load_42 : decode cX1_load 42 = .ok (.ireturn, 1) := dk_172 (dk_at dksX1_load_1 18 rfl rfl)
theorem dX1_load_43 : decode cX1_load 43 = .ok (.astore_n 2, 1) := dk_77 (dk_at dksX1_load_1 19 rfl rfl)
theorem dX1_load_44 : decode cX1_load 44 = .ok (.aload_n 0, 1) := dk_42 (dk_at dksX1_load_1 20 rfl rfl)
theorem dX1_load_45 : decode cX1_load 45 = .ok (.aload_n 2, 1) := dk_44 (dk_at dksX1_load_1 21 rfl rfl)
theorem dX1_load_46 : decode cX1_load 46 = .ok (.getfield 464, 3) := dk_180 1 208 (dk_at dksX1_load_2 0 rfl rfl)
theorem dX1_load_49 : decode cX1_load 49 = .ok (.putfield 453, 3) := dk_181 1 197 (dk_at dksX1_load_2 3 rfl rfl)
theorem dX1_load_52 : decode cX1_load 52 = .ok (.aload_n 0, 1) := dk_42 (dk_at dksX1_load_2 6 rfl rfl)
theorem dX1_load_53 : decode cX1_load 53 = .ok (.aload_n 2, 1) := dk_44 (dk_at dksX1_load_2 7 rfl rfl)
theorem dX1_load_54 : decode cX1_load 54 = .ok (.getfield 467, 3) := dk_180 1 211 (dk_at dksX1_load_2 8 rfl rfl)
theorem dX1_load_57 : decode cX1_load 57 = .ok (.putfield 33, 3) := dk_181 0 33 (dk_at dksX1_load_2 11 rfl rfl)
theorem dX1_load_60 : decode cX1_load 60 = .ok (.iconst (-1), 1) := dk_2 (dk_at dksX1_load_2 14 rfl rfl)
theorem dX1_load_61 : decode cX1_load 61 = .ok (.ireturn, 1) := dk_172 (dk_at dksX1_load_2 15 rfl rfl)
theorem c_164_0 : LkP (OkP 164) [(0, o_new 9 9 dv9), (3, o_dup), (4, o_aload 0 1), (5, o_aload 0 1), (6, o_get 3), (9, o_ci 407 2), (12, o_astore 1 1), (13, o_aload 0 1), (14, o_push 1 (.int 0)), (15, o_put 3 1), (18, o_aload 0 1), (19, o_push 1 (.int 0)), (20, o_put 4 1), (23, o_aload 0 1), (24, o_push 1 (.int (-1))), (25, o_put 5 1), (28, o_aload 1 1), (29, o_cv [(9, 410)] 0 3 false (some [(10, 43)])), (32, o_istore 2 1), (33, o_aload 0 1), (34, o_aload 1 1), (35, o_get 44), (38, o_put 0 0), (41, o_iload 2 1), (42, o_ret 1), (43, o_astore 2 1), (44, o_aload 0 1), (45, o_aload 2 1), (46, o_get 58), (49, o_put 4 1), (52, o_aload 0 1), (53, o_aload 2 1), (54, o_get 59), (57, o_put 5 1), (60, o_push 1 (.int (-1))), (61, o_ret 1)] := lkp_c (P := OkP 164) ⟨ok_new (ci := 9) (r := CLr 9) rfl dvok_9 q1265 q1266 q141 dX1_load_0, m_new⟩ (
  lkp_c (P := OkP 164) ⟨(PuOK.ok (ok_dup dX1_load_3)), m_dup⟩ (
  lkp_c (P := OkP 164) ⟨(PuOK.ok (ok_aload_n dX1_load_4 rfl)), m_aload⟩ (
  lkp_c (P := OkP 164) ⟨(PuOK.ok (ok_aload_n dX1_load_5 rfl)), m_aload⟩ (
  lkp_c (P := OkP 164) ⟨ok_get ⟨"TollRoad", q668, Or.inl rfl⟩ dX1_load_6, m_get⟩ (
  lkp_c (P := OkP 164) ⟨ok_ci (tg_I (rt := none) ⟨rfl, by decide⟩ rfl q1267 q1268 q141 q1269 ⟨cn_38.1, cn_38.2, pd_73⟩ dX1_load_9) (hd_no2 (by decide +kernel)), m_ci⟩ (
  lkp_c (P := OkP 164) ⟨(PuOK.ok (ok_astore_n dX1_load_12 rfl)), m_astore⟩ (
  lkp_c (P := OkP 164) ⟨(PuOK.ok (ok_aload_n dX1_load_13 rfl)), m_aload⟩ (
  lkp_c (P := OkP 164) ⟨(PuOK.ok (ok_iconst dX1_load_14 rfl)), m_push⟩ (
  lkp_c (P := OkP 164) ⟨ok_put ⟨"TollRoad", q668, Or.inl rfl⟩ rfl fd_3 rfl dX1_load_15, m_put⟩ (
  lkp_c (P := OkP 164) ⟨(PuOK.ok (ok_aload_n dX1_load_18 rfl)), m_aload⟩ (
  lkp_c (P := OkP 164) ⟨(PuOK.ok (ok_iconst dX1_load_19 rfl)), m_push⟩ (
  lkp_c (P := OkP 164) ⟨ok_put ⟨"TollRoad", q669, Or.inl rfl⟩ rfl fd_4 rfl dX1_load_20, m_put⟩ (
  lkp_c (P := OkP 164) ⟨(PuOK.ok (ok_aload_n dX1_load_23 rfl)), m_aload⟩ (
  lkp_c (P := OkP 164) ⟨(PuOK.ok (ok_iconst dX1_load_24 rfl)), m_push⟩ (
  lkp_c (P := OkP 164) ⟨ok_put ⟨"TollRoad", q670, Or.inl rfl⟩ rfl fd_5 rfl dX1_load_25, m_put⟩ (
  lkp_c (P := OkP 164) ⟨(PuOK.ok (ok_aload_n dX1_load_28 rfl)), m_aload⟩ (
  lkp_c (P := OkP 164) ⟨ok_cv (List.forall_mem_cons.mpr ⟨tg_V (ci := 9) (r := CLr 9) (y := 410) rfl ⟨rfl, by decide⟩ rfl q1367 q1368 q1369 q141 q1370 ⟨cn_38.1, cn_38.2, pd_13⟩ dX1_load_29, (List.forall_mem_nil _)⟩) (hd_cons (r := CLr 10) (k := 0) (x := ⟨28, 42, 43, 462⟩) rfl rfl (List.forall_mem_nil _) (by decide +kernel) (by decide) q1264 q1381 rfl hd_nil), m_cv⟩ (
  lkp_c (P := OkP 164) ⟨(PuOK.ok (ok_istore_n dX1_load_32 rfl)), m_istore⟩ (
  lkp_c (P := OkP 164) ⟨(PuOK.ok (ok_aload_n dX1_load_33 rfl)), m_aload⟩ (
  lkp_c (P := OkP 164) ⟨(PuOK.ok (ok_aload_n dX1_load_34 rfl)), m_aload⟩ (
  lkp_c (P := OkP 164) ⟨ok_getN ⟨"TollRoad$Parser", "TollRoad", q1340, Or.inl rfl⟩ dX1_load_35, m_get⟩ (
  lkp_c (P := OkP 164) ⟨ok_put ⟨"TollRoad", q664, Or.inl rfl⟩ rfl fd_0 rfl dX1_load_38, m_put⟩ (
  lkp_c (P := OkP 164) ⟨(PuOK.ok (ok_iload_n dX1_load_41 rfl)), m_iload⟩ (
  lkp_c (P := OkP 164) ⟨ok_iret rfl rfl (by decide) dX1_load_42, m_ret⟩ (
  lkp_c (P := OkP 164) ⟨(PuOK.ok (ok_astore_n dX1_load_43 rfl)), m_astore⟩ (
  lkp_c (P := OkP 164) ⟨(PuOK.ok (ok_aload_n dX1_load_44 rfl)), m_aload⟩ (
  lkp_c (P := OkP 164) ⟨(PuOK.ok (ok_aload_n dX1_load_45 rfl)), m_aload⟩ (
  lkp_c (P := OkP 164) ⟨ok_getN ⟨"TollRoad$TextError", "TollRoad", q1398, Or.inl rfl⟩ dX1_load_46, m_get⟩ (
  lkp_c (P := OkP 164) ⟨ok_put ⟨"TollRoad", q669, Or.inl rfl⟩ rfl fd_4 rfl dX1_load_49, m_put⟩ (
  lkp_c (P := OkP 164) ⟨(PuOK.ok (ok_aload_n dX1_load_52 rfl)), m_aload⟩ (
  lkp_c (P := OkP 164) ⟨(PuOK.ok (ok_aload_n dX1_load_53 rfl)), m_aload⟩ (
  lkp_c (P := OkP 164) ⟨ok_getN ⟨"TollRoad$TextError", "TollRoad", q1400, Or.inl rfl⟩ dX1_load_54, m_get⟩ (
  lkp_c (P := OkP 164) ⟨ok_put ⟨"TollRoad", q670, Or.inl rfl⟩ rfl fd_5 rfl dX1_load_57, m_put⟩ (
  lkp_c (P := OkP 164) ⟨(PuOK.ok (ok_iconst dX1_load_60 rfl)), m_push⟩ (
  lkp_c (P := OkP 164) ⟨ok_iret rfl rfl (by decide) dX1_load_61, m_ret⟩ (
  trivial))))))))))))))))))))))))))))))))))))
theorem mt_164 : MtOK TB NT IT 164 := ⟨by decide +kernel, rfl, (fun h => by cases h), Or.inr rfl, rfl, by decide, lk2_all (P := OkP 164) ⟨c_164_0, trivial⟩⟩
def dkwX1_isBetween_0 : List UInt8 := [30, 32, 148, 155, 0, 14, 30, 22, 4, 148, 157, 0, 7, 4, 167, 0, 4, 3, 172]
abbrev dktX1_isBetween_0 : List UInt8 := dkwX1_isBetween_0 ++ []
theorem dksX1_isBetween_0 : cX1_isBetween.data.toList.drop 0 = dktX1_isBetween_0 := by decide +kernel
theorem dX1_isBetween_0 : decode cX1_isBetween 0 = .ok (.lload_n 0, 1) := dk_30 (dk_at dksX1_isBetween_0 0 rfl rfl)
theorem dX1_isBetween_1 : decode cX1_isBetween 1 = .ok (.lload_n 2, 1) := dk_32 (dk_at dksX1_isBetween_0 1 rfl rfl)
theorem dX1_isBetween_2 : decode cX1_isBetween 2 = .ok (.lcmp, 1) := dk_148 (dk_at dksX1_isBetween_0 2 rfl rfl)
theorem dX1_isBetween_3 : decode cX1_isBetween 3 = .ok (.ifCond .lt 14, 3) := dk_155 0 14 (dk_at dksX1_isBetween_0 3 rfl rfl)
theorem dX1_isBetween_6 : decode cX1_isBetween 6 = .ok (.lload_n 0, 1) := dk_30 (dk_at dksX1_isBetween_0 6 rfl rfl)
theorem dX1_isBetween_7 : decode cX1_isBetween 7 = .ok (.lload 4, 2) := dk_22 4 (dk_at dksX1_isBetween_0 7 rfl rfl)
theorem dX1_isBetween_9 : decode cX1_isBetween 9 = .ok (.lcmp, 1) := dk_148 (dk_at dksX1_isBetween_0 9 rfl rfl)
theorem dX1_isBetween_10 : decode cX1_isBetween 10 = .ok (.ifCond .gt 7, 3) := dk_157 0 7 (dk_at dksX1_isBetween_0 10 rfl rfl)
theorem dX1_isBetween_13 : decode cX1_isBetween 13 = .ok (.iconst 1, 1) := dk_4 (dk_at dksX1_isBetween_0 13 rfl rfl)
theorem dX1_isBetween_14 : decode cX1_isBetween 14 = .ok (.goto 4, 3) := dk_167 0 4 (dk_at dksX1_isBetween_0 14 rfl rfl)
theorem dX1_isBetween_17 : decode cX1_isBetween 17 = .ok (.iconst 0, 1) := dk_3 (dk_at dksX1_isBetween_0 17 rfl rfl)
theorem dX1_isBetween_18 : decode cX1_isBetween 18 = .ok (.ireturn, 1) := dk_172 (dk_at dksX1_isBetween_0 18 rfl rfl)
theorem c_165_0 : LkP (OkP 165) [(0, o_lload 0 1), (1, o_lload 2 1), (2, o_lcmp), (3, o_if (fun x => decide (x < 0)) 17), (6, o_lload 0 1), (7, o_lload 4 2), (9, o_lcmp), (10, o_if (fun x => decide (0 < x)) 17), (13, o_push 1 (.int 1)), (14, o_goto 18), (17, o_push 1 (.int 0)), (18, o_ret 5)] := lkp_c (P := OkP 165) ⟨(PuOK.ok (ok_lload_n dX1_isBetween_0 rfl)), m_lload⟩ (
  lkp_c (P := OkP 165) ⟨(PuOK.ok (ok_lload_n dX1_isBetween_1 rfl)), m_lload⟩ (
  lkp_c (P := OkP 165) ⟨(PuOK.ok (ok_lcmp dX1_isBetween_2)), m_lcmp⟩ (
  lkp_c (P := OkP 165) ⟨(PuOK.ok (ok_if_lt dX1_isBetween_3 rfl)), m_if⟩ (
  lkp_c (P := OkP 165) ⟨(PuOK.ok (ok_lload_n dX1_isBetween_6 rfl)), m_lload⟩ (
  lkp_c (P := OkP 165) ⟨(PuOK.ok (ok_lload dX1_isBetween_7)), m_lload⟩ (
  lkp_c (P := OkP 165) ⟨(PuOK.ok (ok_lcmp dX1_isBetween_9)), m_lcmp⟩ (
  lkp_c (P := OkP 165) ⟨(PuOK.ok (ok_if_gt dX1_isBetween_10 rfl)), m_if⟩ (
  lkp_c (P := OkP 165) ⟨(PuOK.ok (ok_iconst dX1_isBetween_13 rfl)), m_push⟩ (
  lkp_c (P := OkP 165) ⟨(PuOK.ok (ok_goto dX1_isBetween_14 rfl)), m_goto⟩ (
  lkp_c (P := OkP 165) ⟨(PuOK.ok (ok_iconst dX1_isBetween_17 rfl)), m_push⟩ (
  lkp_c (P := OkP 165) ⟨ok_iret rfl rfl (by decide) dX1_isBetween_18, m_ret⟩ (
  trivial))))))))))))
theorem mt_165 : MtOK TB NT IT 165 := ⟨by decide +kernel, rfl, (fun h => by cases h), Or.inl ⟨rfl, rfl⟩, rfl, by decide, lk2_all (P := OkP 165) ⟨c_165_0, trivial⟩⟩
def dkwX1_wordOf_7 : List UInt8 := [3, 167, 0, 20, 4, 167, 0, 16, 5, 167, 0, 12, 6, 167, 0, 8, 7, 167, 0, 4, 2, 172]
abbrev dktX1_wordOf_7 : List UInt8 := dkwX1_wordOf_7 ++ []
def dkwX1_wordOf_6 : List UInt8 := [170, 0, 0, 0, 0, 0, 55, 0, 0, 0, 0, 0, 0, 0, 4, 0, 0, 0, 35, 0, 0, 0, 39, 0, 0, 0, 43, 0, 0, 0, 47, 0, 0, 0, 51]
abbrev dktX1_wordOf_6 : List UInt8 := dkwX1_wordOf_6 ++ dktX1_wordOf_7
def dkwX1_wordOf_5 : List UInt8 := [7, 61, 28]
abbrev dktX1_wordOf_5 : List UInt8 := dkwX1_wordOf_5 ++ dktX1_wordOf_6
def dkwX1_wordOf_4 : List UInt8 := [19, 1, 186, 182, 1, 181, 153, 0, 20, 6, 61, 167, 0, 15, 43, 19, 1, 187, 182, 1, 181, 153, 0, 5]
abbrev dktX1_wordOf_4 : List UInt8 := dkwX1_wordOf_4 ++ dktX1_wordOf_5
def dkwX1_wordOf_3 : List UInt8 := [153, 0, 50, 4, 61, 167, 0, 45, 43, 19, 1, 185, 182, 1, 181, 153, 0, 35, 5, 61, 167, 0, 30, 43]
abbrev dktX1_wordOf_3 : List UInt8 := dkwX1_wordOf_3 ++ dktX1_wordOf_4
def dkwX1_wordOf_2 : List UInt8 := [43, 19, 1, 180, 182, 1, 181, 153, 0, 65, 3, 61, 167, 0, 60, 43, 19, 1, 184, 182, 1, 181]
abbrev dktX1_wordOf_2 : List UInt8 := dkwX1_wordOf_2 ++ dktX1_wordOf_3
def dkwX1_wordOf_1 : List UInt8 := [171, 0, 0, 0, 0, 0, 123, 0, 0, 0, 5, 181, 77, 210, 103, 0, 0, 0, 51, 185, 211, 138, 45, 0, 0, 0, 81, 0, 1, 188, 98, 0, 0, 0, 111, 0, 53, 127, 32, 0, 0, 0, 66, 20, 99, 143, 44, 0, 0, 0, 96]
abbrev dktX1_wordOf_1 : List UInt8 := dkwX1_wordOf_1 ++ dktX1_wordOf_2
def dkwX1_wordOf_0 : List UInt8 := [42, 185, 1, 169, 1, 0, 76, 2, 61, 43, 182, 1, 175]
abbrev dktX1_wordOf_0 : List UInt8 := dkwX1_wordOf_0 ++ dktX1_wordOf_1
theorem dksX1_wordOf_0 : cX1_wordOf.data.toList.drop 0 = dktX1_wordOf_0 := by decide +kernel
theorem dksX1_wordOf_1 : cX1_wordOf.data.toList.drop 13 = dktX1_wordOf_1 := dk_seg dksX1_wordOf_0 13 rfl rfl
theorem dksX1_wordOf_2 : cX1_wordOf.data.toList.drop 64 = dktX1_wordOf_2 := dk_seg dksX1_wordOf_1 51 rfl rfl
theorem dksX1_wordOf_3 : cX1_wordOf.data.toList.drop 86 = dktX1_wordOf_3 := dk_seg dksX1_wordOf_2 22 rfl rfl
theorem dksX1_wordOf_4 : cX1_wordOf.data.toList.drop 110 = dktX1_wordOf_4 := dk_seg dksX1_wordOf_3 24 rfl rfl
theorem dksX1_wordOf_5 : cX1_wordOf.data.toList.drop 134 = dktX1_wordOf_5 := dk_seg dksX1_wordOf_4 24 rfl rfl
theorem dksX1_wordOf_6 : cX1_wordOf.data.toList.drop 137 = dktX1_wordOf_6 := dk_seg dksX1_wordOf_5 3 rfl rfl
theorem dksX1_wordOf_7 : cX1_wordOf.data.toList.drop 172 = dktX1_wordOf_7 := dk_seg dksX1_wordOf_6 35 rfl rfl
theorem dX1_wordOf_0 : decode cX1_wordOf 0 = .ok (.aload_n 0, 1) := dk_42 (dk_at dksX1_wordOf_0 0 rfl rfl)
theorem dX1_wordOf_1 : decode cX1_wordOf 1 = .ok (.invokeinterface 425 1, 5) := by decide +kernel
theorem dX1_wordOf_6 : decode cX1_wordOf 6 = .ok (.astore_n 1, 1) := dk_76 (dk_at dksX1_wordOf_0 6 rfl rfl)
theorem dX1_wordOf_7 : decode cX1_wordOf 7 = .ok (.iconst (-1), 1) := dk_2 (dk_at dksX1_wordOf_0 7 rfl rfl)
theorem dX1_wordOf_8 : decode cX1_wordOf 8 = .ok (.istore_n 2, 1) := dk_61 (dk_at dksX1_wordOf_0 8 rfl rfl)
theorem dX1_wordOf_9 : decode cX1_wordOf 9 = .ok (.aload_n 1, 1) := dk_43 (dk_at dksX1_wordOf_0 9 rfl rfl)
theorem dX1_wordOf_10 : decode cX1_wordOf 10 = .ok (.invokevirtual 431, 3) := dk_182 1 175 (dk_at dksX1_wordOf_0 10 rfl rfl)
theorem dX1_wordOf_13 : decode cX1_wordOf 13 = .ok (.lookupswitch 123 #[(-1253191065, 51), (-1177318867, 81), (113762, 111), (3505952, 66), (342069036, 96)], 51) := by decide +kernel
theorem dX1_wordOf_64 : decode cX1_wordOf 64 = .ok (.aload_n 1, 1) := dk_43 (dk_at dksX1_wordOf_2 0 rfl rfl)
theorem dX1_wordOf_65 : decode cX1_wordOf 65 = .ok (.ldc_w 436, 3) := dk_19 1 180 (dk_at dksX1_wordOf_2 1 rfl rfl)
theorem dX1_wordOf_68 : decode cX1_wordOf 68 = .ok (.invokevirtual 437, 3) := dk_182 1 181 (dk_at dksX1_wordOf_2 4 rfl rfl)
theorem dX1_wordOf_71 : decode cX1_wordOf 71 = .ok (.ifCond .eq 65, 3) := dk_153 0 65 (dk_at dksX1_wordOf_2 7 rfl rfl)
theorem dX1_wordOf_74 : decode cX1_wordOf 74 = .ok (.iconst 0, 1) := dk_3 (dk_at dksX1_wordOf_2 10 rfl rfl)
theorem dX1_wordOf_75 : decode cX1_wordOf 75 = .ok (.istore_n 2, 1) := dk_61 (dk_at dksX1_wordOf_2 11 rfl rfl)
theorem dX1_wordOf_76 : decode cX1_wordOf 76 = .ok (.goto 60, 3) := dk_167 0 60 (dk_at dksX1_wordOf_2 12 rfl rfl)
theorem dX1_wordOf_79 : decode cX1_wordOf 79 = .ok (.aload_n 1, 1) := dk_43 (dk_at dksX1_wordOf_2 15 rfl rfl)
theorem dX1_wordOf_80 : decode cX1_wordOf 80 = .ok (.ldc_w 440, 3) := dk_19 1 184 (dk_at dksX1_wordOf_2 16 rfl rfl)
theorem dX1_wordOf_83 : decode cX1_wordOf 83 = .ok (.invokevirtual 437, 3) := dk_182 1 181 (dk_at dksX1_wordOf_2 19 rfl rfl)
theorem dX1_wordOf_86 : decode cX1_wordOf 86 = .ok (.ifCond .eq 50, 3) := dk_153 0 50 (dk_at dksX1_wordOf_3 0 rfl rfl)
theorem dX1_wordOf_89 : decode cX1_wordOf 89 = .ok (.iconst 1, 1) := dk_4 (dk_at dksX1_wordOf_3 3 rfl rfl)
theorem dX1_wordOf_90 : decode cX1_wordOf 90 = .ok (.istore_n 2, 1) := dk_61 (dk_at dksX1_wordOf_3 4 rfl rfl)
theorem dX1_wordOf_91 : decode cX1_wordOf 91 = .ok (.goto 45, 3) := dk_167 0 45 (dk_at dksX1_wordOf_3 5 rfl rfl)
theorem dX1_wordOf_94 : decode cX1_wordOf 94 = .ok (.aload_n 1, 1) := dk_43 (dk_at dksX1_wordOf_3 8 rfl rfl)
theorem dX1_wordOf_95 : decode cX1_wordOf 95 = .ok (.ldc_w 441, 3) := dk_19 1 185 (dk_at dksX1_wordOf_3 9 rfl rfl)
theorem dX1_wordOf_98 : decode cX1_wordOf 98 = .ok (.invokevirtual 437, 3) := dk_182 1 181 (dk_at dksX1_wordOf_3 12 rfl rfl)
theorem dX1_wordOf_101 : decode cX1_wordOf 101 = .ok (.ifCond .eq 35, 3) := dk_153 0 35 (dk_at dksX1_wordOf_3 15 rfl rfl)
theorem dX1_wordOf_104 : decode cX1_wordOf 104 = .ok (.iconst 2, 1) := dk_5 (dk_at dksX1_wordOf_3 18 rfl rfl)
theorem dX1_wordOf_105 : decode cX1_wordOf 105 = .ok (.istore_n 2, 1) := dk_61 (dk_at dksX1_wordOf_3 19 rfl rfl)
theorem dX1_wordOf_106 : decode cX1_wordOf 106 = .ok (.goto 30, 3) := dk_167 0 30 (dk_at dksX1_wordOf_3 20 rfl rfl)
theorem dX1_wordOf_109 : decode cX1_wordOf 109 = .ok (.aload_n 1, 1) := dk_43 (dk_at dksX1_wordOf_3 23 rfl rfl)
theorem dX1_wordOf_110 : decode cX1_wordOf 110 = .ok (.ldc_w 442, 3) := dk_19 1 186 (dk_at dksX1_wordOf_4 0 rfl rfl)
theorem dX1_wordOf_113 : decode cX1_wordOf 113 = .ok (.invokevirtual 437, 3) := dk_182 1 181 (dk_at dksX1_wordOf_4 3 rfl rfl)
theorem dX1_wordOf_116 : decode cX1_wordOf 116 = .ok (.ifCond .eq 20, 3) := dk_153 0 20 (dk_at dksX1_wordOf_4 6 rfl rfl)
theorem dX1_wordOf_119 : decode cX1_wordOf 119 = .ok (.iconst 3, 1) := dk_6 (dk_at dksX1_wordOf_4 9 rfl rfl)
theorem dX1_wordOf_120 : decode cX1_wordOf 120 = .ok (.istore_n 2, 1) := dk_61 (dk_at dksX1_wordOf_4 10 rfl rfl)
theorem dX1_wordOf_121 : decode cX1_wordOf 121 = .ok (.goto 15, 3) := dk_167 0 15 (dk_at dksX1_wordOf_4 11 rfl rfl)
theorem dX1_wordOf_124 : decode cX1_wordOf 124 = .ok (.aload_n 1, 1) := dk_43 (dk_at dksX1_wordOf_4 14 rfl rfl)
theorem dX1_wordOf_125 : decode cX1_wordOf 125 = .ok (.ldc_w 443, 3) := dk_19 1 187 (dk_at dksX1_wordOf_4 15 rfl rfl)
theorem dX1_wordOf_128 : decode cX1_wordOf 128 = .ok (.invokevirtual 437, 3) := dk_182 1 181 (dk_at dksX1_wordOf_4 18 rfl rfl)
theorem dX1_wordOf_131 : decode cX1_wordOf 131 = .ok (.ifCond .eq 5, 3) := dk_153 0 5 (dk_at dksX1_wordOf_4 21 rfl rfl)
theorem dX1_wordOf_134 : decode cX1_wordOf 134 = .ok (.iconst 4, 1) := dk_7 (dk_at dksX1_wordOf_5 0 rfl rfl)
theorem dX1_wordOf_135 : decode cX1_wordOf 135 = .ok (.istore_n 2, 1) := dk_61 (dk_at dksX1_wordOf_5 1 rfl rfl)
theorem dX1_wordOf_136 : decode cX1_wordOf 136 = .ok (.iload_n 2, 1) := dk_28 (dk_at dksX1_wordOf_5 2 rfl rfl)
theorem dX1_wordOf_137 : decode cX1_wordOf 137 = .ok (.tableswitch 55 0 4 #[35, 39, 43, 47, 51], 35) := by decide +kernel
theorem dX1_wordOf_172 : decode cX1_wordOf 172 = .ok (.iconst 0, 1) := dk_3 (dk_at dksX1_wordOf_7 0 rfl rfl)
theorem dX1_wordOf_173 : decode cX1_wordOf 173 = .ok (.goto 20, 3) := dk_167 0 20 (dk_at dksX1_wordOf_7 1 rfl rfl)
theorem dX1_wordOf_176 : decode cX1_wordOf 176 = .ok (.iconst 1, 1) := dk_4 (dk_at dksX1_wordOf_7 4 rfl rfl)
theorem dX1_wordOf_177 : decode cX1_wordOf 177 = .ok (.goto 16, 3) := dk_167 0 16 (dk_at dksX1_wordOf_7 5 rfl rfl)
theorem dX1_wordOf_180 : decode cX1_wordOf 180 = .ok (.iconst 2, 1) := dk_5 (dk_at dksX1_wordOf_7 8 rfl rfl)
theorem dX1_wordOf_181 : decode cX1_wordOf 181 = .ok (.goto 12, 3) := dk_167 0 12 (dk_at dksX1_wordOf_7 9 rfl rfl)
theorem dX1_wordOf_184 : decode cX1_wordOf 184 = .ok (.iconst 3, 1) := dk_6 (dk_at dksX1_wordOf_7 12 rfl rfl)
theorem dX1_wordOf_185 : decode cX1_wordOf 185 = .ok (.goto 8, 3) := dk_167 0 8 (dk_at dksX1_wordOf_7 13 rfl rfl)
theorem dX1_wordOf_188 : decode cX1_wordOf 188 = .ok (.iconst 4, 1) := dk_7 (dk_at dksX1_wordOf_7 16 rfl rfl)
theorem dX1_wordOf_189 : decode cX1_wordOf 189 = .ok (.goto 4, 3) := dk_167 0 4 (dk_at dksX1_wordOf_7 17 rfl rfl)
theorem dX1_wordOf_192 : decode cX1_wordOf 192 = .ok (.iconst (-1), 1) := dk_2 (dk_at dksX1_wordOf_7 20 rfl rfl)
theorem dX1_wordOf_193 : decode cX1_wordOf 193 = .ok (.ireturn, 1) := dk_172 (dk_at dksX1_wordOf_7 21 rfl rfl)
theorem c_166_0 : LkP (OkP 166) [(0, o_aload 0 1), (1, o_cv [(4, 112)] 0 5 false none), (6, o_astore 1 1), (7, o_push 1 (.int (-1))), (8, o_istore 2 1), (9, o_aload 1 1), (10, o_cvs [(5, 119)] 0 3 false), (13, o_sw (lsw [((-1253191065), 64), ((-1177318867), 94), (113762, 124), (3505952, 79), (342069036, 109)] 136))] := lkp_c (P := OkP 166) ⟨(PuOK.ok (ok_aload_n dX1_wordOf_0 rfl)), m_aload⟩ (
  lkp_c (P := OkP 166) ⟨ok_cv (List.forall_mem_cons.mpr ⟨tg_F (ci := 4) (r := CLr 4) (y := 112) rfl ⟨rfl, by decide⟩ q1318 q1328 q479 q126 q481 q1320 q1319 q1330 q1329 q1327 ⟨cn_39.1, cn_39.2, pd_3⟩ dX1_wordOf_1, (List.forall_mem_nil _)⟩) hd_no, m_cv⟩ (
  lkp_c (P := OkP 166) ⟨(PuOK.ok (ok_astore_n dX1_wordOf_6 rfl)), m_astore⟩ (
  lkp_c (P := OkP 166) ⟨(PuOK.ok (ok_iconst dX1_wordOf_7 rfl)), m_push⟩ (
  lkp_c (P := OkP 166) ⟨(PuOK.ok (ok_istore_n dX1_wordOf_8 rfl)), m_istore⟩ (
  lkp_c (P := OkP 166) ⟨(PuOK.ok (ok_aload_n dX1_wordOf_9 rfl)), m_aload⟩ (
  lkp_c (P := OkP 166) ⟨ok_cvs (List.forall_mem_cons.mpr ⟨tg_V (ci := 5) (r := CLr 5) (y := 119) rfl ⟨rfl, by decide⟩ rfl q1331 q872 q3707 q127 q873 ⟨cn_5.1, cn_5.2, pd_13⟩ dX1_wordOf_10, (List.forall_mem_nil _)⟩) hd_no, m_cvs⟩ (
  lkp_c (P := OkP 166) ⟨(PuOK.ok (ok_lsw (lsw_ok_166_13) (by decide +kernel) dX1_wordOf_13)), m_sw⟩ (
  trivial))))))))
theorem c_166_1 : LkP (OkP 166) [(64, o_aload 1 1), (65, o_pushA 3 2), (68, o_cvs [(5, 121)] 1 3 false), (71, o_if (fun x => decide (x = 0)) 136), (74, o_push 1 (.int 0)), (75, o_istore 2 1), (76, o_goto 136), (79, o_aload 1 1), (80, o_pushA 3 3), (83, o_cvs [(5, 121)] 1 3 false), (86, o_if (fun x => decide (x = 0)) 136), (89, o_push 1 (.int 1)), (90, o_istore 2 1), (91, o_goto 136), (94, o_aload 1 1), (95, o_pushA 3 4), (98, o_cvs [(5, 121)] 1 3 false), (101, o_if (fun x => decide (x = 0)) 136), (104, o_push 1 (.int 2)), (105, o_istore 2 1), (106, o_goto 136), (109, o_aload 1 1), (110, o_pushA 3 5), (113, o_cvs [(5, 121)] 1 3 false), (116, o_if (fun x => decide (x = 0)) 136), (119, o_push 1 (.int 3)), (120, o_istore 2 1), (121, o_goto 136), (124, o_aload 1 1), (125, o_pushA 3 6)] := lkp_c (P := OkP 166) ⟨(PuOK.ok (ok_aload_n dX1_wordOf_64 rfl)), m_aload⟩ (
  lkp_c (P := OkP 166) ⟨ok_ldcSW (tx := "gantry") (by decide +kernel) dX1_wordOf_65, m_pushA⟩ (
  lkp_c (P := OkP 166) ⟨ok_cvs (List.forall_mem_cons.mpr ⟨tg_V (ci := 5) (r := CLr 5) (y := 121) rfl ⟨rfl, by decide⟩ rfl q1333 q973 q3708 q127 q974 ⟨cn_5.1, cn_5.2, pd_12⟩ dX1_wordOf_68, (List.forall_mem_nil _)⟩) hd_no, m_cvs⟩ (
  lkp_c (P := OkP 166) ⟨(PuOK.ok (ok_if_eq dX1_wordOf_71 rfl)), m_if⟩ (
  lkp_c (P := OkP 166) ⟨(PuOK.ok (ok_iconst dX1_wordOf_74 rfl)), m_push⟩ (
  lkp_c (P := OkP 166) ⟨(PuOK.ok (ok_istore_n dX1_wordOf_75 rfl)), m_istore⟩ (
  lkp_c (P := OkP 166) ⟨(PuOK.ok (ok_goto dX1_wordOf_76 rfl)), m_goto⟩ (
  lkp_c (P := OkP 166) ⟨(PuOK.ok (ok_aload_n dX1_wordOf_79 rfl)), m_aload⟩ (
  lkp_c (P := OkP 166) ⟨ok_ldcSW (tx := "road") (by decide +kernel) dX1_wordOf_80, m_pushA⟩ (
  lkp_c (P := OkP 166) ⟨ok_cvs (List.forall_mem_cons.mpr ⟨tg_V (ci := 5) (r := CLr 5) (y := 121) rfl ⟨rfl, by decide⟩ rfl q1333 q973 q3708 q127 q974 ⟨cn_5.1, cn_5.2, pd_12⟩ dX1_wordOf_83, (List.forall_mem_nil _)⟩) hd_no, m_cvs⟩ (
  lkp_c (P := OkP 166) ⟨(PuOK.ok (ok_if_eq dX1_wordOf_86 rfl)), m_if⟩ (
  lkp_c (P := OkP 166) ⟨(PuOK.ok (ok_iconst dX1_wordOf_89 rfl)), m_push⟩ (
  lkp_c (P := OkP 166) ⟨(PuOK.ok (ok_istore_n dX1_wordOf_90 rfl)), m_istore⟩ (
  lkp_c (P := OkP 166) ⟨(PuOK.ok (ok_goto dX1_wordOf_91 rfl)), m_goto⟩ (
  lkp_c (P := OkP 166) ⟨(PuOK.ok (ok_aload_n dX1_wordOf_94 rfl)), m_aload⟩ (
  lkp_c (P := OkP 166) ⟨ok_ldcSW (tx := "account") (by decide +kernel) dX1_wordOf_95, m_pushA⟩ (
  lkp_c (P := OkP 166) ⟨ok_cvs (List.forall_mem_cons.mpr ⟨tg_V (ci := 5) (r := CLr 5) (y := 121) rfl ⟨rfl, by decide⟩ rfl q1333 q973 q3708 q127 q974 ⟨cn_5.1, cn_5.2, pd_12⟩ dX1_wordOf_98, (List.forall_mem_nil _)⟩) hd_no, m_cvs⟩ (
  lkp_c (P := OkP 166) ⟨(PuOK.ok (ok_if_eq dX1_wordOf_101 rfl)), m_if⟩ (
  lkp_c (P := OkP 166) ⟨(PuOK.ok (ok_iconst dX1_wordOf_104 rfl)), m_push⟩ (
  lkp_c (P := OkP 166) ⟨(PuOK.ok (ok_istore_n dX1_wordOf_105 rfl)), m_istore⟩ (
  lkp_c (P := OkP 166) ⟨(PuOK.ok (ok_goto dX1_wordOf_106 rfl)), m_goto⟩ (
  lkp_c (P := OkP 166) ⟨(PuOK.ok (ok_aload_n dX1_wordOf_109 rfl)), m_aload⟩ (
  lkp_c (P := OkP 166) ⟨ok_ldcSW (tx := "vehicle") (by decide +kernel) dX1_wordOf_110, m_pushA⟩ (
  lkp_c (P := OkP 166) ⟨ok_cvs (List.forall_mem_cons.mpr ⟨tg_V (ci := 5) (r := CLr 5) (y := 121) rfl ⟨rfl, by decide⟩ rfl q1333 q973 q3708 q127 q974 ⟨cn_5.1, cn_5.2, pd_12⟩ dX1_wordOf_113, (List.forall_mem_nil _)⟩) hd_no, m_cvs⟩ (
  lkp_c (P := OkP 166) ⟨(PuOK.ok (ok_if_eq dX1_wordOf_116 rfl)), m_if⟩ (
  lkp_c (P := OkP 166) ⟨(PuOK.ok (ok_iconst dX1_wordOf_119 rfl)), m_push⟩ (
  lkp_c (P := OkP 166) ⟨(PuOK.ok (ok_istore_n dX1_wordOf_120 rfl)), m_istore⟩ (
  lkp_c (P := OkP 166) ⟨(PuOK.ok (ok_goto dX1_wordOf_121 rfl)), m_goto⟩ (
  lkp_c (P := OkP 166) ⟨(PuOK.ok (ok_aload_n dX1_wordOf_124 rfl)), m_aload⟩ (
  lkp_c (P := OkP 166) ⟨ok_ldcSW (tx := "set") (by decide +kernel) dX1_wordOf_125, m_pushA⟩ (
  trivial))))))))))))))))))))))))))))))
theorem c_166_2 : LkP (OkP 166) [(128, o_cvs [(5, 121)] 1 3 false), (131, o_if (fun x => decide (x = 0)) 136), (134, o_push 1 (.int 4)), (135, o_istore 2 1), (136, o_iload 2 1), (137, o_sw (swt 0 [172, 176, 180, 184, 188] 192)), (172, o_push 1 (.int 0)), (173, o_goto 193), (176, o_push 1 (.int 1)), (177, o_goto 193), (180, o_push 1 (.int 2)), (181, o_goto 193), (184, o_push 1 (.int 3)), (185, o_goto 193), (188, o_push 1 (.int 4)), (189, o_goto 193)] := lkp_c (P := OkP 166) ⟨ok_cvs (List.forall_mem_cons.mpr ⟨tg_V (ci := 5) (r := CLr 5) (y := 121) rfl ⟨rfl, by decide⟩ rfl q1333 q973 q3708 q127 q974 ⟨cn_5.1, cn_5.2, pd_12⟩ dX1_wordOf_128, (List.forall_mem_nil _)⟩) hd_no, m_cvs⟩ (
  lkp_c (P := OkP 166) ⟨(PuOK.ok (ok_if_eq dX1_wordOf_131 rfl)), m_if⟩ (
  lkp_c (P := OkP 166) ⟨(PuOK.ok (ok_iconst dX1_wordOf_134 rfl)), m_push⟩ (
  lkp_c (P := OkP 166) ⟨(PuOK.ok (ok_istore_n dX1_wordOf_135 rfl)), m_istore⟩ (
  lkp_c (P := OkP 166) ⟨(PuOK.ok (ok_iload_n dX1_wordOf_136 rfl)), m_iload⟩ (
  lkp_c (P := OkP 166) ⟨(PuOK.ok (ok_tsw dX1_wordOf_137 (by decide +kernel))), m_sw⟩ (
  lkp_c (P := OkP 166) ⟨(PuOK.ok (ok_iconst dX1_wordOf_172 rfl)), m_push⟩ (
  lkp_c (P := OkP 166) ⟨(PuOK.ok (ok_goto dX1_wordOf_173 rfl)), m_goto⟩ (
  lkp_c (P := OkP 166) ⟨(PuOK.ok (ok_iconst dX1_wordOf_176 rfl)), m_push⟩ (
  lkp_c (P := OkP 166) ⟨(PuOK.ok (ok_goto dX1_wordOf_177 rfl)), m_goto⟩ (
  lkp_c (P := OkP 166) ⟨(PuOK.ok (ok_iconst dX1_wordOf_180 rfl)), m_push⟩ (
  lkp_c (P := OkP 166) ⟨(PuOK.ok (ok_goto dX1_wordOf_181 rfl)), m_goto⟩ (
  lkp_c (P := OkP 166) ⟨(PuOK.ok (ok_iconst dX1_wordOf_184 rfl)), m_push⟩ (
  lkp_c (P := OkP 166) ⟨(PuOK.ok (ok_goto dX1_wordOf_185 rfl)), m_goto⟩ (
  lkp_c (P := OkP 166) ⟨(PuOK.ok (ok_iconst dX1_wordOf_188 rfl)), m_push⟩ (
  lkp_c (P := OkP 166) ⟨(PuOK.ok (ok_goto dX1_wordOf_189 rfl)), m_goto⟩ (
  trivial))))))))))))))))
theorem c_166_3 : LkP (OkP 166) [(192, o_push 1 (.int (-1))), (193, o_ret 1)] := lkp_c (P := OkP 166) ⟨(PuOK.ok (ok_iconst dX1_wordOf_192 rfl)), m_push⟩ (
  lkp_c (P := OkP 166) ⟨ok_iret rfl rfl (by decide) dX1_wordOf_193, m_ret⟩ (
  trivial))
theorem mt_166 : MtOK TB NT IT 166 := ⟨by decide +kernel, rfl, (fun h => by cases h), Or.inl ⟨rfl, rfl⟩, rfl, by decide, lk2_all (P := OkP 166) ⟨c_166_0, c_166_1, c_166_2, c_166_3, trivial⟩⟩
theorem dX1_errorCode_0 : decode cX1_errorCode 0 = .ok (.aload_n 0, 1) := by decide +kernel
theorem dX1_errorCode_1 : decode cX1_errorCode 1 = .ok (.getfield 453, 3) := by decide +kernel
theorem dX1_errorCode_4 : decode cX1_errorCode 4 = .ok (.ireturn, 1) := by decide +kernel
theorem c_167_0 : LkP (OkP 167) [(0, o_aload 0 1), (1, o_get 4), (4, o_ret 1)] := lkp_c (P := OkP 167) ⟨(PuOK.ok (ok_aload_n dX1_errorCode_0 rfl)), m_aload⟩ (
  lkp_c (P := OkP 167) ⟨ok_get ⟨"TollRoad", q669, Or.inl rfl⟩ dX1_errorCode_1, m_get⟩ (
  lkp_c (P := OkP 167) ⟨ok_iret rfl rfl (by decide) dX1_errorCode_4, m_ret⟩ (
  trivial)))
theorem mt_167 : MtOK TB NT IT 167 := ⟨by decide +kernel, rfl, (fun h => by cases h), Or.inl ⟨rfl, rfl⟩, rfl, by decide, lk2_all (P := OkP 167) ⟨c_167_0, trivial⟩⟩
theorem dX1_errorPosition_0 : decode cX1_errorPosition 0 = .ok (.aload_n 0, 1) := by decide +kernel
theorem dX1_errorPosition_1 : decode cX1_errorPosition 1 = .ok (.getfield 33, 3) := by decide +kernel
theorem dX1_errorPosition_4 : decode cX1_errorPosition 4 = .ok (.ireturn, 1) := by decide +kernel
theorem c_168_0 : LkP (OkP 168) [(0, o_aload 0 1), (1, o_get 5), (4, o_ret 1)] := lkp_c (P := OkP 168) ⟨(PuOK.ok (ok_aload_n dX1_errorPosition_0 rfl)), m_aload⟩ (
  lkp_c (P := OkP 168) ⟨ok_get ⟨"TollRoad", q670, Or.inl rfl⟩ dX1_errorPosition_1, m_get⟩ (
  lkp_c (P := OkP 168) ⟨ok_iret rfl rfl (by decide) dX1_errorPosition_4, m_ret⟩ (
  trivial)))
theorem mt_168 : MtOK TB NT IT 168 := ⟨by decide +kernel, rfl, (fun h => by cases h), Or.inl ⟨rfl, rfl⟩, rfl, by decide, lk2_all (P := OkP 168) ⟨c_168_0, trivial⟩⟩
def dkwX1_appendText_2 : List UInt8 := [181, 1, 189, 132, 2, 248, 167, 255, 226, 42, 180, 1, 189, 172]
abbrev dktX1_appendText_2 : List UInt8 := dkwX1_appendText_2 ++ []
def dkwX1_appendText_1 : List UInt8 := [155, 0, 32, 42, 180, 0, 29, 42, 180, 1, 189, 27, 28, 122, 145, 84, 42, 89, 180, 1, 189, 4, 96]
abbrev dktX1_appendText_1 : List UInt8 := dkwX1_appendText_1 ++ dktX1_appendText_2
def dkwX1_appendText_0 : List UInt8 := [42, 180, 1, 189, 7, 96, 17, 2, 188, 163, 0, 7, 4, 167, 0, 4, 3, 184, 0, 82, 16, 24, 61, 28]
abbrev dktX1_appendText_0 : List UInt8 := dkwX1_appendText_0 ++ dktX1_appendText_1
theorem dksX1_appendText_0 : cX1_appendText.data.toList.drop 0 = dktX1_appendText_0 := by decide +kernel
theorem dksX1_appendText_1 : cX1_appendText.data.toList.drop 24 = dktX1_appendText_1 := dk_seg dksX1_appendText_0 24 rfl rfl
theorem dksX1_appendText_2 : cX1_appendText.data.toList.drop 47 = dktX1_appendText_2 := dk_seg dksX1_appendText_1 23 rfl rfl
theorem dX1_appendText_0 : decode cX1_appendText 0 = .ok (.aload_n 0, 1) := dk_42 (dk_at dksX1_appendText_0 0 rfl rfl)
theorem dX1_appendText_1 : decode cX1_appendText 1 = .ok (.getfield 445, 3) := dk_180 1 189 (dk_at dksX1_appendText_0 1 rfl rfl)
theorem dX1_appendText_4 : decode cX1_appendText 4 = .ok (.iconst 4, 1) := dk_7 (dk_at dksX1_appendText_0 4 rfl rfl)
theorem dX1_appendText_5 : decode cX1_appendText 5 = .ok (.iadd, 1) := dk_96 (dk_at dksX1_appendText_0 5 rfl rfl)
theorem dX1_appendText_6 : decode cX1_appendText 6 = .ok (.sipush 700, 3) := dk_17 2 188 (dk_at dksX1_appendText_0 6 rfl rfl)
theorem dX1_appendText_9 : decode cX1_appendText 9 = .ok (.if_icmp .gt 7, 3) := dk_163 0 7 (dk_at dksX1_appendText_0 9 rfl rfl)
theorem dX1_appendText_12 : decode cX1_appendText 12 = .ok (.iconst 1, 1) := dk_4 (dk_at dksX1_appendText_0 12 rfl rfl)
theorem dX1_appendText_13 : decode cX1_appendText 13 = .ok (.goto 4, 3) := dk_167 0 4 (dk_at dksX1_appendText_0 13 rfl rfl)
theorem dX1_appendText_16 : decode cX1_appendText 16 = .ok (.iconst 0, 1) := dk_3 (dk_at dksX1_appendText_0 16 rfl rfl)
theorem dX1_appendText_17 : decode cX1_appendText 17 = .ok (.invokestatic 82, 3) := dk_184 0 82 (dk_at dksX1_appendText_0 17 rfl rfl)
theorem dX1_appendText_20 : decode cX1_appendText 20 = .ok (.bipush 24, 2) := dk_16 24 (dk_at dksX1_appendText_0 20 rfl rfl)
theorem dX1_appendText_22 : decode cX1_appendText 22 = .ok (.istore_n 2, 1) := dk_61 (dk_at dksX1_appendText_0 22 rfl rfl)
theorem dX1_appendText_23 : decode cX1_appendText 23 = .ok (.iload_n 2, 1) := dk_28 (dk_at dksX1_appendText_0 23 rfl rfl)
theorem dX1_appendText_24 : decode cX1_appendText 24 = .ok (.ifCond .lt 32, 3) := dk_155 0 32 (dk_at dksX1_appendText_1 0 rfl rfl)
theorem dX1_appendText_27 : decode cX1_appendText 27 = .ok (.aload_n 0, 1) := dk_42 (dk_at dksX1_appendText_1 3 rfl rfl)
theorem dX1_appendText_28 : decode cX1_appendText 28 = .ok (.getfield 29, 3) := dk_180 0 29 (dk_at dksX1_appendText_1 4 rfl rfl)
theorem dX1_appendText_31 : decode cX1_appendText 31 = .ok (.aload_n 0, 1) := dk_42 (dk_at dksX1_appendText_1 7 rfl rfl)
theorem dX1_appendText_32 : decode cX1_appendText 32 = .ok (.getfield 445, 3) := dk_180 1 189 (dk_at dksX1_appendText_1 8 rfl rfl)
theorem dX1_appendText_35 : decode cX1_appendText 35 = .ok (.iload_n 1, 1) := dk_27 (dk_at dksX1_appendText_1 11 rfl rfl)
theorem dX1_appendText_36 : decode cX1_appendText 36 = .ok (.iload_n 2, 1) := dk_28 (dk_at dksX1_appendText_1 12 rfl rfl)
theorem dX1_appendText_37 : decode cX1_appendText 37 = .ok (.ishr, 1) := dk_122 (dk_at dksX1_appendText_1 13 rfl rfl)
theorem dX1_appendText_38 : decode cX1_appendText 38 = .ok (.i2b, 1) := dk_145 (dk_at dksX1_appendText_1 14 rfl rfl)
theorem dX1_appendText_39 : decode cX1_appendText 39 = .ok (.bastore, 1) := dk_84 (dk_at dksX1_appendText_1 15 rfl rfl)
theorem dX1_appendText_40 : decode cX1_appendText 40 = .ok (.aload_n 0, 1) := dk_42 (dk_at dksX1_appendText_1 16 rfl rfl)
theorem dX1_appendText_41 : decode cX1_appendText 41 = .ok (.dup, 1) := dk_89 (dk_at dksX1_appendText_1 17 rfl rfl)
theorem dX1_appendText_42 : decode cX1_appendText 42 = .ok (.getfield 445, 3) := dk_180 1 189 (dk_at dksX1_appendText_1 18 rfl rfl)
theorem dX1_appendText_45 : decode cX1_appendText 45 = .ok (.iconst 1, 1) := dk_4 (dk_at dksX1_appendText_1 21 rfl rfl)
theorem dX1_appendText_46 : decode cX1_appendText 46 = .ok (.iadd, 1) := dk_96 (dk_at dksX1_appendText_1 22 rfl rfl)
theorem dX1_appendText_47 : decode cX1_appendText 47 = .ok (.putfield 445, 3) := dk_181 1 189 (dk_at dksX1_appendText_2 0 rfl rfl)
theorem dX1_appendText_50 : decode cX1_appendText 50 = .ok (.iinc 2 (-8), 3) := dk_132 2 248 (dk_at dksX1_appendText_2 3 rfl rfl)
theorem dX1_appendText_53 : decode cX1_appendText 53 = .ok (.goto (-30), 3) := dk_167 255 226 (dk_at dksX1_appendText_2 6 rfl rfl)
theorem dX1_appendText_56 : decode cX1_appendText 56 = .ok (.aload_n 0, 1) := dk_42 (dk_at dksX1_appendText_2 9 rfl rfl)
theorem dX1_appendText_57 : decode cX1_appendText 57 = .ok (.getfield 445, 3) := dk_180 1 189 (dk_at dksX1_appendText_2 10 rfl rfl)
theorem dX1_appendText_60 : decode cX1_appendText 60 = .ok (.ireturn, 1) := dk_172 (dk_at dksX1_appendText_2 13 rfl rfl)
theorem c_169_0 : LkP (OkP 169) [(0, o_aload 0 1), (1, o_get 3), (4, o_push 1 (.int 4)), (5, o_iop (fun x y => x + y)), (6, o_push 3 (.int 700)), (9, o_icmp (fun x y => decide (y < x)) 16), (12, o_push 1 (.int 1)), (13, o_goto 17), (16, o_push 1 (.int 0)), (17, o_cs 170 1 true none), (20, o_push 2 (.int 24)), (22, o_istore 2 1), (23, o_iload 2 1), (24, o_if (fun x => decide (x < 0)) 56), (27, o_aload 0 1), (28, o_get 2), (31, o_aload 0 1), (32, o_get 3), (35, o_iload 1 1), (36, o_iload 2 1), (37, o_iop (fun x y => x >>> (y &&& 31))), (38, o_ii (fun x => x.toInt8.toInt32)), (39, o_wrI 1), (40, o_aload 0 1), (41, o_dup), (42, o_get 3), (45, o_push 1 (.int 1)), (46, o_iop (fun x y => x + y)), (47, o_put 3 1), (50, o_iinc 2 (-8)), (53, o_goto 23), (56, o_aload 0 1), (57, o_get 3), (60, o_ret 1)] := lkp_c (P := OkP 169) ⟨(PuOK.ok (ok_aload_n dX1_appendText_0 rfl)), m_aload⟩ (
  lkp_c (P := OkP 169) ⟨ok_get ⟨"TollRoad", q668, Or.inl rfl⟩ dX1_appendText_1, m_get⟩ (
  lkp_c (P := OkP 169) ⟨(PuOK.ok (ok_iconst dX1_appendText_4 rfl)), m_push⟩ (
  lkp_c (P := OkP 169) ⟨(PuOK.ok (ok_iadd dX1_appendText_5)), m_iop⟩ (
  lkp_c (P := OkP 169) ⟨(PuOK.ok (ok_sipush dX1_appendText_6 rfl)), m_push⟩ (
  lkp_c (P := OkP 169) ⟨(PuOK.ok (ok_icmp_gt dX1_appendText_9 rfl)), m_icmp⟩ (
  lkp_c (P := OkP 169) ⟨(PuOK.ok (ok_iconst dX1_appendText_12 rfl)), m_push⟩ (
  lkp_c (P := OkP 169) ⟨(PuOK.ok (ok_goto dX1_appendText_13 rfl)), m_goto⟩ (
  lkp_c (P := OkP 169) ⟨(PuOK.ok (ok_iconst dX1_appendText_16 rfl)), m_push⟩ (
  lkp_c (P := OkP 169) ⟨ok_cs (tg_S ⟨rfl, by decide⟩ q1611 q1612 q115 q1613 ⟨cn_33.1, cn_33.2, pd_18⟩ dX1_appendText_17) hd_no, m_cs⟩ (
  lkp_c (P := OkP 169) ⟨(PuOK.ok (ok_bipush dX1_appendText_20 rfl)), m_push⟩ (
  lkp_c (P := OkP 169) ⟨(PuOK.ok (ok_istore_n dX1_appendText_22 rfl)), m_istore⟩ (
  lkp_c (P := OkP 169) ⟨(PuOK.ok (ok_iload_n dX1_appendText_23 rfl)), m_iload⟩ (
  lkp_c (P := OkP 169) ⟨(PuOK.ok (ok_if_lt dX1_appendText_24 rfl)), m_if⟩ (
  lkp_c (P := OkP 169) ⟨(PuOK.ok (ok_aload_n dX1_appendText_27 rfl)), m_aload⟩ (
  lkp_c (P := OkP 169) ⟨ok_get ⟨"TollRoad", q667, Or.inl rfl⟩ dX1_appendText_28, m_get⟩ (
  lkp_c (P := OkP 169) ⟨(PuOK.ok (ok_aload_n dX1_appendText_31 rfl)), m_aload⟩ (
  lkp_c (P := OkP 169) ⟨ok_get ⟨"TollRoad", q668, Or.inl rfl⟩ dX1_appendText_32, m_get⟩ (
  lkp_c (P := OkP 169) ⟨(PuOK.ok (ok_iload_n dX1_appendText_35 rfl)), m_iload⟩ (
  lkp_c (P := OkP 169) ⟨(PuOK.ok (ok_iload_n dX1_appendText_36 rfl)), m_iload⟩ (
  lkp_c (P := OkP 169) ⟨(PuOK.ok (ok_ishr dX1_appendText_37)), m_iop⟩ (
  lkp_c (P := OkP 169) ⟨(PuOK.ok (ok_i2b dX1_appendText_38)), m_ii⟩ (
  lkp_c (P := OkP 169) ⟨ok_bast dX1_appendText_39, m_wrI⟩ (
  lkp_c (P := OkP 169) ⟨(PuOK.ok (ok_aload_n dX1_appendText_40 rfl)), m_aload⟩ (
  lkp_c (P := OkP 169) ⟨(PuOK.ok (ok_dup dX1_appendText_41)), m_dup⟩ (
  lkp_c (P := OkP 169) ⟨ok_get ⟨"TollRoad", q668, Or.inl rfl⟩ dX1_appendText_42, m_get⟩ (
  lkp_c (P := OkP 169) ⟨(PuOK.ok (ok_iconst dX1_appendText_45 rfl)), m_push⟩ (
  lkp_c (P := OkP 169) ⟨(PuOK.ok (ok_iadd dX1_appendText_46)), m_iop⟩ (
  lkp_c (P := OkP 169) ⟨ok_put ⟨"TollRoad", q668, Or.inl rfl⟩ rfl fd_3 rfl dX1_appendText_47, m_put⟩ (
  lkp_c (P := OkP 169) ⟨(PuOK.ok (ok_iinc dX1_appendText_50 rfl)), m_iinc⟩ (
  lkp_c (P := OkP 169) ⟨(PuOK.ok (ok_goto dX1_appendText_53 rfl)), m_goto⟩ (
  lkp_c (P := OkP 169) ⟨(PuOK.ok (ok_aload_n dX1_appendText_56 rfl)), m_aload⟩ (
  lkp_c (P := OkP 169) ⟨ok_get ⟨"TollRoad", q668, Or.inl rfl⟩ dX1_appendText_57, m_get⟩ (
  lkp_c (P := OkP 169) ⟨ok_iret rfl rfl (by decide) dX1_appendText_60, m_ret⟩ (
  trivial))))))))))))))))))))))))))))))))))
theorem mt_169 : MtOK TB NT IT 169 := ⟨by decide +kernel, rfl, (fun h => by cases h), Or.inl ⟨rfl, rfl⟩, rfl, by decide, lk2_all (P := OkP 169) ⟨c_169_0, trivial⟩⟩
def dkwX1_checkState_0 : List UInt8 := [26, 154, 0, 11, 187, 0, 10, 89, 183, 0, 12, 191, 177]
abbrev dktX1_checkState_0 : List UInt8 := dkwX1_checkState_0 ++ []
theorem dksX1_checkState_0 : cX1_checkState.data.toList.drop 0 = dktX1_checkState_0 := by decide +kernel
theorem dX1_checkState_0 : decode cX1_checkState 0 = .ok (.iload_n 0, 1) := dk_26 (dk_at dksX1_checkState_0 0 rfl rfl)
theorem dX1_checkState_1 : decode cX1_checkState 1 = .ok (.ifCond .ne 11, 3) := dk_154 0 11 (dk_at dksX1_checkState_0 1 rfl rfl)
theorem dX1_checkState_4 : decode cX1_checkState 4 = .ok (.new 10, 3) := dk_187 0 10 (dk_at dksX1_checkState_0 4 rfl rfl)
theorem dX1_checkState_7 : decode cX1_checkState 7 = .ok (.dup, 1) := dk_89 (dk_at dksX1_checkState_0 7 rfl rfl)
theorem dX1_checkState_8 : decode cX1_checkState 8 = .ok (.invokespecial 12, 3) := dk_183 0 12 (dk_at dksX1_checkState_0 8 rfl rfl)
theorem dX1_checkState_11 : decode cX1_checkState 11 = .ok (.athrow, 1) := dk_191 (dk_at dksX1_checkState_0 11 rfl rfl)
theorem dX1_checkState_12 : decode cX1_checkState 12 = .ok (.return_, 1) := dk_177 (dk_at dksX1_checkState_0 12 rfl rfl)
theorem c_170_0 : LkP (OkP 170) [(0, o_iload 0 1), (1, o_if (fun x => decide (¬ x = 0)) 12), (4, o_thr0 33), (7, o_dup), (12, o_vret)] := lkp_c (P := OkP 170) ⟨(PuOK.ok (ok_iload_n dX1_checkState_0 rfl)), m_iload⟩ (
  lkp_c (P := OkP 170) ⟨(PuOK.ok (ok_if_ne dX1_checkState_1 rfl)), m_if⟩ (
  lkp_c (P := OkP 170) ⟨ok_thr0 (r := CLr 33) (names := ["java/lang/RuntimeException", "java/lang/Exception"]) rfl rfl (by decide +kernel) (by decide +kernel) (by decide) q1614 q140 th3_33 th4_33 (by decide +kernel) hd_no dX1_checkState_4 dX1_checkState_7 dX1_checkState_8 dX1_checkState_11, m_thr0⟩ (
  lkp_c (P := OkP 170) ⟨(PuOK.ok (ok_dup dX1_checkState_7)), m_dup⟩ (
  lkp_c (P := OkP 170) ⟨ok_vret rfl dX1_checkState_12, m_vret⟩ (
  trivial)))))
theorem mt_170 : MtOK TB NT IT 170 := ⟨by decide +kernel, rfl, (fun h => by cases h), Or.inl ⟨rfl, rfl⟩, rfl, by decide, lk2_all (P := OkP 170) ⟨c_170_0, trivial⟩⟩
def dkwX1_truncateText_0 : List UInt8 := [27, 133, 9, 42, 180, 1, 189, 133, 184, 0, 46, 184, 0, 79, 42, 27, 181, 1, 189, 27, 172]
abbrev dktX1_truncateText_0 : List UInt8 := dkwX1_truncateText_0 ++ []
theorem dksX1_truncateText_0 : cX1_truncateText.data.toList.drop 0 = dktX1_truncateText_0 := by decide +kernel
theorem dX1_truncateText_0 : decode cX1_truncateText 0 = .ok (.iload_n 1, 1) := dk_27 (dk_at dksX1_truncateText_0 0 rfl rfl)
theorem dX1_truncateText_1 : decode cX1_truncateText 1 = .ok (.i2l, 1) := dk_133 (dk_at dksX1_truncateText_0 1 rfl rfl)
theorem dX1_truncateText_2 : decode cX1_truncateText 2 = .ok (.lconst 0, 1) := dk_9 (dk_at dksX1_truncateText_0 2 rfl rfl)
theorem dX1_truncateText_3 : decode cX1_truncateText 3 = .ok (.aload_n 0, 1) := dk_42 (dk_at dksX1_truncateText_0 3 rfl rfl)
theorem dX1_truncateText_4 : decode cX1_truncateText 4 = .ok (.getfield 445, 3) := dk_180 1 189 (dk_at dksX1_truncateText_0 4 rfl rfl)
theorem dX1_truncateText_7 : decode cX1_truncateText 7 = .ok (.i2l, 1) := dk_133 (dk_at dksX1_truncateText_0 7 rfl rfl)
theorem dX1_truncateText_8 : decode cX1_truncateText 8 = .ok (.invokestatic 46, 3) := dk_184 0 46 (dk_at dksX1_truncateText_0 8 rfl rfl)
theorem dX1_truncateText_11 : decode cX1_truncateText 11 = .ok (.invokestatic 79, 3) := dk_184 0 79 (dk_at dksX1_truncateText_0 11 rfl rfl)
theorem dX1_truncateText_14 : decode cX1_truncateText 14 = .ok (.aload_n 0, 1) := dk_42 (dk_at dksX1_truncateText_0 14 rfl rfl)
theorem dX1_truncateText_15 : decode cX1_truncateText 15 = .ok (.iload_n 1, 1) := dk_27 (dk_at dksX1_truncateText_0 15 rfl rfl)
theorem dX1_truncateText_16 : decode cX1_truncateText 16 = .ok (.putfield 445, 3) := dk_181 1 189 (dk_at dksX1_truncateText_0 16 rfl rfl)
theorem dX1_truncateText_19 : decode cX1_truncateText 19 = .ok (.iload_n 1, 1) := dk_27 (dk_at dksX1_truncateText_0 19 rfl rfl)
theorem dX1_truncateText_20 : decode cX1_truncateText 20 = .ok (.ireturn, 1) := dk_172 (dk_at dksX1_truncateText_0 20 rfl rfl)
theorem c_171_0 : LkP (OkP 171) [(0, o_iload 1 1), (1, o_i2l), (2, o_push 1 (.long 0)), (3, o_aload 0 1), (4, o_get 3), (7, o_i2l), (8, o_cs 165 3 false none), (11, o_cs 172 1 true none), (14, o_aload 0 1), (15, o_iload 1 1), (16, o_put 3 1), (19, o_iload 1 1), (20, o_ret 1)] := lkp_c (P := OkP 171) ⟨(PuOK.ok (ok_iload_n dX1_truncateText_0 rfl)), m_iload⟩ (
  lkp_c (P := OkP 171) ⟨(PuOK.ok (ok_i2l dX1_truncateText_1)), m_i2l⟩ (
  lkp_c (P := OkP 171) ⟨(PuOK.ok (ok_lconst dX1_truncateText_2 rfl)), m_push⟩ (
  lkp_c (P := OkP 171) ⟨(PuOK.ok (ok_aload_n dX1_truncateText_3 rfl)), m_aload⟩ (
  lkp_c (P := OkP 171) ⟨ok_get ⟨"TollRoad", q668, Or.inl rfl⟩ dX1_truncateText_4, m_get⟩ (
  lkp_c (P := OkP 171) ⟨(PuOK.ok (ok_i2l dX1_truncateText_7)), m_i2l⟩ (
  lkp_c (P := OkP 171) ⟨ok_cs (tg_S ⟨rfl, by decide⟩ q1643 q1284 q115 q1285 ⟨cn_33.1, cn_33.2, pd_74⟩ dX1_truncateText_8) hd_no, m_cs⟩ (
  lkp_c (P := OkP 171) ⟨ok_cs (tg_S ⟨rfl, by decide⟩ q1644 q1645 q115 q1646 ⟨cn_33.1, cn_33.2, pd_18⟩ dX1_truncateText_11) hd_no, m_cs⟩ (
  lkp_c (P := OkP 171) ⟨(PuOK.ok (ok_aload_n dX1_truncateText_14 rfl)), m_aload⟩ (
  lkp_c (P := OkP 171) ⟨(PuOK.ok (ok_iload_n dX1_truncateText_15 rfl)), m_iload⟩ (
  lkp_c (P := OkP 171) ⟨ok_put ⟨"TollRoad", q668, Or.inl rfl⟩ rfl fd_3 rfl dX1_truncateText_16, m_put⟩ (
  lkp_c (P := OkP 171) ⟨(PuOK.ok (ok_iload_n dX1_truncateText_19 rfl)), m_iload⟩ (
  lkp_c (P := OkP 171) ⟨ok_iret rfl rfl (by decide) dX1_truncateText_20, m_ret⟩ (
  trivial)))))))))))))
theorem mt_171 : MtOK TB NT IT 171 := ⟨by decide +kernel, rfl, (fun h => by cases h), Or.inl ⟨rfl, rfl⟩, rfl, by decide, lk2_all (P := OkP 171) ⟨c_171_0, trivial⟩⟩
def dkwX1_checkArgument_0 : List UInt8 := [26, 154, 0, 11, 187, 0, 7, 89, 183, 0, 9, 191, 177]
abbrev dktX1_checkArgument_0 : List UInt8 := dkwX1_checkArgument_0 ++ []
theorem dksX1_checkArgument_0 : cX1_checkArgument.data.toList.drop 0 = dktX1_checkArgument_0 := by decide +kernel
theorem dX1_checkArgument_0 : decode cX1_checkArgument 0 = .ok (.iload_n 0, 1) := dk_26 (dk_at dksX1_checkArgument_0 0 rfl rfl)
theorem dX1_checkArgument_1 : decode cX1_checkArgument 1 = .ok (.ifCond .ne 11, 3) := dk_154 0 11 (dk_at dksX1_checkArgument_0 1 rfl rfl)
theorem dX1_checkArgument_4 : decode cX1_checkArgument 4 = .ok (.new 7, 3) := dk_187 0 7 (dk_at dksX1_checkArgument_0 4 rfl rfl)
theorem dX1_checkArgument_7 : decode cX1_checkArgument 7 = .ok (.dup, 1) := dk_89 (dk_at dksX1_checkArgument_0 7 rfl rfl)
theorem dX1_checkArgument_8 : decode cX1_checkArgument 8 = .ok (.invokespecial 9, 3) := dk_183 0 9 (dk_at dksX1_checkArgument_0 8 rfl rfl)
theorem dX1_checkArgument_11 : decode cX1_checkArgument 11 = .ok (.athrow, 1) := dk_191 (dk_at dksX1_checkArgument_0 11 rfl rfl)
theorem dX1_checkArgument_12 : decode cX1_checkArgument 12 = .ok (.return_, 1) := dk_177 (dk_at dksX1_checkArgument_0 12 rfl rfl)
theorem c_172_0 : LkP (OkP 172) [(0, o_iload 0 1), (1, o_if (fun x => decide (¬ x = 0)) 12), (4, o_thr0 32), (7, o_dup), (12, o_vret)] := lkp_c (P := OkP 172) ⟨(PuOK.ok (ok_iload_n dX1_checkArgument_0 rfl)), m_iload⟩ (
  lkp_c (P := OkP 172) ⟨(PuOK.ok (ok_if_ne dX1_checkArgument_1 rfl)), m_if⟩ (
  lkp_c (P := OkP 172) ⟨ok_thr0 (r := CLr 32) (names := ["java/lang/RuntimeException", "java/lang/Exception"]) rfl rfl (by decide +kernel) (by decide +kernel) (by decide) q1647 q124 th3_32 th4_32 (by decide +kernel) hd_no dX1_checkArgument_4 dX1_checkArgument_7 dX1_checkArgument_8 dX1_checkArgument_11, m_thr0⟩ (
  lkp_c (P := OkP 172) ⟨(PuOK.ok (ok_dup dX1_checkArgument_7)), m_dup⟩ (
  lkp_c (P := OkP 172) ⟨ok_vret rfl dX1_checkArgument_12, m_vret⟩ (
  trivial)))))
theorem mt_172 : MtOK TB NT IT 172 := ⟨by decide +kernel, rfl, (fun h => by cases h), Or.inl ⟨rfl, rfl⟩, rfl, by decide, lk2_all (P := OkP 172) ⟨c_172_0, trivial⟩⟩
def dkwX1_addGantry_1 : List UInt8 := [162, 0, 7, 4, 167, 0, 4, 3, 184, 0, 82, 42, 180, 0, 19, 180, 0, 37, 27, 182, 0, 85, 172]
abbrev dktX1_addGantry_1 : List UInt8 := dkwX1_addGantry_1 ++ []
def dkwX1_addGantry_0 : List UInt8 := [27, 133, 9, 20, 0, 77, 184, 0, 46, 184, 0, 79, 42, 180, 0, 19, 180, 0, 37, 180, 0, 41, 16, 12]
abbrev dktX1_addGantry_0 : List UInt8 := dkwX1_addGantry_0 ++ dktX1_addGantry_1
theorem dksX1_addGantry_0 : cX1_addGantry.data.toList.drop 0 = dktX1_addGantry_0 := by decide +kernel
theorem dksX1_addGantry_1 : cX1_addGantry.data.toList.drop 24 = dktX1_addGantry_1 := dk_seg dksX1_addGantry_0 24 rfl rfl
theorem dX1_addGantry_0 : decode cX1_addGantry 0 = .ok (.iload_n 1, 1) := dk_27 (dk_at dksX1_addGantry_0 0 rfl rfl)
theorem dX1_addGantry_1 : decode cX1_addGantry 1 = .ok (.i2l, 1) := dk_133 (dk_at dksX1_addGantry_0 1 rfl rfl)
theorem dX1_addGantry_2 : decode cX1_addGantry 2 = .ok (.lconst 0, 1) := dk_9 (dk_at dksX1_addGantry_0 2 rfl rfl)
theorem dX1_addGantry_3 : decode cX1_addGantry 3 = .ok (.ldc2_w 77, 3) := dk_20 0 77 (dk_at dksX1_addGantry_0 3 rfl rfl)
theorem dX1_addGantry_6 : decode cX1_addGantry 6 = .ok (.invokestatic 46, 3) := dk_184 0 46 (dk_at dksX1_addGantry_0 6 rfl rfl)
theorem dX1_addGantry_9 : decode cX1_addGantry 9 = .ok (.invokestatic 79, 3) := dk_184 0 79 (dk_at dksX1_addGantry_0 9 rfl rfl)
theorem dX1_addGantry_12 : decode cX1_addGantry 12 = .ok (.aload_n 0, 1) := dk_42 (dk_at dksX1_addGantry_0 12 rfl rfl)
theorem dX1_addGantry_13 : decode cX1_addGantry 13 = .ok (.getfield 19, 3) := dk_180 0 19 (dk_at dksX1_addGantry_0 13 rfl rfl)
theorem dX1_addGantry_16 : decode cX1_addGantry 16 = .ok (.getfield 37, 3) := dk_180 0 37 (dk_at dksX1_addGantry_0 16 rfl rfl)
theorem dX1_addGantry_19 : decode cX1_addGantry 19 = .ok (.getfield 41, 3) := dk_180 0 41 (dk_at dksX1_addGantry_0 19 rfl rfl)
theorem dX1_addGantry_22 : decode cX1_addGantry 22 = .ok (.bipush 12, 2) := dk_16 12 (dk_at dksX1_addGantry_0 22 rfl rfl)
theorem dX1_addGantry_24 : decode cX1_addGantry 24 = .ok (.if_icmp .ge 7, 3) := dk_162 0 7 (dk_at dksX1_addGantry_1 0 rfl rfl)
theorem dX1_addGantry_27 : decode cX1_addGantry 27 = .ok (.iconst 1, 1) := dk_4 (dk_at dksX1_addGantry_1 3 rfl rfl)
theorem dX1_addGantry_28 : decode cX1_addGantry 28 = .ok (.goto 4, 3) := dk_167 0 4 (dk_at dksX1_addGantry_1 4 rfl rfl)
theorem dX1_addGantry_31 : decode cX1_addGantry 31 = .ok (.iconst 0, 1) := dk_3 (dk_at dksX1_addGantry_1 7 rfl rfl)
theorem dX1_addGantry_32 : decode cX1_addGantry 32 = .ok (.invokestatic 82, 3) := dk_184 0 82 (dk_at dksX1_addGantry_1 8 rfl rfl)
theorem dX1_addGantry_35 : decode cX1_addGantry 35 = .ok (.aload_n 0, 1) := dk_42 (dk_at dksX1_addGantry_1 11 rfl rfl)
theorem dX1_addGantry_36 : decode cX1_addGantry 36 = .ok (.getfield 19, 3) := dk_180 0 19 (dk_at dksX1_addGantry_1 12 rfl rfl)
theorem dX1_addGantry_39 : decode cX1_addGantry 39 = .ok (.getfield 37, 3) := dk_180 0 37 (dk_at dksX1_addGantry_1 15 rfl rfl)
theorem dX1_addGantry_42 : decode cX1_addGantry 42 = .ok (.iload_n 1, 1) := dk_27 (dk_at dksX1_addGantry_1 18 rfl rfl)
theorem dX1_addGantry_43 : decode cX1_addGantry 43 = .ok (.invokevirtual 85, 3) := dk_182 0 85 (dk_at dksX1_addGantry_1 19 rfl rfl)
theorem dX1_addGantry_46 : decode cX1_addGantry 46 = .ok (.ireturn, 1) := dk_172 (dk_at dksX1_addGantry_1 22 rfl rfl)
theorem c_173_0 : LkP (OkP 173) [(0, o_iload 1 1), (1, o_i2l), (2, o_push 1 (.long 0)), (3, o_push 3 (.long 99)), (6, o_cs 165 3 false none), (9, o_cs 172 1 true none), (12, o_aload 0 1), (13, o_get 0), (16, o_get 6), (19, o_get 15), (22, o_push 2 (.int 12)), (24, o_icmp (fun x y => decide (y ≤ x)) 31), (27, o_push 1 (.int 1)), (28, o_goto 32), (31, o_push 1 (.int 0)), (32, o_cs 170 1 true none), (35, o_aload 0 1), (36, o_get 0), (39, o_get 6), (42, o_iload 1 1), (43, o_cv [(2, 283)] 1 3 false none), (46, o_ret 1)] := lkp_c (P := OkP 173) ⟨(PuOK.ok (ok_iload_n dX1_addGantry_0 rfl)), m_iload⟩ (
  lkp_c (P := OkP 173) ⟨(PuOK.ok (ok_i2l dX1_addGantry_1)), m_i2l⟩ (
  lkp_c (P := OkP 173) ⟨(PuOK.ok (ok_lconst dX1_addGantry_2 rfl)), m_push⟩ (
  lkp_c (P := OkP 173) ⟨(PuOK.ok (ok_ldc2 q1659 dX1_addGantry_3)), m_push⟩ (
  lkp_c (P := OkP 173) ⟨ok_cs (tg_S ⟨rfl, by decide⟩ q1643 q1284 q115 q1285 ⟨cn_33.1, cn_33.2, pd_74⟩ dX1_addGantry_6) hd_no, m_cs⟩ (
  lkp_c (P := OkP 173) ⟨ok_cs (tg_S ⟨rfl, by decide⟩ q1644 q1645 q115 q1646 ⟨cn_33.1, cn_33.2, pd_18⟩ dX1_addGantry_9) hd_no, m_cs⟩ (
  lkp_c (P := OkP 173) ⟨(PuOK.ok (ok_aload_n dX1_addGantry_12 rfl)), m_aload⟩ (
  lkp_c (P := OkP 173) ⟨ok_get ⟨"TollRoad", q664, Or.inl rfl⟩ dX1_addGantry_13, m_get⟩ (
  lkp_c (P := OkP 173) ⟨ok_getN ⟨"TollRoad$World", "TollRoad", q627, Or.inl rfl⟩ dX1_addGantry_16, m_get⟩ (
  lkp_c (P := OkP 173) ⟨ok_getN ⟨"TollRoad$Network", "TollRoad", q209, Or.inl rfl⟩ dX1_addGantry_19, m_get⟩ (
  lkp_c (P := OkP 173) ⟨(PuOK.ok (ok_bipush dX1_addGantry_22 rfl)), m_push⟩ (
  lkp_c (P := OkP 173) ⟨(PuOK.ok (ok_icmp_ge dX1_addGantry_24 rfl)), m_icmp⟩ (
  lkp_c (P := OkP 173) ⟨(PuOK.ok (ok_iconst dX1_addGantry_27 rfl)), m_push⟩ (
  lkp_c (P := OkP 173) ⟨(PuOK.ok (ok_goto dX1_addGantry_28 rfl)), m_goto⟩ (
  lkp_c (P := OkP 173) ⟨(PuOK.ok (ok_iconst dX1_addGantry_31 rfl)), m_push⟩ (
  lkp_c (P := OkP 173) ⟨ok_cs (tg_S ⟨rfl, by decide⟩ q1611 q1612 q115 q1613 ⟨cn_33.1, cn_33.2, pd_18⟩ dX1_addGantry_32) hd_no, m_cs⟩ (
  lkp_c (P := OkP 173) ⟨(PuOK.ok (ok_aload_n dX1_addGantry_35 rfl)), m_aload⟩ (
  lkp_c (P := OkP 173) ⟨ok_get ⟨"TollRoad", q664, Or.inl rfl⟩ dX1_addGantry_36, m_get⟩ (
  lkp_c (P := OkP 173) ⟨ok_getN ⟨"TollRoad$World", "TollRoad", q627, Or.inl rfl⟩ dX1_addGantry_39, m_get⟩ (
  lkp_c (P := OkP 173) ⟨(PuOK.ok (ok_iload_n dX1_addGantry_42 rfl)), m_iload⟩ (
  lkp_c (P := OkP 173) ⟨ok_cv (List.forall_mem_cons.mpr ⟨tg_V (ci := 2) (r := CLr 2) (y := 283) rfl ⟨rfl, by decide⟩ rfl q1660 q1416 q1417 q117 q1418 ⟨cn_40.1, cn_40.2, pd_48⟩ dX1_addGantry_43, (List.forall_mem_nil _)⟩) hd_no, m_cv⟩ (
  lkp_c (P := OkP 173) ⟨ok_iret rfl rfl (by decide) dX1_addGantry_46, m_ret⟩ (
  trivial))))))))))))))))))))))
theorem mt_173 : MtOK TB NT IT 173 := ⟨by decide +kernel, rfl, (fun h => by cases h), Or.inl ⟨rfl, rfl⟩, rfl, by decide, lk2_all (P := OkP 173) ⟨c_173_0, trivial⟩⟩
def dkwX1_addRoad_4 : List UInt8 := [28, 29, 21, 4, 182, 0, 104, 172]
abbrev dktX1_addRoad_4 : List UInt8 := dkwX1_addRoad_4 ++ []
def dkwX1_addRoad_3 : List UInt8 := [180, 0, 101, 16, 40, 162, 0, 7, 4, 167, 0, 4, 3, 184, 0, 82, 42, 180, 0, 19, 180, 0, 37, 27]
abbrev dktX1_addRoad_3 : List UInt8 := dkwX1_addRoad_3 ++ dktX1_addRoad_4
def dkwX1_addRoad_2 : List UInt8 := [42, 180, 0, 19, 180, 0, 37, 27, 28, 182, 0, 97, 199, 0, 22, 42, 180, 0, 19, 180, 0, 37]
abbrev dktX1_addRoad_2 : List UInt8 := dkwX1_addRoad_2 ++ dktX1_addRoad_3
def dkwX1_addRoad_1 : List UInt8 := [153, 0, 20, 21, 4, 133, 9, 20, 0, 95, 184, 0, 46, 153, 0, 7, 4, 167, 0, 4, 3, 184, 0, 79]
abbrev dktX1_addRoad_1 : List UInt8 := dkwX1_addRoad_1 ++ dktX1_addRoad_2
def dkwX1_addRoad_0 : List UInt8 := [42, 27, 182, 0, 89, 42, 28, 182, 0, 89, 27, 28, 159, 0, 32, 29, 133, 10, 20, 0, 93, 184, 0, 46]
abbrev dktX1_addRoad_0 : List UInt8 := dkwX1_addRoad_0 ++ dktX1_addRoad_1
theorem dksX1_addRoad_0 : cX1_addRoad.data.toList.drop 0 = dktX1_addRoad_0 := by decide +kernel
theorem dksX1_addRoad_1 : cX1_addRoad.data.toList.drop 24 = dktX1_addRoad_1 := dk_seg dksX1_addRoad_0 24 rfl rfl
theorem dksX1_addRoad_2 : cX1_addRoad.data.toList.drop 48 = dktX1_addRoad_2 := dk_seg dksX1_addRoad_1 24 rfl rfl
theorem dksX1_addRoad_3 : cX1_addRoad.data.toList.drop 70 = dktX1_addRoad_3 := dk_seg dksX1_addRoad_2 22 rfl rfl
theorem dksX1_addRoad_4 : cX1_addRoad.data.toList.drop 94 = dktX1_addRoad_4 := dk_seg dksX1_addRoad_3 24 rfl rfl
theorem dX1_addRoad_0 : decode cX1_addRoad 0 = .ok (.aload_n 0, 1) := dk_42 (dk_at dksX1_addRoad_0 0 rfl rfl)
theorem dX1_addRoad_1 : decode cX1_addRoad 1 = .ok (.iload_n 1, 1) := dk_27 (dk_at dksX1_addRoad_0 1 rfl rfl)
theorem dX1_addRoad_2 : decode cX1_addRoad 2 = .ok (.invokevirtual 89, 3) := dk_182 0 89 (dk_at dksX1_addRoad_0 2 rfl rfl)
theorem dX1_addRoad_5 : decode cX1_addRoad 5 = .ok (.aload_n 0, 1) := dk_42 (dk_at dksX1_addRoad_0 5 rfl rfl)
theorem dX1_addRoad_6 : decode cX1_addRoad 6 = .ok (.iload_n 2, 1) := dk_28 (dk_at dksX1_addRoad_0 6 rfl rfl)
theorem dX1_addRoad_7 : decode cX1_addRoad 7 = .ok (.invokevirtual 89, 3) := dk_182 0 89 (dk_at dksX1_addRoad_0 7 rfl rfl)
theorem dX1_addRoad_10 : decode cX1_addRoad 10 = .ok (.iload_n 1, 1) := dk_27 (dk_at dksX1_addRoad_0 10 rfl rfl)
theorem dX1_addRoad_11 : decode cX1_addRoad 11 = .ok (.iload_n 2, 1) := dk_28 (dk_at dksX1_addRoad_0 11 rfl rfl)
theorem dX1_addRoad_12 : decode cX1_addRoad 12 = .ok (.if_icmp .eq 32, 3) := dk_159 0 32 (dk_at dksX1_addRoad_0 12 rfl rfl)
theorem dX1_addRoad_15 : decode cX1_addRoad 15 = .ok (.iload_n 3, 1) := dk_29 (dk_at dksX1_addRoad_0 15 rfl rfl)
theorem dX1_addRoad_16 : decode cX1_addRoad 16 = .ok (.i2l, 1) := dk_133 (dk_at dksX1_addRoad_0 16 rfl rfl)
theorem dX1_addRoad_17 : decode cX1_addRoad 17 = .ok (.lconst 1, 1) := dk_10 (dk_at dksX1_addRoad_0 17 rfl rfl)
theorem dX1_addRoad_18 : decode cX1_addRoad 18 = .ok (.ldc2_w 93, 3) := dk_20 0 93 (dk_at dksX1_addRoad_0 18 rfl rfl)
theorem dX1_addRoad_21 : decode cX1_addRoad 21 = .ok (.invokestatic 46, 3) := dk_184 0 46 (dk_at dksX1_addRoad_0 21 rfl rfl)
theorem dX1_addRoad_24 : decode cX1_addRoad 24 = .ok (.ifCond .eq 20, 3) := dk_153 0 20 (dk_at dksX1_addRoad_1 0 rfl rfl)
theorem dX1_addRoad_27 : decode cX1_addRoad 27 = .ok (.iload 4, 2) := dk_21 4 (dk_at dksX1_addRoad_1 3 rfl rfl)
theorem dX1_addRoad_29 : decode cX1_addRoad 29 = .ok (.i2l, 1) := dk_133 (dk_at dksX1_addRoad_1 5 rfl rfl)
theorem dX1_addRoad_30 : decode cX1_addRoad 30 = .ok (.lconst 0, 1) := dk_9 (dk_at dksX1_addRoad_1 6 rfl rfl)
theorem dX1_addRoad_31 : decode cX1_addRoad 31 = .ok (.ldc2_w 95, 3) := dk_20 0 95 (dk_at dksX1_addRoad_1 7 rfl rfl)
theorem dX1_addRoad_34 : decode cX1_addRoad 34 = .ok (.invokestatic 46, 3) := dk_184 0 46 (dk_at dksX1_addRoad_1 10 rfl rfl)
theorem dX1_addRoad_37 : decode cX1_addRoad 37 = .ok (.ifCond .eq 7, 3) := dk_153 0 7 (dk_at dksX1_addRoad_1 13 rfl rfl)
theorem dX1_addRoad_40 : decode cX1_addRoad 40 = .ok (.iconst 1, 1) := dk_4 (dk_at dksX1_addRoad_1 16 rfl rfl)
theorem dX1_addRoad_41 : decode cX1_addRoad 41 = .ok (.goto 4, 3) := dk_167 0 4 (dk_at dksX1_addRoad_1 17 rfl rfl)
theorem dX1_addRoad_44 : decode cX1_addRoad 44 = .ok (.iconst 0, 1) := dk_3 (dk_at dksX1_addRoad_1 20 rfl rfl)
theorem dX1_addRoad_45 : decode cX1_addRoad 45 = .ok (.invokestatic 79, 3) := dk_184 0 79 (dk_at dksX1_addRoad_1 21 rfl rfl)
theorem dX1_addRoad_48 : decode cX1_addRoad 48 = .ok (.aload_n 0, 1) := dk_42 (dk_at dksX1_addRoad_2 0 rfl rfl)
theorem dX1_addRoad_49 : decode cX1_addRoad 49 = .ok (.getfield 19, 3) := dk_180 0 19 (dk_at dksX1_addRoad_2 1 rfl rfl)
theorem dX1_addRoad_52 : decode cX1_addRoad 52 = .ok (.getfield 37, 3) := dk_180 0 37 (dk_at dksX1_addRoad_2 4 rfl rfl)
theorem dX1_addRoad_55 : decode cX1_addRoad 55 = .ok (.iload_n 1, 1) := dk_27 (dk_at dksX1_addRoad_2 7 rfl rfl)
theorem dX1_addRoad_56 : decode cX1_addRoad 56 = .ok (.iload_n 2, 1) := dk_28 (dk_at dksX1_addRoad_2 8 rfl rfl)
theorem dX1_addRoad_57 : decode cX1_addRoad 57 = .ok (.invokevirtual 97, 3) := dk_182 0 97 (dk_at dksX1_addRoad_2 9 rfl rfl)
theorem dX1_addRoad_60 : decode cX1_addRoad 60 = .ok (.ifnonnull 22, 3) := dk_199 0 22 (dk_at dksX1_addRoad_2 12 rfl rfl)
theorem dX1_addRoad_63 : decode cX1_addRoad 63 = .ok (.aload_n 0, 1) := dk_42 (dk_at dksX1_addRoad_2 15 rfl rfl)
theorem dX1_addRoad_64 : decode cX1_addRoad 64 = .ok (.getfield 19, 3) := dk_180 0 19 (dk_at dksX1_addRoad_2 16 rfl rfl)
theorem dX1_addRoad_67 : decode cX1_addRoad 67 = .ok (.getfield 37, 3) := dk_180 0 37 (dk_at dksX1_addRoad_2 19 rfl rfl)
theorem dX1_addRoad_70 : decode cX1_addRoad 70 = .ok (.getfield 101, 3) := dk_180 0 101 (dk_at dksX1_addRoad_3 0 rfl rfl)
theorem dX1_addRoad_73 : decode cX1_addRoad 73 = .ok (.bipush 40, 2) := dk_16 40 (dk_at dksX1_addRoad_3 3 rfl rfl)
theorem dX1_addRoad_75 : decode cX1_addRoad 75 = .ok (.if_icmp .ge 7, 3) := dk_162 0 7 (dk_at dksX1_addRoad_3 5 rfl rfl)
theorem dX1_addRoad_78 : decode cX1_addRoad 78 = .ok (.iconst 1, 1) := dk_4 (dk_at dksX1_addRoad_3 8 rfl rfl)
theorem dX1_addRoad_79 : decode cX1_addRoad 79 = .ok (.goto 4, 3) := dk_167 0 4 (dk_at dksX1_addRoad_3 9 rfl rfl)
theorem dX1_addRoad_82 : decode cX1_addRoad 82 = .ok (.iconst 0, 1) := dk_3 (dk_at dksX1_addRoad_3 12 rfl rfl)
theorem dX1_addRoad_83 : decode cX1_addRoad 83 = .ok (.invokestatic 82, 3) := dk_184 0 82 (dk_at dksX1_addRoad_3 13 rfl rfl)
theorem dX1_addRoad_86 : decode cX1_addRoad 86 = .ok (.aload_n 0, 1) := dk_42 (dk_at dksX1_addRoad_3 16 rfl rfl)
theorem dX1_addRoad_87 : decode cX1_addRoad 87 = .ok (.getfield 19, 3) := dk_180 0 19 (dk_at dksX1_addRoad_3 17 rfl rfl)
theorem dX1_addRoad_90 : decode cX1_addRoad 90 = .ok (.getfield 37, 3) := dk_180 0 37 (dk_at dksX1_addRoad_3 20 rfl rfl)
theorem dX1_addRoad_93 : decode cX1_addRoad 93 = .ok (.iload_n 1, 1) := dk_27 (dk_at dksX1_addRoad_3 23 rfl rfl)
theorem dX1_addRoad_94 : decode cX1_addRoad 94 = .ok (.iload_n 2, 1) := dk_28 (dk_at dksX1_addRoad_4 0 rfl rfl)
theorem dX1_addRoad_95 : decode cX1_addRoad 95 = .ok (.iload_n 3, 1) := dk_29 (dk_at dksX1_addRoad_4 1 rfl rfl)
theorem dX1_addRoad_96 : decode cX1_addRoad 96 = .ok (.iload 4, 2) := dk_21 4 (dk_at dksX1_addRoad_4 2 rfl rfl)
theorem dX1_addRoad_98 : decode cX1_addRoad 98 = .ok (.invokevirtual 104, 3) := dk_182 0 104 (dk_at dksX1_addRoad_4 4 rfl rfl)
theorem dX1_addRoad_101 : decode cX1_addRoad 101 = .ok (.ireturn, 1) := dk_172 (dk_at dksX1_addRoad_4 7 rfl rfl)
theorem c_174_0 : LkP (OkP 174) [(0, o_aload 0 1), (1, o_iload 1 1), (2, o_cv [(0, 175)] 1 3 true none), (5, o_aload 0 1), (6, o_iload 2 1), (7, o_cv [(0, 175)] 1 3 true none), (10, o_iload 1 1), (11, o_iload 2 1), (12, o_icmp (fun x y => decide (x = y)) 44), (15, o_iload 3 1), (16, o_i2l), (17, o_push 1 (.long 1)), (18, o_push 3 (.long 60)), (21, o_cs 165 3 false none), (24, o_if (fun x => decide (x = 0)) 44), (27, o_iload 4 2), (29, o_i2l), (30, o_push 1 (.long 0)), (31, o_push 3 (.long 999)), (34, o_cs 165 3 false none), (37, o_if (fun x => decide (x = 0)) 44), (40, o_push 1 (.int 1)), (41, o_goto 45), (44, o_push 1 (.int 0)), (45, o_cs 172 1 true none), (48, o_aload 0 1), (49, o_get 0), (52, o_get 6), (55, o_iload 1 1), (56, o_iload 2 1), (57, o_cv [(2, 284)] 2 3 false none), (60, o_ifnonnull 82), (63, o_aload 0 1)] := lkp_c (P := OkP 174) ⟨(PuOK.ok (ok_aload_n dX1_addRoad_0 rfl)), m_aload⟩ (
  lkp_c (P := OkP 174) ⟨(PuOK.ok (ok_iload_n dX1_addRoad_1 rfl)), m_iload⟩ (
  lkp_c (P := OkP 174) ⟨ok_cv (List.forall_mem_cons.mpr ⟨tg_V (ci := 0) (r := CLr 0) (y := 175) rfl ⟨rfl, by decide⟩ rfl q1687 q1689 qs13 q115 q1690 ⟨cn_33.1, cn_33.2, pd_9⟩ dX1_addRoad_2, (List.forall_mem_nil _)⟩) hd_no, m_cv⟩ (
  lkp_c (P := OkP 174) ⟨(PuOK.ok (ok_aload_n dX1_addRoad_5 rfl)), m_aload⟩ (
  lkp_c (P := OkP 174) ⟨(PuOK.ok (ok_iload_n dX1_addRoad_6 rfl)), m_iload⟩ (
  lkp_c (P := OkP 174) ⟨ok_cv (List.forall_mem_cons.mpr ⟨tg_V (ci := 0) (r := CLr 0) (y := 175) rfl ⟨rfl, by decide⟩ rfl q1687 q1689 qs13 q115 q1690 ⟨cn_33.1, cn_33.2, pd_9⟩ dX1_addRoad_7, (List.forall_mem_nil _)⟩) hd_no, m_cv⟩ (
  lkp_c (P := OkP 174) ⟨(PuOK.ok (ok_iload_n dX1_addRoad_10 rfl)), m_iload⟩ (
  lkp_c (P := OkP 174) ⟨(PuOK.ok (ok_iload_n dX1_addRoad_11 rfl)), m_iload⟩ (
  lkp_c (P := OkP 174) ⟨(PuOK.ok (ok_icmp_eq dX1_addRoad_12 rfl)), m_icmp⟩ (
  lkp_c (P := OkP 174) ⟨(PuOK.ok (ok_iload_n dX1_addRoad_15 rfl)), m_iload⟩ (
  lkp_c (P := OkP 174) ⟨(PuOK.ok (ok_i2l dX1_addRoad_16)), m_i2l⟩ (
  lkp_c (P := OkP 174) ⟨(PuOK.ok (ok_lconst dX1_addRoad_17 rfl)), m_push⟩ (
  lkp_c (P := OkP 174) ⟨(PuOK.ok (ok_ldc2 q1709 dX1_addRoad_18)), m_push⟩ (
  lkp_c (P := OkP 174) ⟨ok_cs (tg_S ⟨rfl, by decide⟩ q1643 q1284 q115 q1285 ⟨cn_33.1, cn_33.2, pd_74⟩ dX1_addRoad_21) hd_no, m_cs⟩ (
  lkp_c (P := OkP 174) ⟨(PuOK.ok (ok_if_eq dX1_addRoad_24 rfl)), m_if⟩ (
  lkp_c (P := OkP 174) ⟨(PuOK.ok (ok_iload dX1_addRoad_27)), m_iload⟩ (
  lkp_c (P := OkP 174) ⟨(PuOK.ok (ok_i2l dX1_addRoad_29)), m_i2l⟩ (
  lkp_c (P := OkP 174) ⟨(PuOK.ok (ok_lconst dX1_addRoad_30 rfl)), m_push⟩ (
  lkp_c (P := OkP 174) ⟨(PuOK.ok (ok_ldc2 q1710 dX1_addRoad_31)), m_push⟩ (
  lkp_c (P := OkP 174) ⟨ok_cs (tg_S ⟨rfl, by decide⟩ q1643 q1284 q115 q1285 ⟨cn_33.1, cn_33.2, pd_74⟩ dX1_addRoad_34) hd_no, m_cs⟩ (
  lkp_c (P := OkP 174) ⟨(PuOK.ok (ok_if_eq dX1_addRoad_37 rfl)), m_if⟩ (
  lkp_c (P := OkP 174) ⟨(PuOK.ok (ok_iconst dX1_addRoad_40 rfl)), m_push⟩ (
  lkp_c (P := OkP 174) ⟨(PuOK.ok (ok_goto dX1_addRoad_41 rfl)), m_goto⟩ (
  lkp_c (P := OkP 174) ⟨(PuOK.ok (ok_iconst dX1_addRoad_44 rfl)), m_push⟩ (
  lkp_c (P := OkP 174) ⟨ok_cs (tg_S ⟨rfl, by decide⟩ q1644 q1645 q115 q1646 ⟨cn_33.1, cn_33.2, pd_18⟩ dX1_addRoad_45) hd_no, m_cs⟩ (
  lkp_c (P := OkP 174) ⟨(PuOK.ok (ok_aload_n dX1_addRoad_48 rfl)), m_aload⟩ (
  lkp_c (P := OkP 174) ⟨ok_get ⟨"TollRoad", q664, Or.inl rfl⟩ dX1_addRoad_49, m_get⟩ (
  lkp_c (P := OkP 174) ⟨ok_getN ⟨"TollRoad$World", "TollRoad", q627, Or.inl rfl⟩ dX1_addRoad_52, m_get⟩ (
  lkp_c (P := OkP 174) ⟨(PuOK.ok (ok_iload_n dX1_addRoad_55 rfl)), m_iload⟩ (
  lkp_c (P := OkP 174) ⟨(PuOK.ok (ok_iload_n dX1_addRoad_56 rfl)), m_iload⟩ (
  lkp_c (P := OkP 174) ⟨ok_cv (List.forall_mem_cons.mpr ⟨tg_V (ci := 2) (r := CLr 2) (y := 284) rfl ⟨rfl, by decide⟩ rfl q1711 q1424 q1425 q117 q1426 ⟨cn_40.1, cn_40.2, pd_75⟩ dX1_addRoad_57, (List.forall_mem_nil _)⟩) hd_no, m_cv⟩ (
  lkp_c (P := OkP 174) ⟨(PuOK.ok (ok_ifnonnull dX1_addRoad_60 rfl)), m_ifnonnull⟩ (
  lkp_c (P := OkP 174) ⟨(PuOK.ok (ok_aload_n dX1_addRoad_63 rfl)), m_aload⟩ (
  trivial)))))))))))))))))))))))))))))))))
theorem c_174_1 : LkP (OkP 174) [(64, o_get 0), (67, o_get 6), (70, o_get 17), (73, o_push 2 (.int 40)), (75, o_icmp (fun x y => decide (y ≤ x)) 82), (78, o_push 1 (.int 1)), (79, o_goto 83), (82, o_push 1 (.int 0)), (83, o_cs 170 1 true none), (86, o_aload 0 1), (87, o_get 0), (90, o_get 6), (93, o_iload 1 1), (94, o_iload 2 1), (95, o_iload 3 1), (96, o_iload 4 2), (98, o_cv [(2, 285)] 4 3 false none), (101, o_ret 1)] := lkp_c (P := OkP 174) ⟨ok_get ⟨"TollRoad", q664, Or.inl rfl⟩ dX1_addRoad_64, m_get⟩ (
  lkp_c (P := OkP 174) ⟨ok_getN ⟨"TollRoad$World", "TollRoad", q627, Or.inl rfl⟩ dX1_addRoad_67, m_get⟩ (
  lkp_c (P := OkP 174) ⟨ok_getN ⟨"TollRoad$Network", "TollRoad", q214, Or.inl rfl⟩ dX1_addRoad_70, m_get⟩ (
  lkp_c (P := OkP 174) ⟨(PuOK.ok (ok_bipush dX1_addRoad_73 rfl)), m_push⟩ (
  lkp_c (P := OkP 174) ⟨(PuOK.ok (ok_icmp_ge dX1_addRoad_75 rfl)), m_icmp⟩ (
  lkp_c (P := OkP 174) ⟨(PuOK.ok (ok_iconst dX1_addRoad_78 rfl)), m_push⟩ (
  lkp_c (P := OkP 174) ⟨(PuOK.ok (ok_goto dX1_addRoad_79 rfl)), m_goto⟩ (
  lkp_c (P := OkP 174) ⟨(PuOK.ok (ok_iconst dX1_addRoad_82 rfl)), m_push⟩ (
  lkp_c (P := OkP 174) ⟨ok_cs (tg_S ⟨rfl, by decide⟩ q1611 q1612 q115 q1613 ⟨cn_33.1, cn_33.2, pd_18⟩ dX1_addRoad_83) hd_no, m_cs⟩ (
  lkp_c (P := OkP 174) ⟨(PuOK.ok (ok_aload_n dX1_addRoad_86 rfl)), m_aload⟩ (
  lkp_c (P := OkP 174) ⟨ok_get ⟨"TollRoad", q664, Or.inl rfl⟩ dX1_addRoad_87, m_get⟩ (
  lkp_c (P := OkP 174) ⟨ok_getN ⟨"TollRoad$World", "TollRoad", q627, Or.inl rfl⟩ dX1_addRoad_90, m_get⟩ (
  lkp_c (P := OkP 174) ⟨(PuOK.ok (ok_iload_n dX1_addRoad_93 rfl)), m_iload⟩ (
  lkp_c (P := OkP 174) ⟨(PuOK.ok (ok_iload_n dX1_addRoad_94 rfl)), m_iload⟩ (
  lkp_c (P := OkP 174) ⟨(PuOK.ok (ok_iload_n dX1_addRoad_95 rfl)), m_iload⟩ (
  lkp_c (P := OkP 174) ⟨(PuOK.ok (ok_iload dX1_addRoad_96)), m_iload⟩ (
  lkp_c (P := OkP 174) ⟨ok_cv (List.forall_mem_cons.mpr ⟨tg_V (ci := 2) (r := CLr 2) (y := 285) rfl ⟨rfl, by decide⟩ rfl q1712 q1428 q1429 q117 q1430 ⟨cn_40.1, cn_40.2, pd_62⟩ dX1_addRoad_98, (List.forall_mem_nil _)⟩) hd_no, m_cv⟩ (
  lkp_c (P := OkP 174) ⟨ok_iret rfl rfl (by decide) dX1_addRoad_101, m_ret⟩ (
  trivial))))))))))))))))))
theorem mt_174 : MtOK TB NT IT 174 := ⟨by decide +kernel, rfl, (fun h => by cases h), Or.inl ⟨rfl, rfl⟩, rfl, by decide, lk2_all (P := OkP 174) ⟨c_174_0, c_174_1, trivial⟩⟩
def dkwX1_checkGantry_0 : List UInt8 := [27, 133, 9, 42, 180, 0, 19, 180, 0, 37, 180, 0, 41, 4, 100, 133, 184, 0, 46, 184, 0, 50, 177]
abbrev dktX1_checkGantry_0 : List UInt8 := dkwX1_checkGantry_0 ++ []
theorem dksX1_checkGantry_0 : cX1_checkGantry.data.toList.drop 0 = dktX1_checkGantry_0 := by decide +kernel
theorem dX1_checkGantry_0 : decode cX1_checkGantry 0 = .ok (.iload_n 1, 1) := dk_27 (dk_at dksX1_checkGantry_0 0 rfl rfl)
theorem dX1_checkGantry_1 : decode cX1_checkGantry 1 = .ok (.i2l, 1) := dk_133 (dk_at dksX1_checkGantry_0 1 rfl rfl)
theorem dX1_checkGantry_2 : decode cX1_checkGantry 2 = .ok (.lconst 0, 1) := dk_9 (dk_at dksX1_checkGantry_0 2 rfl rfl)
theorem dX1_checkGantry_3 : decode cX1_checkGantry 3 = .ok (.aload_n 0, 1) := dk_42 (dk_at dksX1_checkGantry_0 3 rfl rfl)
theorem dX1_checkGantry_4 : decode cX1_checkGantry 4 = .ok (.getfield 19, 3) := dk_180 0 19 (dk_at dksX1_checkGantry_0 4 rfl rfl)
theorem dX1_checkGantry_7 : decode cX1_checkGantry 7 = .ok (.getfield 37, 3) := dk_180 0 37 (dk_at dksX1_checkGantry_0 7 rfl rfl)
theorem dX1_checkGantry_10 : decode cX1_checkGantry 10 = .ok (.getfield 41, 3) := dk_180 0 41 (dk_at dksX1_checkGantry_0 10 rfl rfl)
theorem dX1_checkGantry_13 : decode cX1_checkGantry 13 = .ok (.iconst 1, 1) := dk_4 (dk_at dksX1_checkGantry_0 13 rfl rfl)
theorem dX1_checkGantry_14 : decode cX1_checkGantry 14 = .ok (.isub, 1) := dk_100 (dk_at dksX1_checkGantry_0 14 rfl rfl)
theorem dX1_checkGantry_15 : decode cX1_checkGantry 15 = .ok (.i2l, 1) := dk_133 (dk_at dksX1_checkGantry_0 15 rfl rfl)
theorem dX1_checkGantry_16 : decode cX1_checkGantry 16 = .ok (.invokestatic 46, 3) := dk_184 0 46 (dk_at dksX1_checkGantry_0 16 rfl rfl)
theorem dX1_checkGantry_19 : decode cX1_checkGantry 19 = .ok (.invokestatic 50, 3) := dk_184 0 50 (dk_at dksX1_checkGantry_0 19 rfl rfl)
theorem dX1_checkGantry_22 : decode cX1_checkGantry 22 = .ok (.return_, 1) := dk_177 (dk_at dksX1_checkGantry_0 22 rfl rfl)
theorem c_175_0 : LkP (OkP 175) [(0, o_iload 1 1), (1, o_i2l), (2, o_push 1 (.long 0)), (3, o_aload 0 1), (4, o_get 0), (7, o_get 6), (10, o_get 15), (13, o_push 1 (.int 1)), (14, o_iop (fun x y => x - y)), (15, o_i2l), (16, o_cs 165 3 false none), (19, o_cs 176 1 true none), (22, o_vret)] := lkp_c (P := OkP 175) ⟨(PuOK.ok (ok_iload_n dX1_checkGantry_0 rfl)), m_iload⟩ (
  lkp_c (P := OkP 175) ⟨(PuOK.ok (ok_i2l dX1_checkGantry_1)), m_i2l⟩ (
  lkp_c (P := OkP 175) ⟨(PuOK.ok (ok_lconst dX1_checkGantry_2 rfl)), m_push⟩ (
  lkp_c (P := OkP 175) ⟨(PuOK.ok (ok_aload_n dX1_checkGantry_3 rfl)), m_aload⟩ (
  lkp_c (P := OkP 175) ⟨ok_get ⟨"TollRoad", q664, Or.inl rfl⟩ dX1_checkGantry_4, m_get⟩ (
  lkp_c (P := OkP 175) ⟨ok_getN ⟨"TollRoad$World", "TollRoad", q627, Or.inl rfl⟩ dX1_checkGantry_7, m_get⟩ (
  lkp_c (P := OkP 175) ⟨ok_getN ⟨"TollRoad$Network", "TollRoad", q209, Or.inl rfl⟩ dX1_checkGantry_10, m_get⟩ (
  lkp_c (P := OkP 175) ⟨(PuOK.ok (ok_iconst dX1_checkGantry_13 rfl)), m_push⟩ (
  lkp_c (P := OkP 175) ⟨(PuOK.ok (ok_isub dX1_checkGantry_14)), m_iop⟩ (
  lkp_c (P := OkP 175) ⟨(PuOK.ok (ok_i2l dX1_checkGantry_15)), m_i2l⟩ (
  lkp_c (P := OkP 175) ⟨ok_cs (tg_S ⟨rfl, by decide⟩ q1643 q1284 q115 q1285 ⟨cn_33.1, cn_33.2, pd_74⟩ dX1_checkGantry_16) hd_no, m_cs⟩ (
  lkp_c (P := OkP 175) ⟨ok_cs (tg_S ⟨rfl, by decide⟩ q1691 q1692 q115 q1693 ⟨cn_33.1, cn_33.2, pd_18⟩ dX1_checkGantry_19) hd_no, m_cs⟩ (
  lkp_c (P := OkP 175) ⟨ok_vret rfl dX1_checkGantry_22, m_vret⟩ (
  trivial)))))))))))))
theorem mt_175 : MtOK TB NT IT 175 := ⟨by decide +kernel, rfl, (fun h => by cases h), Or.inl ⟨rfl, rfl⟩, rfl, by decide, lk2_all (P := OkP 175) ⟨c_175_0, trivial⟩⟩
def dkwX1_checkIndex_0 : List UInt8 := [26, 154, 0, 11, 187, 0, 1, 89, 183, 0, 3, 191, 177]
abbrev dktX1_checkIndex_0 : List UInt8 := dkwX1_checkIndex_0 ++ []
theorem dksX1_checkIndex_0 : cX1_checkIndex.data.toList.drop 0 = dktX1_checkIndex_0 := by decide +kernel
theorem dX1_checkIndex_0 : decode cX1_checkIndex 0 = .ok (.iload_n 0, 1) := dk_26 (dk_at dksX1_checkIndex_0 0 rfl rfl)
theorem dX1_checkIndex_1 : decode cX1_checkIndex 1 = .ok (.ifCond .ne 11, 3) := dk_154 0 11 (dk_at dksX1_checkIndex_0 1 rfl rfl)
theorem dX1_checkIndex_4 : decode cX1_checkIndex 4 = .ok (.new 1, 3) := dk_187 0 1 (dk_at dksX1_checkIndex_0 4 rfl rfl)
theorem dX1_checkIndex_7 : decode cX1_checkIndex 7 = .ok (.dup, 1) := dk_89 (dk_at dksX1_checkIndex_0 7 rfl rfl)
theorem dX1_checkIndex_8 : decode cX1_checkIndex 8 = .ok (.invokespecial 3, 3) := dk_183 0 3 (dk_at dksX1_checkIndex_0 8 rfl rfl)
theorem dX1_checkIndex_11 : decode cX1_checkIndex 11 = .ok (.athrow, 1) := dk_191 (dk_at dksX1_checkIndex_0 11 rfl rfl)
theorem dX1_checkIndex_12 : decode cX1_checkIndex 12 = .ok (.return_, 1) := dk_177 (dk_at dksX1_checkIndex_0 12 rfl rfl)
theorem c_176_0 : LkP (OkP 176) [(0, o_iload 0 1), (1, o_if (fun x => decide (¬ x = 0)) 12), (4, o_thr0 31), (7, o_dup), (12, o_vret)] := lkp_c (P := OkP 176) ⟨(PuOK.ok (ok_iload_n dX1_checkIndex_0 rfl)), m_iload⟩ (
  lkp_c (P := OkP 176) ⟨(PuOK.ok (ok_if_ne dX1_checkIndex_1 rfl)), m_if⟩ (
  lkp_c (P := OkP 176) ⟨ok_thr0 (r := CLr 31) (names := ["java/lang/RuntimeException", "java/lang/Exception"]) rfl rfl (by decide +kernel) (by decide +kernel) (by decide) q1694 q148 th3_31 th4_31 (by decide +kernel) hd_no dX1_checkIndex_4 dX1_checkIndex_7 dX1_checkIndex_8 dX1_checkIndex_11, m_thr0⟩ (
  lkp_c (P := OkP 176) ⟨(PuOK.ok (ok_dup dX1_checkIndex_7)), m_dup⟩ (
  lkp_c (P := OkP 176) ⟨ok_vret rfl dX1_checkIndex_12, m_vret⟩ (
  trivial)))))
theorem mt_176 : MtOK TB NT IT 176 := ⟨by decide +kernel, rfl, (fun h => by cases h), Or.inl ⟨rfl, rfl⟩, rfl, by decide, lk2_all (P := OkP 176) ⟨c_176_0, trivial⟩⟩
def dkwX1_addAccount_3 : List UInt8 := [182, 0, 112, 172]
abbrev dktX1_addAccount_3 : List UInt8 := dkwX1_addAccount_3 ++ []
def dkwX1_addAccount_2 : List UInt8 := [180, 0, 70, 16, 8, 162, 0, 7, 4, 167, 0, 4, 3, 184, 0, 82, 42, 180, 0, 19, 27, 28, 29]
abbrev dktX1_addAccount_2 : List UInt8 := dkwX1_addAccount_2 ++ dktX1_addAccount_3
def dkwX1_addAccount_1 : List UInt8 := [29, 133, 9, 20, 0, 110, 184, 0, 46, 153, 0, 7, 4, 167, 0, 4, 3, 184, 0, 79, 42, 180, 0, 19]
abbrev dktX1_addAccount_1 : List UInt8 := dkwX1_addAccount_1 ++ dktX1_addAccount_2
def dkwX1_addAccount_0 : List UInt8 := [27, 133, 9, 20, 0, 108, 184, 0, 46, 153, 0, 31, 28, 133, 9, 20, 0, 110, 184, 0, 46, 153, 0, 19]
abbrev dktX1_addAccount_0 : List UInt8 := dkwX1_addAccount_0 ++ dktX1_addAccount_1
theorem dksX1_addAccount_0 : cX1_addAccount.data.toList.drop 0 = dktX1_addAccount_0 := by decide +kernel
theorem dksX1_addAccount_1 : cX1_addAccount.data.toList.drop 24 = dktX1_addAccount_1 := dk_seg dksX1_addAccount_0 24 rfl rfl
theorem dksX1_addAccount_2 : cX1_addAccount.data.toList.drop 48 = dktX1_addAccount_2 := dk_seg dksX1_addAccount_1 24 rfl rfl
theorem dksX1_addAccount_3 : cX1_addAccount.data.toList.drop 71 = dktX1_addAccount_3 := dk_seg dksX1_addAccount_2 23 rfl rfl
theorem dX1_addAccount_0 : decode cX1_addAccount 0 = .ok (.iload_n 1, 1) := dk_27 (dk_at dksX1_addAccount_0 0 rfl rfl)
theorem dX1_addAccount_1 : decode cX1_addAccount 1 = .ok (.i2l, 1) := dk_133 (dk_at dksX1_addAccount_0 1 rfl rfl)
theorem dX1_addAccount_2 : decode cX1_addAccount 2 = .ok (.lconst 0, 1) := dk_9 (dk_at dksX1_addAccount_0 2 rfl rfl)
theorem dX1_addAccount_3 : decode cX1_addAccount 3 = .ok (.ldc2_w 108, 3) := dk_20 0 108 (dk_at dksX1_addAccount_0 3 rfl rfl)
theorem dX1_addAccount_6 : decode cX1_addAccount 6 = .ok (.invokestatic 46, 3) := dk_184 0 46 (dk_at dksX1_addAccount_0 6 rfl rfl)
theorem dX1_addAccount_9 : decode cX1_addAccount 9 = .ok (.ifCond .eq 31, 3) := dk_153 0 31 (dk_at dksX1_addAccount_0 9 rfl rfl)
theorem dX1_addAccount_12 : decode cX1_addAccount 12 = .ok (.iload_n 2, 1) := dk_28 (dk_at dksX1_addAccount_0 12 rfl rfl)
theorem dX1_addAccount_13 : decode cX1_addAccount 13 = .ok (.i2l, 1) := dk_133 (dk_at dksX1_addAccount_0 13 rfl rfl)
theorem dX1_addAccount_14 : decode cX1_addAccount 14 = .ok (.lconst 0, 1) := dk_9 (dk_at dksX1_addAccount_0 14 rfl rfl)
theorem dX1_addAccount_15 : decode cX1_addAccount 15 = .ok (.ldc2_w 110, 3) := dk_20 0 110 (dk_at dksX1_addAccount_0 15 rfl rfl)
theorem dX1_addAccount_18 : decode cX1_addAccount 18 = .ok (.invokestatic 46, 3) := dk_184 0 46 (dk_at dksX1_addAccount_0 18 rfl rfl)
theorem dX1_addAccount_21 : decode cX1_addAccount 21 = .ok (.ifCond .eq 19, 3) := dk_153 0 19 (dk_at dksX1_addAccount_0 21 rfl rfl)
theorem dX1_addAccount_24 : decode cX1_addAccount 24 = .ok (.iload_n 3, 1) := dk_29 (dk_at dksX1_addAccount_1 0 rfl rfl)
theorem dX1_addAccount_25 : decode cX1_addAccount 25 = .ok (.i2l, 1) := dk_133 (dk_at dksX1_addAccount_1 1 rfl rfl)
theorem dX1_addAccount_26 : decode cX1_addAccount 26 = .ok (.lconst 0, 1) := dk_9 (dk_at dksX1_addAccount_1 2 rfl rfl)
theorem dX1_addAccount_27 : decode cX1_addAccount 27 = .ok (.ldc2_w 110, 3) := dk_20 0 110 (dk_at dksX1_addAccount_1 3 rfl rfl)
theorem dX1_addAccount_30 : decode cX1_addAccount 30 = .ok (.invokestatic 46, 3) := dk_184 0 46 (dk_at dksX1_addAccount_1 6 rfl rfl)
theorem dX1_addAccount_33 : decode cX1_addAccount 33 = .ok (.ifCond .eq 7, 3) := dk_153 0 7 (dk_at dksX1_addAccount_1 9 rfl rfl)
theorem dX1_addAccount_36 : decode cX1_addAccount 36 = .ok (.iconst 1, 1) := dk_4 (dk_at dksX1_addAccount_1 12 rfl rfl)
theorem dX1_addAccount_37 : decode cX1_addAccount 37 = .ok (.goto 4, 3) := dk_167 0 4 (dk_at dksX1_addAccount_1 13 rfl rfl)
theorem dX1_addAccount_40 : decode cX1_addAccount 40 = .ok (.iconst 0, 1) := dk_3 (dk_at dksX1_addAccount_1 16 rfl rfl)
theorem dX1_addAccount_41 : decode cX1_addAccount 41 = .ok (.invokestatic 79, 3) := dk_184 0 79 (dk_at dksX1_addAccount_1 17 rfl rfl)
theorem dX1_addAccount_44 : decode cX1_addAccount 44 = .ok (.aload_n 0, 1) := dk_42 (dk_at dksX1_addAccount_1 20 rfl rfl)
theorem dX1_addAccount_45 : decode cX1_addAccount 45 = .ok (.getfield 19, 3) := dk_180 0 19 (dk_at dksX1_addAccount_1 21 rfl rfl)
theorem dX1_addAccount_48 : decode cX1_addAccount 48 = .ok (.getfield 70, 3) := dk_180 0 70 (dk_at dksX1_addAccount_2 0 rfl rfl)
theorem dX1_addAccount_51 : decode cX1_addAccount 51 = .ok (.bipush 8, 2) := dk_16 8 (dk_at dksX1_addAccount_2 3 rfl rfl)
theorem dX1_addAccount_53 : decode cX1_addAccount 53 = .ok (.if_icmp .ge 7, 3) := dk_162 0 7 (dk_at dksX1_addAccount_2 5 rfl rfl)
theorem dX1_addAccount_56 : decode cX1_addAccount 56 = .ok (.iconst 1, 1) := dk_4 (dk_at dksX1_addAccount_2 8 rfl rfl)
theorem dX1_addAccount_57 : decode cX1_addAccount 57 = .ok (.goto 4, 3) := dk_167 0 4 (dk_at dksX1_addAccount_2 9 rfl rfl)
theorem dX1_addAccount_60 : decode cX1_addAccount 60 = .ok (.iconst 0, 1) := dk_3 (dk_at dksX1_addAccount_2 12 rfl rfl)
theorem dX1_addAccount_61 : decode cX1_addAccount 61 = .ok (.invokestatic 82, 3) := dk_184 0 82 (dk_at dksX1_addAccount_2 13 rfl rfl)
theorem dX1_addAccount_64 : decode cX1_addAccount 64 = .ok (.aload_n 0, 1) := dk_42 (dk_at dksX1_addAccount_2 16 rfl rfl)
theorem dX1_addAccount_65 : decode cX1_addAccount 65 = .ok (.getfield 19, 3) := dk_180 0 19 (dk_at dksX1_addAccount_2 17 rfl rfl)
theorem dX1_addAccount_68 : decode cX1_addAccount 68 = .ok (.iload_n 1, 1) := dk_27 (dk_at dksX1_addAccount_2 20 rfl rfl)
theorem dX1_addAccount_69 : decode cX1_addAccount 69 = .ok (.iload_n 2, 1) := dk_28 (dk_at dksX1_addAccount_2 21 rfl rfl)
theorem dX1_addAccount_70 : decode cX1_addAccount 70 = .ok (.iload_n 3, 1) := dk_29 (dk_at dksX1_addAccount_2 22 rfl rfl)
theorem dX1_addAccount_71 : decode cX1_addAccount 71 = .ok (.invokevirtual 112, 3) := dk_182 0 112 (dk_at dksX1_addAccount_3 0 rfl rfl)
theorem dX1_addAccount_74 : decode cX1_addAccount 74 = .ok (.ireturn, 1) := dk_172 (dk_at dksX1_addAccount_3 3 rfl rfl)
theorem c_177_0 : LkP (OkP 177) [(0, o_iload 1 1), (1, o_i2l), (2, o_push 1 (.long 0)), (3, o_push 3 (.long 100000)), (6, o_cs 165 3 false none), (9, o_if (fun x => decide (x = 0)) 40), (12, o_iload 2 1), (13, o_i2l), (14, o_push 1 (.long 0)), (15, o_push 3 (.long 50)), (18, o_cs 165 3 false none), (21, o_if (fun x => decide (x = 0)) 40), (24, o_iload 3 1), (25, o_i2l), (26, o_push 1 (.long 0)), (27, o_push 3 (.long 50)), (30, o_cs 165 3 false none), (33, o_if (fun x => decide (x = 0)) 40), (36, o_push 1 (.int 1)), (37, o_goto 41), (40, o_push 1 (.int 0)), (41, o_cs 172 1 true none), (44, o_aload 0 1), (45, o_get 0), (48, o_get 9), (51, o_push 2 (.int 8)), (53, o_icmp (fun x y => decide (y ≤ x)) 60), (56, o_push 1 (.int 1)), (57, o_goto 61), (60, o_push 1 (.int 0)), (61, o_cs 170 1 true none)] := lkp_c (P := OkP 177) ⟨(PuOK.ok (ok_iload_n dX1_addAccount_0 rfl)), m_iload⟩ (
  lkp_c (P := OkP 177) ⟨(PuOK.ok (ok_i2l dX1_addAccount_1)), m_i2l⟩ (
  lkp_c (P := OkP 177) ⟨(PuOK.ok (ok_lconst dX1_addAccount_2 rfl)), m_push⟩ (
  lkp_c (P := OkP 177) ⟨(PuOK.ok (ok_ldc2 q1720 dX1_addAccount_3)), m_push⟩ (
  lkp_c (P := OkP 177) ⟨ok_cs (tg_S ⟨rfl, by decide⟩ q1643 q1284 q115 q1285 ⟨cn_33.1, cn_33.2, pd_74⟩ dX1_addAccount_6) hd_no, m_cs⟩ (
  lkp_c (P := OkP 177) ⟨(PuOK.ok (ok_if_eq dX1_addAccount_9 rfl)), m_if⟩ (
  lkp_c (P := OkP 177) ⟨(PuOK.ok (ok_iload_n dX1_addAccount_12 rfl)), m_iload⟩ (
  lkp_c (P := OkP 177) ⟨(PuOK.ok (ok_i2l dX1_addAccount_13)), m_i2l⟩ (
  lkp_c (P := OkP 177) ⟨(PuOK.ok (ok_lconst dX1_addAccount_14 rfl)), m_push⟩ (
  lkp_c (P := OkP 177) ⟨(PuOK.ok (ok_ldc2 q1721 dX1_addAccount_15)), m_push⟩ (
  lkp_c (P := OkP 177) ⟨ok_cs (tg_S ⟨rfl, by decide⟩ q1643 q1284 q115 q1285 ⟨cn_33.1, cn_33.2, pd_74⟩ dX1_addAccount_18) hd_no, m_cs⟩ (
  lkp_c (P := OkP 177) ⟨(PuOK.ok (ok_if_eq dX1_addAccount_21 rfl)), m_if⟩ (
  lkp_c (P := OkP 177) ⟨(PuOK.ok (ok_iload_n dX1_addAccount_24 rfl)), m_iload⟩ (
  lkp_c (P := OkP 177) ⟨(PuOK.ok (ok_i2l dX1_addAccount_25)), m_i2l⟩ (
  lkp_c (P := OkP 177) ⟨(PuOK.ok (ok_lconst dX1_addAccount_26 rfl)), m_push⟩ (
  lkp_c (P := OkP 177) ⟨(PuOK.ok (ok_ldc2 q1721 dX1_addAccount_27)), m_push⟩ (
  lkp_c (P := OkP 177) ⟨ok_cs (tg_S ⟨rfl, by decide⟩ q1643 q1284 q115 q1285 ⟨cn_33.1, cn_33.2, pd_74⟩ dX1_addAccount_30) hd_no, m_cs⟩ (
  lkp_c (P := OkP 177) ⟨(PuOK.ok (ok_if_eq dX1_addAccount_33 rfl)), m_if⟩ (
  lkp_c (P := OkP 177) ⟨(PuOK.ok (ok_iconst dX1_addAccount_36 rfl)), m_push⟩ (
  lkp_c (P := OkP 177) ⟨(PuOK.ok (ok_goto dX1_addAccount_37 rfl)), m_goto⟩ (
  lkp_c (P := OkP 177) ⟨(PuOK.ok (ok_iconst dX1_addAccount_40 rfl)), m_push⟩ (
  lkp_c (P := OkP 177) ⟨ok_cs (tg_S ⟨rfl, by decide⟩ q1644 q1645 q115 q1646 ⟨cn_33.1, cn_33.2, pd_18⟩ dX1_addAccount_41) hd_no, m_cs⟩ (
  lkp_c (P := OkP 177) ⟨(PuOK.ok (ok_aload_n dX1_addAccount_44 rfl)), m_aload⟩ (
  lkp_c (P := OkP 177) ⟨ok_get ⟨"TollRoad", q664, Or.inl rfl⟩ dX1_addAccount_45, m_get⟩ (
  lkp_c (P := OkP 177) ⟨ok_getN ⟨"TollRoad$World", "TollRoad", q635, Or.inl rfl⟩ dX1_addAccount_48, m_get⟩ (
  lkp_c (P := OkP 177) ⟨(PuOK.ok (ok_bipush dX1_addAccount_51 rfl)), m_push⟩ (
  lkp_c (P := OkP 177) ⟨(PuOK.ok (ok_icmp_ge dX1_addAccount_53 rfl)), m_icmp⟩ (
  lkp_c (P := OkP 177) ⟨(PuOK.ok (ok_iconst dX1_addAccount_56 rfl)), m_push⟩ (
  lkp_c (P := OkP 177) ⟨(PuOK.ok (ok_goto dX1_addAccount_57 rfl)), m_goto⟩ (
  lkp_c (P := OkP 177) ⟨(PuOK.ok (ok_iconst dX1_addAccount_60 rfl)), m_push⟩ (
  lkp_c (P := OkP 177) ⟨ok_cs (tg_S ⟨rfl, by decide⟩ q1611 q1612 q115 q1613 ⟨cn_33.1, cn_33.2, pd_18⟩ dX1_addAccount_61) hd_no, m_cs⟩ (
  trivial)))))))))))))))))))))))))))))))
theorem c_177_1 : LkP (OkP 177) [(64, o_aload 0 1), (65, o_get 0), (68, o_iload 1 1), (69, o_iload 2 1), (70, o_iload 3 1), (71, o_cv [(1, 258)] 3 3 false none), (74, o_ret 1)] := lkp_c (P := OkP 177) ⟨(PuOK.ok (ok_aload_n dX1_addAccount_64 rfl)), m_aload⟩ (
  lkp_c (P := OkP 177) ⟨ok_get ⟨"TollRoad", q664, Or.inl rfl⟩ dX1_addAccount_65, m_get⟩ (
  lkp_c (P := OkP 177) ⟨(PuOK.ok (ok_iload_n dX1_addAccount_68 rfl)), m_iload⟩ (
  lkp_c (P := OkP 177) ⟨(PuOK.ok (ok_iload_n dX1_addAccount_69 rfl)), m_iload⟩ (
  lkp_c (P := OkP 177) ⟨(PuOK.ok (ok_iload_n dX1_addAccount_70 rfl)), m_iload⟩ (
  lkp_c (P := OkP 177) ⟨ok_cv (List.forall_mem_cons.mpr ⟨tg_V (ci := 1) (r := CLr 1) (y := 258) rfl ⟨rfl, by decide⟩ rfl q1722 q1450 q1451 q116 q1452 ⟨cn_36.1, cn_36.2, pd_25⟩ dX1_addAccount_71, (List.forall_mem_nil _)⟩) hd_no, m_cv⟩ (
  lkp_c (P := OkP 177) ⟨ok_iret rfl rfl (by decide) dX1_addAccount_74, m_ret⟩ (
  trivial)))))))
theorem mt_177 : MtOK TB NT IT 177 := ⟨by decide +kernel, rfl, (fun h => by cases h), Or.inl ⟨rfl, rfl⟩, rfl, by decide, lk2_all (P := OkP 177) ⟨c_177_0, c_177_1, trivial⟩⟩
def dkwX1_addVehicle_2 : List UInt8 := [182, 0, 123, 172]
abbrev dktX1_addVehicle_2 : List UInt8 := dkwX1_addVehicle_2 ++ []
def dkwX1_addVehicle_1 : List UInt8 := [182, 0, 58, 16, 15, 162, 0, 7, 4, 167, 0, 4, 3, 184, 0, 82, 42, 180, 0, 19, 27, 28]
abbrev dktX1_addVehicle_1 : List UInt8 := dkwX1_addVehicle_1 ++ dktX1_addVehicle_2
def dkwX1_addVehicle_0 : List UInt8 := [42, 28, 182, 0, 118, 27, 133, 10, 20, 0, 121, 184, 0, 46, 184, 0, 79, 42, 180, 0, 19, 180, 0, 54]
abbrev dktX1_addVehicle_0 : List UInt8 := dkwX1_addVehicle_0 ++ dktX1_addVehicle_1
theorem dksX1_addVehicle_0 : cX1_addVehicle.data.toList.drop 0 = dktX1_addVehicle_0 := by decide +kernel
theorem dksX1_addVehicle_1 : cX1_addVehicle.data.toList.drop 24 = dktX1_addVehicle_1 := dk_seg dksX1_addVehicle_0 24 rfl rfl
theorem dksX1_addVehicle_2 : cX1_addVehicle.data.toList.drop 46 = dktX1_addVehicle_2 := dk_seg dksX1_addVehicle_1 22 rfl rfl
theorem dX1_addVehicle_0 : decode cX1_addVehicle 0 = .ok (.aload_n 0, 1) := dk_42 (dk_at dksX1_addVehicle_0 0 rfl rfl)
theorem dX1_addVehicle_1 : decode cX1_addVehicle 1 = .ok (.iload_n 2, 1) := dk_28 (dk_at dksX1_addVehicle_0 1 rfl rfl)
theorem dX1_addVehicle_2 : decode cX1_addVehicle 2 = .ok (.invokevirtual 118, 3) := dk_182 0 118 (dk_at dksX1_addVehicle_0 2 rfl rfl)
theorem dX1_addVehicle_5 : decode cX1_addVehicle 5 = .ok (.iload_n 1, 1) := dk_27 (dk_at dksX1_addVehicle_0 5 rfl rfl)
theorem dX1_addVehicle_6 : decode cX1_addVehicle 6 = .ok (.i2l, 1) := dk_133 (dk_at dksX1_addVehicle_0 6 rfl rfl)
theorem dX1_addVehicle_7 : decode cX1_addVehicle 7 = .ok (.lconst 1, 1) := dk_10 (dk_at dksX1_addVehicle_0 7 rfl rfl)
theorem dX1_addVehicle_8 : decode cX1_addVehicle 8 = .ok (.ldc2_w 121, 3) := dk_20 0 121 (dk_at dksX1_addVehicle_0 8 rfl rfl)
theorem dX1_addVehicle_11 : decode cX1_addVehicle 11 = .ok (.invokestatic 46, 3) := dk_184 0 46 (dk_at dksX1_addVehicle_0 11 rfl rfl)
theorem dX1_addVehicle_14 : decode cX1_addVehicle 14 = .ok (.invokestatic 79, 3) := dk_184 0 79 (dk_at dksX1_addVehicle_0 14 rfl rfl)
theorem dX1_addVehicle_17 : decode cX1_addVehicle 17 = .ok (.aload_n 0, 1) := dk_42 (dk_at dksX1_addVehicle_0 17 rfl rfl)
theorem dX1_addVehicle_18 : decode cX1_addVehicle 18 = .ok (.getfield 19, 3) := dk_180 0 19 (dk_at dksX1_addVehicle_0 18 rfl rfl)
theorem dX1_addVehicle_21 : decode cX1_addVehicle 21 = .ok (.getfield 54, 3) := dk_180 0 54 (dk_at dksX1_addVehicle_0 21 rfl rfl)
theorem dX1_addVehicle_24 : decode cX1_addVehicle 24 = .ok (.invokevirtual 58, 3) := dk_182 0 58 (dk_at dksX1_addVehicle_1 0 rfl rfl)
theorem dX1_addVehicle_27 : decode cX1_addVehicle 27 = .ok (.bipush 15, 2) := dk_16 15 (dk_at dksX1_addVehicle_1 3 rfl rfl)
theorem dX1_addVehicle_29 : decode cX1_addVehicle 29 = .ok (.if_icmp .ge 7, 3) := dk_162 0 7 (dk_at dksX1_addVehicle_1 5 rfl rfl)
theorem dX1_addVehicle_32 : decode cX1_addVehicle 32 = .ok (.iconst 1, 1) := dk_4 (dk_at dksX1_addVehicle_1 8 rfl rfl)
theorem dX1_addVehicle_33 : decode cX1_addVehicle 33 = .ok (.goto 4, 3) := dk_167 0 4 (dk_at dksX1_addVehicle_1 9 rfl rfl)
theorem dX1_addVehicle_36 : decode cX1_addVehicle 36 = .ok (.iconst 0, 1) := dk_3 (dk_at dksX1_addVehicle_1 12 rfl rfl)
theorem dX1_addVehicle_37 : decode cX1_addVehicle 37 = .ok (.invokestatic 82, 3) := dk_184 0 82 (dk_at dksX1_addVehicle_1 13 rfl rfl)
theorem dX1_addVehicle_40 : decode cX1_addVehicle 40 = .ok (.aload_n 0, 1) := dk_42 (dk_at dksX1_addVehicle_1 16 rfl rfl)
theorem dX1_addVehicle_41 : decode cX1_addVehicle 41 = .ok (.getfield 19, 3) := dk_180 0 19 (dk_at dksX1_addVehicle_1 17 rfl rfl)
theorem dX1_addVehicle_44 : decode cX1_addVehicle 44 = .ok (.iload_n 1, 1) := dk_27 (dk_at dksX1_addVehicle_1 20 rfl rfl)
theorem dX1_addVehicle_45 : decode cX1_addVehicle 45 = .ok (.iload_n 2, 1) := dk_28 (dk_at dksX1_addVehicle_1 21 rfl rfl)
theorem dX1_addVehicle_46 : decode cX1_addVehicle 46 = .ok (.invokevirtual 123, 3) := dk_182 0 123 (dk_at dksX1_addVehicle_2 0 rfl rfl)
theorem dX1_addVehicle_49 : decode cX1_addVehicle 49 = .ok (.ireturn, 1) := dk_172 (dk_at dksX1_addVehicle_2 3 rfl rfl)
theorem c_178_0 : LkP (OkP 178) [(0, o_aload 0 1), (1, o_iload 2 1), (2, o_cv [(0, 179)] 1 3 true none), (5, o_iload 1 1), (6, o_i2l), (7, o_push 1 (.long 1)), (8, o_push 3 (.long 4)), (11, o_cs 165 3 false none), (14, o_cs 172 1 true none), (17, o_aload 0 1), (18, o_get 0), (21, o_get 10), (24, o_cv [(3, 42)] 0 3 false none), (27, o_push 2 (.int 15)), (29, o_icmp (fun x y => decide (y ≤ x)) 36), (32, o_push 1 (.int 1)), (33, o_goto 37), (36, o_push 1 (.int 0)), (37, o_cs 170 1 true none), (40, o_aload 0 1), (41, o_get 0), (44, o_iload 1 1), (45, o_iload 2 1), (46, o_cv [(1, 259)] 2 3 false none), (49, o_ret 1)] := lkp_c (P := OkP 178) ⟨(PuOK.ok (ok_aload_n dX1_addVehicle_0 rfl)), m_aload⟩ (
  lkp_c (P := OkP 178) ⟨(PuOK.ok (ok_iload_n dX1_addVehicle_1 rfl)), m_iload⟩ (
  lkp_c (P := OkP 178) ⟨ok_cv (List.forall_mem_cons.mpr ⟨tg_V (ci := 0) (r := CLr 0) (y := 179) rfl ⟨rfl, by decide⟩ rfl q1730 q1732 qs14 q115 q1733 ⟨cn_33.1, cn_33.2, pd_9⟩ dX1_addVehicle_2, (List.forall_mem_nil _)⟩) hd_no, m_cv⟩ (
  lkp_c (P := OkP 178) ⟨(PuOK.ok (ok_iload_n dX1_addVehicle_5 rfl)), m_iload⟩ (
  lkp_c (P := OkP 178) ⟨(PuOK.ok (ok_i2l dX1_addVehicle_6)), m_i2l⟩ (
  lkp_c (P := OkP 178) ⟨(PuOK.ok (ok_lconst dX1_addVehicle_7 rfl)), m_push⟩ (
  lkp_c (P := OkP 178) ⟨(PuOK.ok (ok_ldc2 q1735 dX1_addVehicle_8)), m_push⟩ (
  lkp_c (P := OkP 178) ⟨ok_cs (tg_S ⟨rfl, by decide⟩ q1643 q1284 q115 q1285 ⟨cn_33.1, cn_33.2, pd_74⟩ dX1_addVehicle_11) hd_no, m_cs⟩ (
  lkp_c (P := OkP 178) ⟨ok_cs (tg_S ⟨rfl, by decide⟩ q1644 q1645 q115 q1646 ⟨cn_33.1, cn_33.2, pd_18⟩ dX1_addVehicle_14) hd_no, m_cs⟩ (
  lkp_c (P := OkP 178) ⟨(PuOK.ok (ok_aload_n dX1_addVehicle_17 rfl)), m_aload⟩ (
  lkp_c (P := OkP 178) ⟨ok_get ⟨"TollRoad", q664, Or.inl rfl⟩ dX1_addVehicle_18, m_get⟩ (
  lkp_c (P := OkP 178) ⟨ok_getN ⟨"TollRoad$World", "TollRoad", q639, Or.inl rfl⟩ dX1_addVehicle_21, m_get⟩ (
  lkp_c (P := OkP 178) ⟨ok_cv (List.forall_mem_cons.mpr ⟨tg_V (ci := 3) (r := CLr 3) (y := 42) rfl ⟨rfl, by decide⟩ rfl q1256 q1257 q1258 q120 q1259 ⟨cn_15.1, cn_15.2, pd_13⟩ dX1_addVehicle_24, (List.forall_mem_nil _)⟩) hd_no, m_cv⟩ (
  lkp_c (P := OkP 178) ⟨(PuOK.ok (ok_bipush dX1_addVehicle_27 rfl)), m_push⟩ (
  lkp_c (P := OkP 178) ⟨(PuOK.ok (ok_icmp_ge dX1_addVehicle_29 rfl)), m_icmp⟩ (
  lkp_c (P := OkP 178) ⟨(PuOK.ok (ok_iconst dX1_addVehicle_32 rfl)), m_push⟩ (
  lkp_c (P := OkP 178) ⟨(PuOK.ok (ok_goto dX1_addVehicle_33 rfl)), m_goto⟩ (
  lkp_c (P := OkP 178) ⟨(PuOK.ok (ok_iconst dX1_addVehicle_36 rfl)), m_push⟩ (
  lkp_c (P := OkP 178) ⟨ok_cs (tg_S ⟨rfl, by decide⟩ q1611 q1612 q115 q1613 ⟨cn_33.1, cn_33.2, pd_18⟩ dX1_addVehicle_37) hd_no, m_cs⟩ (
  lkp_c (P := OkP 178) ⟨(PuOK.ok (ok_aload_n dX1_addVehicle_40 rfl)), m_aload⟩ (
  lkp_c (P := OkP 178) ⟨ok_get ⟨"TollRoad", q664, Or.inl rfl⟩ dX1_addVehicle_41, m_get⟩ (
  lkp_c (P := OkP 178) ⟨(PuOK.ok (ok_iload_n dX1_addVehicle_44 rfl)), m_iload⟩ (
  lkp_c (P := OkP 178) ⟨(PuOK.ok (ok_iload_n dX1_addVehicle_45 rfl)), m_iload⟩ (
  lkp_c (P := OkP 178) ⟨ok_cv (List.forall_mem_cons.mpr ⟨tg_V (ci := 1) (r := CLr 1) (y := 259) rfl ⟨rfl, by decide⟩ rfl q1736 q1489 q1490 q116 q1491 ⟨cn_36.1, cn_36.2, pd_1⟩ dX1_addVehicle_46, (List.forall_mem_nil _)⟩) hd_no, m_cv⟩ (
  lkp_c (P := OkP 178) ⟨ok_iret rfl rfl (by decide) dX1_addVehicle_49, m_ret⟩ (
  trivial)))))))))))))))))))))))))
theorem mt_178 : MtOK TB NT IT 178 := ⟨by decide +kernel, rfl, (fun h => by cases h), Or.inl ⟨rfl, rfl⟩, rfl, by decide, lk2_all (P := OkP 178) ⟨c_178_0, trivial⟩⟩
def dkwX1_checkAccount_0 : List UInt8 := [27, 133, 20, 0, 116, 42, 180, 0, 19, 180, 0, 70, 4, 100, 133, 184, 0, 46, 184, 0, 50, 177]
abbrev dktX1_checkAccount_0 : List UInt8 := dkwX1_checkAccount_0 ++ []
theorem dksX1_checkAccount_0 : cX1_checkAccount.data.toList.drop 0 = dktX1_checkAccount_0 := by decide +kernel
theorem dX1_checkAccount_0 : decode cX1_checkAccount 0 = .ok (.iload_n 1, 1) := dk_27 (dk_at dksX1_checkAccount_0 0 rfl rfl)
theorem dX1_checkAccount_1 : decode cX1_checkAccount 1 = .ok (.i2l, 1) := dk_133 (dk_at dksX1_checkAccount_0 1 rfl rfl)
theorem dX1_checkAccount_2 : decode cX1_checkAccount 2 = .ok (.ldc2_w 116, 3) := dk_20 0 116 (dk_at dksX1_checkAccount_0 2 rfl rfl)
theorem dX1_checkAccount_5 : decode cX1_checkAccount 5 = .ok (.aload_n 0, 1) := dk_42 (dk_at dksX1_checkAccount_0 5 rfl rfl)
theorem dX1_checkAccount_6 : decode cX1_checkAccount 6 = .ok (.getfield 19, 3) := dk_180 0 19 (dk_at dksX1_checkAccount_0 6 rfl rfl)
theorem dX1_checkAccount_9 : decode cX1_checkAccount 9 = .ok (.getfield 70, 3) := dk_180 0 70 (dk_at dksX1_checkAccount_0 9 rfl rfl)
theorem dX1_checkAccount_12 : decode cX1_checkAccount 12 = .ok (.iconst 1, 1) := dk_4 (dk_at dksX1_checkAccount_0 12 rfl rfl)
theorem dX1_checkAccount_13 : decode cX1_checkAccount 13 = .ok (.isub, 1) := dk_100 (dk_at dksX1_checkAccount_0 13 rfl rfl)
theorem dX1_checkAccount_14 : decode cX1_checkAccount 14 = .ok (.i2l, 1) := dk_133 (dk_at dksX1_checkAccount_0 14 rfl rfl)
theorem dX1_checkAccount_15 : decode cX1_checkAccount 15 = .ok (.invokestatic 46, 3) := dk_184 0 46 (dk_at dksX1_checkAccount_0 15 rfl rfl)
theorem dX1_checkAccount_18 : decode cX1_checkAccount 18 = .ok (.invokestatic 50, 3) := dk_184 0 50 (dk_at dksX1_checkAccount_0 18 rfl rfl)
theorem dX1_checkAccount_21 : decode cX1_checkAccount 21 = .ok (.return_, 1) := dk_177 (dk_at dksX1_checkAccount_0 21 rfl rfl)
theorem c_179_0 : LkP (OkP 179) [(0, o_iload 1 1), (1, o_i2l), (2, o_push 3 (.long (-1))), (5, o_aload 0 1), (6, o_get 0), (9, o_get 9), (12, o_push 1 (.int 1)), (13, o_iop (fun x y => x - y)), (14, o_i2l), (15, o_cs 165 3 false none), (18, o_cs 176 1 true none), (21, o_vret)] := lkp_c (P := OkP 179) ⟨(PuOK.ok (ok_iload_n dX1_checkAccount_0 rfl)), m_iload⟩ (
  lkp_c (P := OkP 179) ⟨(PuOK.ok (ok_i2l dX1_checkAccount_1)), m_i2l⟩ (
  lkp_c (P := OkP 179) ⟨(PuOK.ok (ok_ldc2 q1734 dX1_checkAccount_2)), m_push⟩ (
  lkp_c (P := OkP 179) ⟨(PuOK.ok (ok_aload_n dX1_checkAccount_5 rfl)), m_aload⟩ (
  lkp_c (P := OkP 179) ⟨ok_get ⟨"TollRoad", q664, Or.inl rfl⟩ dX1_checkAccount_6, m_get⟩ (
  lkp_c (P := OkP 179) ⟨ok_getN ⟨"TollRoad$World", "TollRoad", q635, Or.inl rfl⟩ dX1_checkAccount_9, m_get⟩ (
  lkp_c (P := OkP 179) ⟨(PuOK.ok (ok_iconst dX1_checkAccount_12 rfl)), m_push⟩ (
  lkp_c (P := OkP 179) ⟨(PuOK.ok (ok_isub dX1_checkAccount_13)), m_iop⟩ (
  lkp_c (P := OkP 179) ⟨(PuOK.ok (ok_i2l dX1_checkAccount_14)), m_i2l⟩ (
  lkp_c (P := OkP 179) ⟨ok_cs (tg_S ⟨rfl, by decide⟩ q1643 q1284 q115 q1285 ⟨cn_33.1, cn_33.2, pd_74⟩ dX1_checkAccount_15) hd_no, m_cs⟩ (
  lkp_c (P := OkP 179) ⟨ok_cs (tg_S ⟨rfl, by decide⟩ q1691 q1692 q115 q1693 ⟨cn_33.1, cn_33.2, pd_18⟩ dX1_checkAccount_18) hd_no, m_cs⟩ (
  lkp_c (P := OkP 179) ⟨ok_vret rfl dX1_checkAccount_21, m_vret⟩ (
  trivial))))))))))))
theorem mt_179 : MtOK TB NT IT 179 := ⟨by decide +kernel, rfl, (fun h => by cases h), Or.inl ⟨rfl, rfl⟩, rfl, by decide, lk2_all (P := OkP 179) ⟨c_179_0, trivial⟩⟩
def dkwX1_set_2 : List UInt8 := [21, 4, 172]
abbrev dktX1_set_2 : List UInt8 := dkwX1_set_2 ++ []
def dkwX1_set_1 : List UInt8 := [184, 0, 79, 42, 180, 0, 19, 180, 0, 139, 27, 46, 54, 4, 42, 180, 0, 19, 180, 0, 139, 27, 28, 79]
abbrev dktX1_set_1 : List UInt8 := dkwX1_set_1 ++ dktX1_set_2
def dkwX1_set_0 : List UInt8 := [27, 133, 9, 20, 0, 127, 184, 0, 46, 184, 0, 79, 27, 184, 0, 129, 78, 45, 28, 185, 0, 135, 2, 0]
abbrev dktX1_set_0 : List UInt8 := dkwX1_set_0 ++ dktX1_set_1
theorem dksX1_set_0 : cX1_set.data.toList.drop 0 = dktX1_set_0 := by decide +kernel
theorem dksX1_set_1 : cX1_set.data.toList.drop 24 = dktX1_set_1 := dk_seg dksX1_set_0 24 rfl rfl
theorem dksX1_set_2 : cX1_set.data.toList.drop 48 = dktX1_set_2 := dk_seg dksX1_set_1 24 rfl rfl
theorem dX1_set_0 : decode cX1_set 0 = .ok (.iload_n 1, 1) := dk_27 (dk_at dksX1_set_0 0 rfl rfl)
theorem dX1_set_1 : decode cX1_set 1 = .ok (.i2l, 1) := dk_133 (dk_at dksX1_set_0 1 rfl rfl)
theorem dX1_set_2 : decode cX1_set 2 = .ok (.lconst 0, 1) := dk_9 (dk_at dksX1_set_0 2 rfl rfl)
theorem dX1_set_3 : decode cX1_set 3 = .ok (.ldc2_w 127, 3) := dk_20 0 127 (dk_at dksX1_set_0 3 rfl rfl)
theorem dX1_set_6 : decode cX1_set 6 = .ok (.invokestatic 46, 3) := dk_184 0 46 (dk_at dksX1_set_0 6 rfl rfl)
theorem dX1_set_9 : decode cX1_set 9 = .ok (.invokestatic 79, 3) := dk_184 0 79 (dk_at dksX1_set_0 9 rfl rfl)
theorem dX1_set_12 : decode cX1_set 12 = .ok (.iload_n 1, 1) := dk_27 (dk_at dksX1_set_0 12 rfl rfl)
theorem dX1_set_13 : decode cX1_set 13 = .ok (.invokestatic 129, 3) := dk_184 0 129 (dk_at dksX1_set_0 13 rfl rfl)
theorem dX1_set_16 : decode cX1_set 16 = .ok (.astore_n 3, 1) := dk_78 (dk_at dksX1_set_0 16 rfl rfl)
theorem dX1_set_17 : decode cX1_set 17 = .ok (.aload_n 3, 1) := dk_45 (dk_at dksX1_set_0 17 rfl rfl)
theorem dX1_set_18 : decode cX1_set 18 = .ok (.iload_n 2, 1) := dk_28 (dk_at dksX1_set_0 18 rfl rfl)
theorem dX1_set_19 : decode cX1_set 19 = .ok (.invokeinterface 135 2, 5) := by decide +kernel
theorem dX1_set_24 : decode cX1_set 24 = .ok (.invokestatic 79, 3) := dk_184 0 79 (dk_at dksX1_set_1 0 rfl rfl)
theorem dX1_set_27 : decode cX1_set 27 = .ok (.aload_n 0, 1) := dk_42 (dk_at dksX1_set_1 3 rfl rfl)
theorem dX1_set_28 : decode cX1_set 28 = .ok (.getfield 19, 3) := dk_180 0 19 (dk_at dksX1_set_1 4 rfl rfl)
theorem dX1_set_31 : decode cX1_set 31 = .ok (.getfield 139, 3) := dk_180 0 139 (dk_at dksX1_set_1 7 rfl rfl)
theorem dX1_set_34 : decode cX1_set 34 = .ok (.iload_n 1, 1) := dk_27 (dk_at dksX1_set_1 10 rfl rfl)
theorem dX1_set_35 : decode cX1_set 35 = .ok (.iaload, 1) := dk_46 (dk_at dksX1_set_1 11 rfl rfl)
theorem dX1_set_36 : decode cX1_set 36 = .ok (.istore 4, 2) := dk_54 4 (dk_at dksX1_set_1 12 rfl rfl)
theorem dX1_set_38 : decode cX1_set 38 = .ok (.aload_n 0, 1) := dk_42 (dk_at dksX1_set_1 14 rfl rfl)
theorem dX1_set_39 : decode cX1_set 39 = .ok (.getfield 19, 3) := dk_180 0 19 (dk_at dksX1_set_1 15 rfl rfl)
theorem dX1_set_42 : decode cX1_set 42 = .ok (.getfield 139, 3) := dk_180 0 139 (dk_at dksX1_set_1 18 rfl rfl)
theorem dX1_set_45 : decode cX1_set 45 = .ok (.iload_n 1, 1) := dk_27 (dk_at dksX1_set_1 21 rfl rfl)
theorem dX1_set_46 : decode cX1_set 46 = .ok (.iload_n 2, 1) := dk_28 (dk_at dksX1_set_1 22 rfl rfl)
theorem dX1_set_47 : decode cX1_set 47 = .ok (.iastore, 1) := dk_79 (dk_at dksX1_set_1 23 rfl rfl)
theorem dX1_set_48 : decode cX1_set 48 = .ok (.iload 4, 2) := dk_21 4 (dk_at dksX1_set_2 0 rfl rfl)
theorem dX1_set_50 : decode cX1_set 50 = .ok (.ireturn, 1) := dk_172 (dk_at dksX1_set_2 2 rfl rfl)
theorem c_180_0 : LkP (OkP 180) [(0, o_iload 1 1), (1, o_i2l), (2, o_push 1 (.long 0)), (3, o_push 3 (.long 7)), (6, o_cs 165 3 false none), (9, o_cs 172 1 true none), (12, o_iload 1 1), (13, o_cs 222 1 false none), (16, o_astore 3 1), (17, o_aload 3 1), (18, o_iload 2 1), (19, o_cv [(14, 223)] 1 5 false none), (24, o_cs 172 1 true none), (27, o_aload 0 1), (28, o_get 0), (31, o_get 7), (34, o_iload 1 1), (35, o_rdI 0), (36, o_istore 4 2), (38, o_aload 0 1), (39, o_get 0), (42, o_get 7), (45, o_iload 1 1), (46, o_iload 2 1), (47, o_wrI 0), (48, o_iload 4 2), (50, o_ret 1)] := lkp_c (P := OkP 180) ⟨(PuOK.ok (ok_iload_n dX1_set_0 rfl)), m_iload⟩ (
  lkp_c (P := OkP 180) ⟨(PuOK.ok (ok_i2l dX1_set_1)), m_i2l⟩ (
  lkp_c (P := OkP 180) ⟨(PuOK.ok (ok_lconst dX1_set_2 rfl)), m_push⟩ (
  lkp_c (P := OkP 180) ⟨(PuOK.ok (ok_ldc2 q1744 dX1_set_3)), m_push⟩ (
  lkp_c (P := OkP 180) ⟨ok_cs (tg_S ⟨rfl, by decide⟩ q1643 q1284 q115 q1285 ⟨cn_33.1, cn_33.2, pd_74⟩ dX1_set_6) hd_no, m_cs⟩ (
  lkp_c (P := OkP 180) ⟨ok_cs (tg_S ⟨rfl, by decide⟩ q1644 q1645 q115 q1646 ⟨cn_33.1, cn_33.2, pd_18⟩ dX1_set_9) hd_no, m_cs⟩ (
  lkp_c (P := OkP 180) ⟨(PuOK.ok (ok_iload_n dX1_set_12 rfl)), m_iload⟩ (
  lkp_c (P := OkP 180) ⟨ok_cs (tg_S ⟨rfl, by decide⟩ q1745 q1561 q146 q1562 ⟨cn_41.1, cn_41.2, pd_76⟩ dX1_set_13) hd_no, m_cs⟩ (
  lkp_c (P := OkP 180) ⟨(PuOK.ok (ok_astore_n dX1_set_16 rfl)), m_astore⟩ (
  lkp_c (P := OkP 180) ⟨(PuOK.ok (ok_aload_n dX1_set_17 rfl)), m_aload⟩ (
  lkp_c (P := OkP 180) ⟨(PuOK.ok (ok_iload_n dX1_set_18 rfl)), m_iload⟩ (
  lkp_c (P := OkP 180) ⟨ok_cv (List.forall_mem_cons.mpr ⟨tg_D (ci := 14) (r := CLr 14) (y := 223) rfl ⟨rfl, by decide⟩ q1747 (by decide +kernel) rfl q1751 q146 q1753 q1749 q1748 q1752 q1750 q1580 ⟨cn_41.1, cn_41.2, pd_77⟩ dX1_set_19, (List.forall_mem_nil _)⟩) hd_no, m_cv⟩ (
  lkp_c (P := OkP 180) ⟨ok_cs (tg_S ⟨rfl, by decide⟩ q1644 q1645 q115 q1646 ⟨cn_33.1, cn_33.2, pd_18⟩ dX1_set_24) hd_no, m_cs⟩ (
  lkp_c (P := OkP 180) ⟨(PuOK.ok (ok_aload_n dX1_set_27 rfl)), m_aload⟩ (
  lkp_c (P := OkP 180) ⟨ok_get ⟨"TollRoad", q664, Or.inl rfl⟩ dX1_set_28, m_get⟩ (
  lkp_c (P := OkP 180) ⟨ok_getN ⟨"TollRoad$World", "TollRoad", q631, Or.inl rfl⟩ dX1_set_31, m_get⟩ (
  lkp_c (P := OkP 180) ⟨(PuOK.ok (ok_iload_n dX1_set_34 rfl)), m_iload⟩ (
  lkp_c (P := OkP 180) ⟨ok_iald dX1_set_35, m_rdI⟩ (
  lkp_c (P := OkP 180) ⟨(PuOK.ok (ok_istore dX1_set_36)), m_istore⟩ (
  lkp_c (P := OkP 180) ⟨(PuOK.ok (ok_aload_n dX1_set_38 rfl)), m_aload⟩ (
  lkp_c (P := OkP 180) ⟨ok_get ⟨"TollRoad", q664, Or.inl rfl⟩ dX1_set_39, m_get⟩ (
  lkp_c (P := OkP 180) ⟨ok_getN ⟨"TollRoad$World", "TollRoad", q631, Or.inl rfl⟩ dX1_set_42, m_get⟩ (
  lkp_c (P := OkP 180) ⟨(PuOK.ok (ok_iload_n dX1_set_45 rfl)), m_iload⟩ (
  lkp_c (P := OkP 180) ⟨(PuOK.ok (ok_iload_n dX1_set_46 rfl)), m_iload⟩ (
  lkp_c (P := OkP 180) ⟨ok_iast dX1_set_47, m_wrI⟩ (
  lkp_c (P := OkP 180) ⟨(PuOK.ok (ok_iload dX1_set_48)), m_iload⟩ (
  lkp_c (P := OkP 180) ⟨ok_iret rfl rfl (by decide) dX1_set_50, m_ret⟩ (
  trivial)))))))))))))))))))))))))))
theorem mt_180 : MtOK TB NT IT 180 := ⟨by decide +kernel, rfl, (fun h => by cases h), Or.inl ⟨rfl, rfl⟩, rfl, by decide, lk2_all (P := OkP 180) ⟨c_180_0, trivial⟩⟩
def dkwX1_count_5 : List UInt8 := [3, 182, 0, 178, 172, 42, 4, 182, 0, 178, 172, 42, 180, 0, 19, 180, 0, 139, 27, 46, 172]
abbrev dktX1_count_5 : List UInt8 := dkwX1_count_5 ++ []
def dkwX1_count_4 : List UInt8 := [180, 0, 143, 182, 0, 58, 172, 42, 180, 0, 19, 180, 0, 165, 182, 0, 58, 172, 42, 182, 0, 175, 172, 42]
abbrev dktX1_count_4 : List UInt8 := dkwX1_count_4 ++ dktX1_count_5
def dkwX1_count_3 : List UInt8 := [180, 0, 19, 180, 0, 70, 172, 42, 180, 0, 19, 180, 0, 54, 182, 0, 58, 172, 42, 180, 0, 19]
abbrev dktX1_count_3 : List UInt8 := dkwX1_count_3 ++ dktX1_count_4
def dkwX1_count_2 : List UInt8 := [42, 180, 0, 19, 180, 0, 37, 180, 0, 41, 172, 42, 180, 0, 19, 180, 0, 37, 180, 0, 101, 172, 42]
abbrev dktX1_count_2 : List UInt8 := dkwX1_count_2 ++ dktX1_count_3
def dkwX1_count_1 : List UInt8 := [170, 0, 0, 0, 0, 0, 0, 132, 0, 0, 0, 0, 0, 0, 0, 8, 0, 0, 0, 52, 0, 0, 0, 63, 0, 0, 0, 74, 0, 0, 0, 82, 0, 0, 0, 93, 0, 0, 0, 104, 0, 0, 0, 115, 0, 0, 0, 120, 0, 0, 0, 126]
abbrev dktX1_count_1 : List UInt8 := dkwX1_count_1 ++ dktX1_count_2
def dkwX1_count_0 : List UInt8 := [27, 133, 9, 20, 0, 173, 184, 0, 46, 184, 0, 79, 27, 16, 8, 100]
abbrev dktX1_count_0 : List UInt8 := dkwX1_count_0 ++ dktX1_count_1
theorem dksX1_count_0 : cX1_count.data.toList.drop 0 = dktX1_count_0 := by decide +kernel
theorem dksX1_count_1 : cX1_count.data.toList.drop 16 = dktX1_count_1 := dk_seg dksX1_count_0 16 rfl rfl
theorem dksX1_count_2 : cX1_count.data.toList.drop 68 = dktX1_count_2 := dk_seg dksX1_count_1 52 rfl rfl
theorem dksX1_count_3 : cX1_count.data.toList.drop 91 = dktX1_count_3 := dk_seg dksX1_count_2 23 rfl rfl
theorem dksX1_count_4 : cX1_count.data.toList.drop 113 = dktX1_count_4 := dk_seg dksX1_count_3 22 rfl rfl
theorem dksX1_count_5 : cX1_count.data.toList.drop 137 = dktX1_count_5 := dk_seg dksX1_count_4 24 rfl rfl
theorem dX1_count_0 : decode cX1_count 0 = .ok (.iload_n 1, 1) := dk_27 (dk_at dksX1_count_0 0 rfl rfl)
theorem dX1_count_1 : decode cX1_count 1 = .ok (.i2l, 1) := dk_133 (dk_at dksX1_count_0 1 rfl rfl)
theorem dX1_count_2 : decode cX1_count 2 = .ok (.lconst 0, 1) := dk_9 (dk_at dksX1_count_0 2 rfl rfl)
theorem dX1_count_3 : decode cX1_count 3 = .ok (.ldc2_w 173, 3) := dk_20 0 173 (dk_at dksX1_count_0 3 rfl rfl)
theorem dX1_count_6 : decode cX1_count 6 = .ok (.invokestatic 46, 3) := dk_184 0 46 (dk_at dksX1_count_0 6 rfl rfl)
theorem dX1_count_9 : decode cX1_count 9 = .ok (.invokestatic 79, 3) := dk_184 0 79 (dk_at dksX1_count_0 9 rfl rfl)
theorem dX1_count_12 : decode cX1_count 12 = .ok (.iload_n 1, 1) := dk_27 (dk_at dksX1_count_0 12 rfl rfl)
theorem dX1_count_13 : decode cX1_count 13 = .ok (.bipush 8, 2) := dk_16 8 (dk_at dksX1_count_0 13 rfl rfl)
theorem dX1_count_15 : decode cX1_count 15 = .ok (.isub, 1) := dk_100 (dk_at dksX1_count_0 15 rfl rfl)
theorem dX1_count_16 : decode cX1_count 16 = .ok (.tableswitch 132 0 8 #[52, 63, 74, 82, 93, 104, 115, 120, 126], 52) := by decide +kernel
theorem dX1_count_68 : decode cX1_count 68 = .ok (.aload_n 0, 1) := dk_42 (dk_at dksX1_count_2 0 rfl rfl)
theorem dX1_count_69 : decode cX1_count 69 = .ok (.getfield 19, 3) := dk_180 0 19 (dk_at dksX1_count_2 1 rfl rfl)
theorem dX1_count_72 : decode cX1_count 72 = .ok (.getfield 37, 3) := dk_180 0 37 (dk_at dksX1_count_2 4 rfl rfl)
theorem dX1_count_75 : decode cX1_count 75 = .ok (.getfield 41, 3) := dk_180 0 41 (dk_at dksX1_count_2 7 rfl rfl)
theorem dX1_count_78 : decode cX1_count 78 = .ok (.ireturn, 1) := dk_172 (dk_at dksX1_count_2 10 rfl rfl)
theorem dX1_count_79 : decode cX1_count 79 = .ok (.aload_n 0, 1) := dk_42 (dk_at dksX1_count_2 11 rfl rfl)
theorem dX1_count_80 : decode cX1_count 80 = .ok (.getfield 19, 3) := dk_180 0 19 (dk_at dksX1_count_2 12 rfl rfl)
theorem dX1_count_83 : decode cX1_count 83 = .ok (.getfield 37, 3) := dk_180 0 37 (dk_at dksX1_count_2 15 rfl rfl)
theorem dX1_count_86 : decode cX1_count 86 = .ok (.getfield 101, 3) := dk_180 0 101 (dk_at dksX1_count_2 18 rfl rfl)
theorem dX1_count_89 : decode cX1_count 89 = .ok (.ireturn, 1) := dk_172 (dk_at dksX1_count_2 21 rfl rfl)
theorem dX1_count_90 : decode cX1_count 90 = .ok (.aload_n 0, 1) := dk_42 (dk_at dksX1_count_2 22 rfl rfl)
theorem dX1_count_91 : decode cX1_count 91 = .ok (.getfield 19, 3) := dk_180 0 19 (dk_at dksX1_count_3 0 rfl rfl)
theorem dX1_count_94 : decode cX1_count 94 = .ok (.getfield 70, 3) := dk_180 0 70 (dk_at dksX1_count_3 3 rfl rfl)
theorem dX1_count_97 : decode cX1_count 97 = .ok (.ireturn, 1) := dk_172 (dk_at dksX1_count_3 6 rfl rfl)
theorem dX1_count_98 : decode cX1_count 98 = .ok (.aload_n 0, 1) := dk_42 (dk_at dksX1_count_3 7 rfl rfl)
theorem dX1_count_99 : decode cX1_count 99 = .ok (.getfield 19, 3) := dk_180 0 19 (dk_at dksX1_count_3 8 rfl rfl)
theorem dX1_count_102 : decode cX1_count 102 = .ok (.getfield 54, 3) := dk_180 0 54 (dk_at dksX1_count_3 11 rfl rfl)
theorem dX1_count_105 : decode cX1_count 105 = .ok (.invokevirtual 58, 3) := dk_182 0 58 (dk_at dksX1_count_3 14 rfl rfl)
theorem dX1_count_108 : decode cX1_count 108 = .ok (.ireturn, 1) := dk_172 (dk_at dksX1_count_3 17 rfl rfl)
theorem dX1_count_109 : decode cX1_count 109 = .ok (.aload_n 0, 1) := dk_42 (dk_at dksX1_count_3 18 rfl rfl)
theorem dX1_count_110 : decode cX1_count 110 = .ok (.getfield 19, 3) := dk_180 0 19 (dk_at dksX1_count_3 19 rfl rfl)
theorem dX1_count_113 : decode cX1_count 113 = .ok (.getfield 143, 3) := dk_180 0 143 (dk_at dksX1_count_4 0 rfl rfl)
theorem dX1_count_116 : decode cX1_count 116 = .ok (.invokevirtual 58, 3) := dk_182 0 58 (dk_at dksX1_count_4 3 rfl rfl)
theorem dX1_count_119 : decode cX1_count 119 = .ok (.ireturn, 1) := dk_172 (dk_at dksX1_count_4 6 rfl rfl)
theorem dX1_count_120 : decode cX1_count 120 = .ok (.aload_n 0, 1) := dk_42 (dk_at dksX1_count_4 7 rfl rfl)
theorem dX1_count_121 : decode cX1_count 121 = .ok (.getfield 19, 3) := dk_180 0 19 (dk_at dksX1_count_4 8 rfl rfl)
theorem dX1_count_124 : decode cX1_count 124 = .ok (.getfield 165, 3) := dk_180 0 165 (dk_at dksX1_count_4 11 rfl rfl)
theorem dX1_count_127 : decode cX1_count 127 = .ok (.invokevirtual 58, 3) := dk_182 0 58 (dk_at dksX1_count_4 14 rfl rfl)
theorem dX1_count_130 : decode cX1_count 130 = .ok (.ireturn, 1) := dk_172 (dk_at dksX1_count_4 17 rfl rfl)
theorem dX1_count_131 : decode cX1_count 131 = .ok (.aload_n 0, 1) := dk_42 (dk_at dksX1_count_4 18 rfl rfl)
theorem dX1_count_132 : decode cX1_count 132 = .ok (.invokevirtual 175, 3) := dk_182 0 175 (dk_at dksX1_count_4 19 rfl rfl)
theorem dX1_count_135 : decode cX1_count 135 = .ok (.ireturn, 1) := dk_172 (dk_at dksX1_count_4 22 rfl rfl)
theorem dX1_count_136 : decode cX1_count 136 = .ok (.aload_n 0, 1) := dk_42 (dk_at dksX1_count_4 23 rfl rfl)
theorem dX1_count_137 : decode cX1_count 137 = .ok (.iconst 0, 1) := dk_3 (dk_at dksX1_count_5 0 rfl rfl)
theorem dX1_count_138 : decode cX1_count 138 = .ok (.invokevirtual 178, 3) := dk_182 0 178 (dk_at dksX1_count_5 1 rfl rfl)
theorem dX1_count_141 : decode cX1_count 141 = .ok (.ireturn, 1) := dk_172 (dk_at dksX1_count_5 4 rfl rfl)
theorem dX1_count_142 : decode cX1_count 142 = .ok (.aload_n 0, 1) := dk_42 (dk_at dksX1_count_5 5 rfl rfl)
theorem dX1_count_143 : decode cX1_count 143 = .ok (.iconst 1, 1) := dk_4 (dk_at dksX1_count_5 6 rfl rfl)
theorem dX1_count_144 : decode cX1_count 144 = .ok (.invokevirtual 178, 3) := dk_182 0 178 (dk_at dksX1_count_5 7 rfl rfl)
theorem dX1_count_147 : decode cX1_count 147 = .ok (.ireturn, 1) := dk_172 (dk_at dksX1_count_5 10 rfl rfl)
theorem dX1_count_148 : decode cX1_count 148 = .ok (.aload_n 0, 1) := dk_42 (dk_at dksX1_count_5 11 rfl rfl)
theorem dX1_count_149 : decode cX1_count 149 = .ok (.getfield 19, 3) := dk_180 0 19 (dk_at dksX1_count_5 12 rfl rfl)
theorem dX1_count_152 : decode cX1_count 152 = .ok (.getfield 139, 3) := dk_180 0 139 (dk_at dksX1_count_5 15 rfl rfl)
theorem dX1_count_155 : decode cX1_count 155 = .ok (.iload_n 1, 1) := dk_27 (dk_at dksX1_count_5 18 rfl rfl)
theorem dX1_count_156 : decode cX1_count 156 = .ok (.iaload, 1) := dk_46 (dk_at dksX1_count_5 19 rfl rfl)
theorem dX1_count_157 : decode cX1_count 157 = .ok (.ireturn, 1) := dk_172 (dk_at dksX1_count_5 20 rfl rfl)
theorem c_181_0 : LkP (OkP 181) [(0, o_iload 1 1), (1, o_i2l), (2, o_push 1 (.long 0)), (3, o_push 3 (.long 16)), (6, o_cs 165 3 false none), (9, o_cs 172 1 true none), (12, o_iload 1 1), (13, o_push 2 (.int 8)), (15, o_iop (fun x y => x - y)), (16, o_sw (swt 0 [68, 79, 90, 98, 109, 120, 131, 136, 142] 148))] := lkp_c (P := OkP 181) ⟨(PuOK.ok (ok_iload_n dX1_count_0 rfl)), m_iload⟩ (
  lkp_c (P := OkP 181) ⟨(PuOK.ok (ok_i2l dX1_count_1)), m_i2l⟩ (
  lkp_c (P := OkP 181) ⟨(PuOK.ok (ok_lconst dX1_count_2 rfl)), m_push⟩ (
  lkp_c (P := OkP 181) ⟨(PuOK.ok (ok_ldc2 q1766 dX1_count_3)), m_push⟩ (
  lkp_c (P := OkP 181) ⟨ok_cs (tg_S ⟨rfl, by decide⟩ q1643 q1284 q115 q1285 ⟨cn_33.1, cn_33.2, pd_74⟩ dX1_count_6) hd_no, m_cs⟩ (
  lkp_c (P := OkP 181) ⟨ok_cs (tg_S ⟨rfl, by decide⟩ q1644 q1645 q115 q1646 ⟨cn_33.1, cn_33.2, pd_18⟩ dX1_count_9) hd_no, m_cs⟩ (
  lkp_c (P := OkP 181) ⟨(PuOK.ok (ok_iload_n dX1_count_12 rfl)), m_iload⟩ (
  lkp_c (P := OkP 181) ⟨(PuOK.ok (ok_bipush dX1_count_13 rfl)), m_push⟩ (
  lkp_c (P := OkP 181) ⟨(PuOK.ok (ok_isub dX1_count_15)), m_iop⟩ (
  lkp_c (P := OkP 181) ⟨(PuOK.ok (ok_tsw dX1_count_16 (by decide +kernel))), m_sw⟩ (
  trivial))))))))))
theorem c_181_1 : LkP (OkP 181) [(68, o_aload 0 1), (69, o_get 0), (72, o_get 6), (75, o_get 15), (78, o_ret 1), (79, o_aload 0 1), (80, o_get 0), (83, o_get 6), (86, o_get 17), (89, o_ret 1), (90, o_aload 0 1), (91, o_get 0), (94, o_get 9), (97, o_ret 1), (98, o_aload 0 1), (99, o_get 0), (102, o_get 10), (105, o_cv [(3, 42)] 0 3 false none), (108, o_ret 1), (109, o_aload 0 1), (110, o_get 0), (113, o_get 11), (116, o_cv [(3, 42)] 0 3 false none), (119, o_ret 1), (120, o_aload 0 1), (121, o_get 0), (124, o_get 12), (127, o_cv [(3, 42)] 0 3 false none)] := lkp_c (P := OkP 181) ⟨(PuOK.ok (ok_aload_n dX1_count_68 rfl)), m_aload⟩ (
  lkp_c (P := OkP 181) ⟨ok_get ⟨"TollRoad", q664, Or.inl rfl⟩ dX1_count_69, m_get⟩ (
  lkp_c (P := OkP 181) ⟨ok_getN ⟨"TollRoad$World", "TollRoad", q627, Or.inl rfl⟩ dX1_count_72, m_get⟩ (
  lkp_c (P := OkP 181) ⟨ok_getN ⟨"TollRoad$Network", "TollRoad", q209, Or.inl rfl⟩ dX1_count_75, m_get⟩ (
  lkp_c (P := OkP 181) ⟨ok_iret rfl rfl (by decide) dX1_count_78, m_ret⟩ (
  lkp_c (P := OkP 181) ⟨(PuOK.ok (ok_aload_n dX1_count_79 rfl)), m_aload⟩ (
  lkp_c (P := OkP 181) ⟨ok_get ⟨"TollRoad", q664, Or.inl rfl⟩ dX1_count_80, m_get⟩ (
  lkp_c (P := OkP 181) ⟨ok_getN ⟨"TollRoad$World", "TollRoad", q627, Or.inl rfl⟩ dX1_count_83, m_get⟩ (
  lkp_c (P := OkP 181) ⟨ok_getN ⟨"TollRoad$Network", "TollRoad", q214, Or.inl rfl⟩ dX1_count_86, m_get⟩ (
  lkp_c (P := OkP 181) ⟨ok_iret rfl rfl (by decide) dX1_count_89, m_ret⟩ (
  lkp_c (P := OkP 181) ⟨(PuOK.ok (ok_aload_n dX1_count_90 rfl)), m_aload⟩ (
  lkp_c (P := OkP 181) ⟨ok_get ⟨"TollRoad", q664, Or.inl rfl⟩ dX1_count_91, m_get⟩ (
  lkp_c (P := OkP 181) ⟨ok_getN ⟨"TollRoad$World", "TollRoad", q635, Or.inl rfl⟩ dX1_count_94, m_get⟩ (
  lkp_c (P := OkP 181) ⟨ok_iret rfl rfl (by decide) dX1_count_97, m_ret⟩ (
  lkp_c (P := OkP 181) ⟨(PuOK.ok (ok_aload_n dX1_count_98 rfl)), m_aload⟩ (
  lkp_c (P := OkP 181) ⟨ok_get ⟨"TollRoad", q664, Or.inl rfl⟩ dX1_count_99, m_get⟩ (
  lkp_c (P := OkP 181) ⟨ok_getN ⟨"TollRoad$World", "TollRoad", q639, Or.inl rfl⟩ dX1_count_102, m_get⟩ (
  lkp_c (P := OkP 181) ⟨ok_cv (List.forall_mem_cons.mpr ⟨tg_V (ci := 3) (r := CLr 3) (y := 42) rfl ⟨rfl, by decide⟩ rfl q1256 q1257 q1258 q120 q1259 ⟨cn_15.1, cn_15.2, pd_13⟩ dX1_count_105, (List.forall_mem_nil _)⟩) hd_no, m_cv⟩ (
  lkp_c (P := OkP 181) ⟨ok_iret rfl rfl (by decide) dX1_count_108, m_ret⟩ (
  lkp_c (P := OkP 181) ⟨(PuOK.ok (ok_aload_n dX1_count_109 rfl)), m_aload⟩ (
  lkp_c (P := OkP 181) ⟨ok_get ⟨"TollRoad", q664, Or.inl rfl⟩ dX1_count_110, m_get⟩ (
  lkp_c (P := OkP 181) ⟨ok_getN ⟨"TollRoad$World", "TollRoad", q642, Or.inl rfl⟩ dX1_count_113, m_get⟩ (
  lkp_c (P := OkP 181) ⟨ok_cv (List.forall_mem_cons.mpr ⟨tg_V (ci := 3) (r := CLr 3) (y := 42) rfl ⟨rfl, by decide⟩ rfl q1256 q1257 q1258 q120 q1259 ⟨cn_15.1, cn_15.2, pd_13⟩ dX1_count_116, (List.forall_mem_nil _)⟩) hd_no, m_cv⟩ (
  lkp_c (P := OkP 181) ⟨ok_iret rfl rfl (by decide) dX1_count_119, m_ret⟩ (
  lkp_c (P := OkP 181) ⟨(PuOK.ok (ok_aload_n dX1_count_120 rfl)), m_aload⟩ (
  lkp_c (P := OkP 181) ⟨ok_get ⟨"TollRoad", q664, Or.inl rfl⟩ dX1_count_121, m_get⟩ (
  lkp_c (P := OkP 181) ⟨ok_getN ⟨"TollRoad$World", "TollRoad", q644, Or.inl rfl⟩ dX1_count_124, m_get⟩ (
  lkp_c (P := OkP 181) ⟨ok_cv (List.forall_mem_cons.mpr ⟨tg_V (ci := 3) (r := CLr 3) (y := 42) rfl ⟨rfl, by decide⟩ rfl q1256 q1257 q1258 q120 q1259 ⟨cn_15.1, cn_15.2, pd_13⟩ dX1_count_127, (List.forall_mem_nil _)⟩) hd_no, m_cv⟩ (
  trivial))))))))))))))))))))))))))))
theorem c_181_2 : LkP (OkP 181) [(130, o_ret 1), (131, o_aload 0 1), (132, o_cv [(0, 182)] 0 3 false none), (135, o_ret 1), (136, o_aload 0 1), (137, o_push 1 (.int 0)), (138, o_cv [(0, 183)] 1 3 false none), (141, o_ret 1), (142, o_aload 0 1), (143, o_push 1 (.int 1)), (144, o_cv [(0, 183)] 1 3 false none), (147, o_ret 1), (148, o_aload 0 1), (149, o_get 0), (152, o_get 7), (155, o_iload 1 1), (156, o_rdI 0), (157, o_ret 1)] := lkp_c (P := OkP 181) ⟨ok_iret rfl rfl (by decide) dX1_count_130, m_ret⟩ (
  lkp_c (P := OkP 181) ⟨(PuOK.ok (ok_aload_n dX1_count_131 rfl)), m_aload⟩ (
  lkp_c (P := OkP 181) ⟨ok_cv (List.forall_mem_cons.mpr ⟨tg_V (ci := 0) (r := CLr 0) (y := 182) rfl ⟨rfl, by decide⟩ rfl q1767 q1769 qs15 q115 q1770 ⟨cn_33.1, cn_33.2, pd_13⟩ dX1_count_132, (List.forall_mem_nil _)⟩) hd_no, m_cv⟩ (
  lkp_c (P := OkP 181) ⟨ok_iret rfl rfl (by decide) dX1_count_135, m_ret⟩ (
  lkp_c (P := OkP 181) ⟨(PuOK.ok (ok_aload_n dX1_count_136 rfl)), m_aload⟩ (
  lkp_c (P := OkP 181) ⟨(PuOK.ok (ok_iconst dX1_count_137 rfl)), m_push⟩ (
  lkp_c (P := OkP 181) ⟨ok_cv (List.forall_mem_cons.mpr ⟨tg_V (ci := 0) (r := CLr 0) (y := 183) rfl ⟨rfl, by decide⟩ rfl q1772 q1774 qs16 q115 q1775 ⟨cn_33.1, cn_33.2, pd_78⟩ dX1_count_138, (List.forall_mem_nil _)⟩) hd_no, m_cv⟩ (
  lkp_c (P := OkP 181) ⟨ok_iret rfl rfl (by decide) dX1_count_141, m_ret⟩ (
  lkp_c (P := OkP 181) ⟨(PuOK.ok (ok_aload_n dX1_count_142 rfl)), m_aload⟩ (
  lkp_c (P := OkP 181) ⟨(PuOK.ok (ok_iconst dX1_count_143 rfl)), m_push⟩ (
  lkp_c (P := OkP 181) ⟨ok_cv (List.forall_mem_cons.mpr ⟨tg_V (ci := 0) (r := CLr 0) (y := 183) rfl ⟨rfl, by decide⟩ rfl q1772 q1774 qs16 q115 q1775 ⟨cn_33.1, cn_33.2, pd_78⟩ dX1_count_144, (List.forall_mem_nil _)⟩) hd_no, m_cv⟩ (
  lkp_c (P := OkP 181) ⟨ok_iret rfl rfl (by decide) dX1_count_147, m_ret⟩ (
  lkp_c (P := OkP 181) ⟨(PuOK.ok (ok_aload_n dX1_count_148 rfl)), m_aload⟩ (
  lkp_c (P := OkP 181) ⟨ok_get ⟨"TollRoad", q664, Or.inl rfl⟩ dX1_count_149, m_get⟩ (
  lkp_c (P := OkP 181) ⟨ok_getN ⟨"TollRoad$World", "TollRoad", q631, Or.inl rfl⟩ dX1_count_152, m_get⟩ (
  lkp_c (P := OkP 181) ⟨(PuOK.ok (ok_iload_n dX1_count_155 rfl)), m_iload⟩ (
  lkp_c (P := OkP 181) ⟨ok_iald dX1_count_156, m_rdI⟩ (
  lkp_c (P := OkP 181) ⟨ok_iret rfl rfl (by decide) dX1_count_157, m_ret⟩ (
  trivial))))))))))))))))))
theorem mt_181 : MtOK TB NT IT 181 := ⟨by decide +kernel, rfl, (fun h => by cases h), Or.inl ⟨rfl, rfl⟩, rfl, by decide, lk2_all (P := OkP 181) ⟨c_181_0, c_181_1, c_181_2, trivial⟩⟩
def dkwX1_waiting_2 : List UInt8 := [167, 255, 222, 27, 172]
abbrev dktX1_waiting_2 : List UInt8 := dkwX1_waiting_2 ++ []
def dkwX1_waiting_1 : List UInt8 := [185, 0, 156, 1, 0, 192, 0, 160, 78, 27, 45, 180, 0, 162, 154, 0, 7, 4, 167, 0, 4, 3, 96, 60]
abbrev dktX1_waiting_1 : List UInt8 := dkwX1_waiting_1 ++ dktX1_waiting_2
def dkwX1_waiting_0 : List UInt8 := [3, 60, 42, 180, 0, 19, 180, 0, 143, 182, 0, 146, 77, 44, 185, 0, 150, 1, 0, 153, 0, 31, 44]
abbrev dktX1_waiting_0 : List UInt8 := dkwX1_waiting_0 ++ dktX1_waiting_1
theorem dksX1_waiting_0 : cX1_waiting.data.toList.drop 0 = dktX1_waiting_0 := by decide +kernel
theorem dksX1_waiting_1 : cX1_waiting.data.toList.drop 23 = dktX1_waiting_1 := dk_seg dksX1_waiting_0 23 rfl rfl
theorem dksX1_waiting_2 : cX1_waiting.data.toList.drop 47 = dktX1_waiting_2 := dk_seg dksX1_waiting_1 24 rfl rfl
theorem dX1_waiting_0 : decode cX1_waiting 0 = .ok (.iconst 0, 1) := dk_3 (dk_at dksX1_waiting_0 0 rfl rfl)
theorem dX1_waiting_1 : decode cX1_waiting 1 = .ok (.istore_n 1, 1) := dk_60 (dk_at dksX1_waiting_0 1 rfl rfl)
theorem dX1_waiting_2 : decode cX1_waiting 2 = .ok (.aload_n 0, 1) := dk_42 (dk_at dksX1_waiting_0 2 rfl rfl)
theorem dX1_waiting_3 : decode cX1_waiting 3 = .ok (.getfield 19, 3) := dk_180 0 19 (dk_at dksX1_waiting_0 3 rfl rfl)
theorem dX1_waiting_6 : decode cX1_waiting 6 = .ok (.getfield 143, 3) := dk_180 0 143 (dk_at dksX1_waiting_0 6 rfl rfl)
theorem dX1_waiting_9 : decode cX1_waiting 9 = .ok (.invokevirtual 146, 3) := dk_182 0 146 (dk_at dksX1_waiting_0 9 rfl rfl)
theorem dX1_waiting_12 : decode cX1_waiting 12 = .ok (.astore_n 2, 1) := dk_77 (dk_at dksX1_waiting_0 12 rfl rfl)
theorem dX1_waiting_13 : decode cX1_waiting 13 = .ok (.aload_n 2, 1) := dk_44 (dk_at dksX1_waiting_0 13 rfl rfl)
theorem dX1_waiting_14 : decode cX1_waiting 14 = .ok (.invokeinterface 150 1, 5) := by decide +kernel
theorem dX1_waiting_19 : decode cX1_waiting 19 = .ok (.ifCond .eq 31, 3) := dk_153 0 31 (dk_at dksX1_waiting_0 19 rfl rfl)
theorem dX1_waiting_22 : decode cX1_waiting 22 = .ok (.aload_n 2, 1) := dk_44 (dk_at dksX1_waiting_0 22 rfl rfl)
theorem dX1_waiting_23 : decode cX1_waiting 23 = .ok (.invokeinterface 156 1, 5) := by decide +kernel
theorem dX1_waiting_28 : decode cX1_waiting 28 = .ok (.checkcast 160, 3) := dk_192 0 160 (dk_at dksX1_waiting_1 5 rfl rfl)
theorem dX1_waiting_31 : decode cX1_waiting 31 = .ok (.astore_n 3, 1) := dk_78 (dk_at dksX1_waiting_1 8 rfl rfl)
theorem dX1_waiting_32 : decode cX1_waiting 32 = .ok (.iload_n 1, 1) := dk_27 (dk_at dksX1_waiting_1 9 rfl rfl)
theorem dX1_waiting_33 : decode cX1_waiting 33 = .ok (.aload_n 3, 1) := dk_45 (dk_at dksX1_waiting_1 10 rfl rfl)
theorem dX1_waiting_34 : decode cX1_waiting 34 = .ok (.getfield 162, 3) := dk_180 0 162 (dk_at dksX1_waiting_1 11 rfl rfl)
theorem dX1_waiting_37 : decode cX1_waiting 37 = .ok (.ifCond .ne 7, 3) := dk_154 0 7 (dk_at dksX1_waiting_1 14 rfl rfl)
theorem dX1_waiting_40 : decode cX1_waiting 40 = .ok (.iconst 1, 1) := dk_4 (dk_at dksX1_waiting_1 17 rfl rfl)
theorem dX1_waiting_41 : decode cX1_waiting 41 = .ok (.goto 4, 3) := dk_167 0 4 (dk_at dksX1_waiting_1 18 rfl rfl)
theorem dX1_waiting_44 : decode cX1_waiting 44 = .ok (.iconst 0, 1) := dk_3 (dk_at dksX1_waiting_1 21 rfl rfl)
theorem dX1_waiting_45 : decode cX1_waiting 45 = .ok (.iadd, 1) := dk_96 (dk_at dksX1_waiting_1 22 rfl rfl)
theorem dX1_waiting_46 : decode cX1_waiting 46 = .ok (.istore_n 1, 1) := dk_60 (dk_at dksX1_waiting_1 23 rfl rfl)
theorem dX1_waiting_47 : decode cX1_waiting 47 = .ok (.goto (-34), 3) := dk_167 255 222 (dk_at dksX1_waiting_2 0 rfl rfl)
theorem dX1_waiting_50 : decode cX1_waiting 50 = .ok (.iload_n 1, 1) := dk_27 (dk_at dksX1_waiting_2 3 rfl rfl)
theorem dX1_waiting_51 : decode cX1_waiting 51 = .ok (.ireturn, 1) := dk_172 (dk_at dksX1_waiting_2 4 rfl rfl)
theorem c_182_0 : LkP (OkP 182) [(0, o_push 1 (.int 0)), (1, o_istore 1 1), (2, o_aload 0 1), (3, o_get 0), (6, o_get 11), (9, o_cv [(3, 40)] 0 3 false none), (12, o_astore 2 1), (13, o_aload 2 1), (14, o_cv [(7, 50), (24, 86), (25, 92)] 0 5 false none), (19, o_if (fun x => decide (x = 0)) 50), (22, o_aload 2 1), (23, o_cv [(7, 51), (24, 89), (25, 95)] 0 5 false none), (28, o_cast [17]), (31, o_astore 3 1), (32, o_iload 1 1), (33, o_aload 3 1), (34, o_get 95), (37, o_if (fun x => decide (¬ x = 0)) 44), (40, o_push 1 (.int 1)), (41, o_goto 45), (44, o_push 1 (.int 0)), (45, o_iop (fun x y => x + y)), (46, o_istore 1 1), (47, o_goto 13), (50, o_iload 1 1), (51, o_ret 1)] := lkp_c (P := OkP 182) ⟨(PuOK.ok (ok_iconst dX1_waiting_0 rfl)), m_push⟩ (
  lkp_c (P := OkP 182) ⟨(PuOK.ok (ok_istore_n dX1_waiting_1 rfl)), m_istore⟩ (
  lkp_c (P := OkP 182) ⟨(PuOK.ok (ok_aload_n dX1_waiting_2 rfl)), m_aload⟩ (
  lkp_c (P := OkP 182) ⟨ok_get ⟨"TollRoad", q664, Or.inl rfl⟩ dX1_waiting_3, m_get⟩ (
  lkp_c (P := OkP 182) ⟨ok_getN ⟨"TollRoad$World", "TollRoad", q642, Or.inl rfl⟩ dX1_waiting_6, m_get⟩ (
  lkp_c (P := OkP 182) ⟨ok_cv (List.forall_mem_cons.mpr ⟨tg_V (ci := 3) (r := CLr 3) (y := 40) rfl ⟨rfl, by decide⟩ rfl q688 q689 q690 q120 q691 ⟨cn_15.1, cn_15.2, pd_70⟩ dX1_waiting_9, (List.forall_mem_nil _)⟩) hd_no, m_cv⟩ (
  lkp_c (P := OkP 182) ⟨(PuOK.ok (ok_astore_n dX1_waiting_12 rfl)), m_astore⟩ (
  lkp_c (P := OkP 182) ⟨(PuOK.ok (ok_aload_n dX1_waiting_13 rfl)), m_aload⟩ (
  lkp_c (P := OkP 182) ⟨ok_cv (List.forall_mem_cons.mpr ⟨tg_F (ci := 7) (r := CLr 7) (y := 50) rfl ⟨rfl, by decide⟩ q712 q716 q718 q150 q720 q714 q713 q719 q717 q715 ⟨cn_37.1, cn_37.2, pd_50⟩ dX1_waiting_14, (List.forall_mem_cons.mpr ⟨tg_F (ci := 24) (r := CLr 24) (y := 86) rfl ⟨rfl, by decide⟩ q712 q722 q724 q168 q726 q714 q713 q725 q723 q721 ⟨cn_37.1, cn_37.2, pd_50⟩ dX1_waiting_14, (List.forall_mem_cons.mpr ⟨tg_F (ci := 25) (r := CLr 25) (y := 92) rfl ⟨rfl, by decide⟩ q712 q738 q740 q171 q742 q714 q713 q741 q739 q737 ⟨cn_37.1, cn_37.2, pd_50⟩ dX1_waiting_14, (List.forall_mem_nil _)⟩)⟩)⟩) hd_no, m_cv⟩ (
  lkp_c (P := OkP 182) ⟨(PuOK.ok (ok_if_eq dX1_waiting_19 rfl)), m_if⟩ (
  lkp_c (P := OkP 182) ⟨(PuOK.ok (ok_aload_n dX1_waiting_22 rfl)), m_aload⟩ (
  lkp_c (P := OkP 182) ⟨ok_cv (List.forall_mem_cons.mpr ⟨tg_F (ci := 7) (r := CLr 7) (y := 51) rfl ⟨rfl, by decide⟩ q744 q747 q749 q150 q751 q746 q745 q750 q748 q715 ⟨cn_37.1, cn_37.2, pd_71⟩ dX1_waiting_23, (List.forall_mem_cons.mpr ⟨tg_F (ci := 24) (r := CLr 24) (y := 89) rfl ⟨rfl, by decide⟩ q744 q756 q758 q169 q760 q746 q745 q759 q757 q721 ⟨cn_37.1, cn_37.2, pd_71⟩ dX1_waiting_23, (List.forall_mem_cons.mpr ⟨tg_F (ci := 25) (r := CLr 25) (y := 95) rfl ⟨rfl, by decide⟩ q744 q790 q792 q172 q794 q746 q745 q793 q791 q737 ⟨cn_37.1, cn_37.2, pd_71⟩ dX1_waiting_23, (List.forall_mem_nil _)⟩)⟩)⟩) hd_no, m_cv⟩ (
  lkp_c (P := OkP 182) ⟨ok_cast q1771 cst_6 dX1_waiting_28, m_cast⟩ (
  lkp_c (P := OkP 182) ⟨(PuOK.ok (ok_astore_n dX1_waiting_31 rfl)), m_astore⟩ (
  lkp_c (P := OkP 182) ⟨(PuOK.ok (ok_iload_n dX1_waiting_32 rfl)), m_iload⟩ (
  lkp_c (P := OkP 182) ⟨(PuOK.ok (ok_aload_n dX1_waiting_33 rfl)), m_aload⟩ (
  lkp_c (P := OkP 182) ⟨ok_getN ⟨"TollRoad$Read", "TollRoad", q2016, Or.inl rfl⟩ dX1_waiting_34, m_get⟩ (
  lkp_c (P := OkP 182) ⟨(PuOK.ok (ok_if_ne dX1_waiting_37 rfl)), m_if⟩ (
  lkp_c (P := OkP 182) ⟨(PuOK.ok (ok_iconst dX1_waiting_40 rfl)), m_push⟩ (
  lkp_c (P := OkP 182) ⟨(PuOK.ok (ok_goto dX1_waiting_41 rfl)), m_goto⟩ (
  lkp_c (P := OkP 182) ⟨(PuOK.ok (ok_iconst dX1_waiting_44 rfl)), m_push⟩ (
  lkp_c (P := OkP 182) ⟨(PuOK.ok (ok_iadd dX1_waiting_45)), m_iop⟩ (
  lkp_c (P := OkP 182) ⟨(PuOK.ok (ok_istore_n dX1_waiting_46 rfl)), m_istore⟩ (
  lkp_c (P := OkP 182) ⟨(PuOK.ok (ok_goto dX1_waiting_47 rfl)), m_goto⟩ (
  lkp_c (P := OkP 182) ⟨(PuOK.ok (ok_iload_n dX1_waiting_50 rfl)), m_iload⟩ (
  lkp_c (P := OkP 182) ⟨ok_iret rfl rfl (by decide) dX1_waiting_51, m_ret⟩ (
  trivial))))))))))))))))))))))))))
theorem mt_182 : MtOK TB NT IT 182 := ⟨by decide +kernel, rfl, (fun h => by cases h), Or.inl ⟨rfl, rfl⟩, rfl, by decide, lk2_all (P := OkP 182) ⟨c_182_0, trivial⟩⟩
def dkwX1_disputes_2 : List UInt8 := [25, 4, 180, 0, 170, 5, 160, 0, 7, 4, 167, 0, 4, 3, 96, 61, 167, 255, 206, 28, 172]
abbrev dktX1_disputes_2 : List UInt8 := dkwX1_disputes_2 ++ []
def dkwX1_disputes_1 : List UInt8 := [185, 0, 156, 1, 0, 192, 0, 168, 58, 4, 28, 25, 4, 180, 0, 170, 4, 159, 0, 16, 27, 154, 0, 16]
abbrev dktX1_disputes_1 : List UInt8 := dkwX1_disputes_1 ++ dktX1_disputes_2
def dkwX1_disputes_0 : List UInt8 := [3, 61, 42, 180, 0, 19, 180, 0, 165, 182, 0, 146, 78, 45, 185, 0, 150, 1, 0, 153, 0, 47, 45]
abbrev dktX1_disputes_0 : List UInt8 := dkwX1_disputes_0 ++ dktX1_disputes_1
theorem dksX1_disputes_0 : cX1_disputes.data.toList.drop 0 = dktX1_disputes_0 := by decide +kernel
theorem dksX1_disputes_1 : cX1_disputes.data.toList.drop 23 = dktX1_disputes_1 := dk_seg dksX1_disputes_0 23 rfl rfl
theorem dksX1_disputes_2 : cX1_disputes.data.toList.drop 47 = dktX1_disputes_2 := dk_seg dksX1_disputes_1 24 rfl rfl
theorem dX1_disputes_0 : decode cX1_disputes 0 = .ok (.iconst 0, 1) := dk_3 (dk_at dksX1_disputes_0 0 rfl rfl)
theorem dX1_disputes_1 : decode cX1_disputes 1 = .ok (.istore_n 2, 1) := dk_61 (dk_at dksX1_disputes_0 1 rfl rfl)
theorem dX1_disputes_2 : decode cX1_disputes 2 = .ok (.aload_n 0, 1) := dk_42 (dk_at dksX1_disputes_0 2 rfl rfl)
theorem dX1_disputes_3 : decode cX1_disputes 3 = .ok (.getfield 19, 3) := dk_180 0 19 (dk_at dksX1_disputes_0 3 rfl rfl)
theorem dX1_disputes_6 : decode cX1_disputes 6 = .ok (.getfield 165, 3) := dk_180 0 165 (dk_at dksX1_disputes_0 6 rfl rfl)
theorem dX1_disputes_9 : decode cX1_disputes 9 = .ok (.invokevirtual 146, 3) := dk_182 0 146 (dk_at dksX1_disputes_0 9 rfl rfl)
theorem dX1_disputes_12 : decode cX1_disputes 12 = .ok (.astore_n 3, 1) := dk_78 (dk_at dksX1_disputes_0 12 rfl rfl)
theorem dX1_disputes_13 : decode cX1_disputes 13 = .ok (.aload_n 3, 1) := dk_45 (dk_at dksX1_disputes_0 13 rfl rfl)
theorem dX1_disputes_14 : decode cX1_disputes 14 = .ok (.invokeinterface 150 1, 5) := by decide +kernel
theorem dX1_disputes_19 : decode cX1_disputes 19 = .ok (.ifCond .eq 47, 3) := dk_153 0 47 (dk_at dksX1_disputes_0 19 rfl rfl)
theorem dX1_disputes_22 : decode cX1_disputes 22 = .ok (.aload_n 3, 1) := dk_45 (dk_at dksX1_disputes_0 22 rfl rfl)
theorem dX1_disputes_23 : decode cX1_disputes 23 = .ok (.invokeinterface 156 1, 5) := by decide +kernel
theorem dX1_disputes_28 : decode cX1_disputes 28 = .ok (.checkcast 168, 3) := dk_192 0 168 (dk_at dksX1_disputes_1 5 rfl rfl)
theorem dX1_disputes_31 : decode cX1_disputes 31 = .ok (.astore 4, 2) := dk_58 4 (dk_at dksX1_disputes_1 8 rfl rfl)
theorem dX1_disputes_33 : decode cX1_disputes 33 = .ok (.iload_n 2, 1) := dk_28 (dk_at dksX1_disputes_1 10 rfl rfl)
theorem dX1_disputes_34 : decode cX1_disputes 34 = .ok (.aload 4, 2) := dk_25 4 (dk_at dksX1_disputes_1 11 rfl rfl)
theorem dX1_disputes_36 : decode cX1_disputes 36 = .ok (.getfield 170, 3) := dk_180 0 170 (dk_at dksX1_disputes_1 13 rfl rfl)
theorem dX1_disputes_39 : decode cX1_disputes 39 = .ok (.iconst 1, 1) := dk_4 (dk_at dksX1_disputes_1 16 rfl rfl)
theorem dX1_disputes_40 : decode cX1_disputes 40 = .ok (.if_icmp .eq 16, 3) := dk_159 0 16 (dk_at dksX1_disputes_1 17 rfl rfl)
theorem dX1_disputes_43 : decode cX1_disputes 43 = .ok (.iload_n 1, 1) := dk_27 (dk_at dksX1_disputes_1 20 rfl rfl)
theorem dX1_disputes_44 : decode cX1_disputes 44 = .ok (.ifCond .ne 16, 3) := dk_154 0 16 (dk_at dksX1_disputes_1 21 rfl rfl)
theorem dX1_disputes_47 : decode cX1_disputes 47 = .ok (.aload 4, 2) := dk_25 4 (dk_at dksX1_disputes_2 0 rfl rfl)
theorem dX1_disputes_49 : decode cX1_disputes 49 = .ok (.getfield 170, 3) := dk_180 0 170 (dk_at dksX1_disputes_2 2 rfl rfl)
theorem dX1_disputes_52 : decode cX1_disputes 52 = .ok (.iconst 2, 1) := dk_5 (dk_at dksX1_disputes_2 5 rfl rfl)
theorem dX1_disputes_53 : decode cX1_disputes 53 = .ok (.if_icmp .ne 7, 3) := dk_160 0 7 (dk_at dksX1_disputes_2 6 rfl rfl)
theorem dX1_disputes_56 : decode cX1_disputes 56 = .ok (.iconst 1, 1) := dk_4 (dk_at dksX1_disputes_2 9 rfl rfl)
theorem dX1_disputes_57 : decode cX1_disputes 57 = .ok (.goto 4, 3) := dk_167 0 4 (dk_at dksX1_disputes_2 10 rfl rfl)
theorem dX1_disputes_60 : decode cX1_disputes 60 = .ok (.iconst 0, 1) := dk_3 (dk_at dksX1_disputes_2 13 rfl rfl)
theorem dX1_disputes_61 : decode cX1_disputes 61 = .ok (.iadd, 1) := dk_96 (dk_at dksX1_disputes_2 14 rfl rfl)
theorem dX1_disputes_62 : decode cX1_disputes 62 = .ok (.istore_n 2, 1) := dk_61 (dk_at dksX1_disputes_2 15 rfl rfl)
theorem dX1_disputes_63 : decode cX1_disputes 63 = .ok (.goto (-50), 3) := dk_167 255 206 (dk_at dksX1_disputes_2 16 rfl rfl)
theorem dX1_disputes_66 : decode cX1_disputes 66 = .ok (.iload_n 2, 1) := dk_28 (dk_at dksX1_disputes_2 19 rfl rfl)
theorem dX1_disputes_67 : decode cX1_disputes 67 = .ok (.ireturn, 1) := dk_172 (dk_at dksX1_disputes_2 20 rfl rfl)
theorem c_183_0 : LkP (OkP 183) [(0, o_push 1 (.int 0)), (1, o_istore 2 1), (2, o_aload 0 1), (3, o_get 0), (6, o_get 12), (9, o_cv [(3, 40)] 0 3 false none), (12, o_astore 3 1), (13, o_aload 3 1), (14, o_cv [(7, 50), (24, 86), (25, 92)] 0 5 false none), (19, o_if (fun x => decide (x = 0)) 66), (22, o_aload 3 1), (23, o_cv [(7, 51), (24, 89), (25, 95)] 0 5 false none), (28, o_cast [27]), (31, o_astore 4 2), (33, o_iload 2 1), (34, o_aload 4 2), (36, o_get 141), (39, o_push 1 (.int 1)), (40, o_icmp (fun x y => decide (x = y)) 56), (43, o_iload 1 1), (44, o_if (fun x => decide (¬ x = 0)) 60), (47, o_aload 4 2), (49, o_get 141), (52, o_push 1 (.int 2)), (53, o_icmp (fun x y => decide (¬ x = y)) 60), (56, o_push 1 (.int 1)), (57, o_goto 61), (60, o_push 1 (.int 0)), (61, o_iop (fun x y => x + y)), (62, o_istore 2 1), (63, o_goto 13)] := lkp_c (P := OkP 183) ⟨(PuOK.ok (ok_iconst dX1_disputes_0 rfl)), m_push⟩ (
  lkp_c (P := OkP 183) ⟨(PuOK.ok (ok_istore_n dX1_disputes_1 rfl)), m_istore⟩ (
  lkp_c (P := OkP 183) ⟨(PuOK.ok (ok_aload_n dX1_disputes_2 rfl)), m_aload⟩ (
  lkp_c (P := OkP 183) ⟨ok_get ⟨"TollRoad", q664, Or.inl rfl⟩ dX1_disputes_3, m_get⟩ (
  lkp_c (P := OkP 183) ⟨ok_getN ⟨"TollRoad$World", "TollRoad", q644, Or.inl rfl⟩ dX1_disputes_6, m_get⟩ (
  lkp_c (P := OkP 183) ⟨ok_cv (List.forall_mem_cons.mpr ⟨tg_V (ci := 3) (r := CLr 3) (y := 40) rfl ⟨rfl, by decide⟩ rfl q688 q689 q690 q120 q691 ⟨cn_15.1, cn_15.2, pd_70⟩ dX1_disputes_9, (List.forall_mem_nil _)⟩) hd_no, m_cv⟩ (
  lkp_c (P := OkP 183) ⟨(PuOK.ok (ok_astore_n dX1_disputes_12 rfl)), m_astore⟩ (
  lkp_c (P := OkP 183) ⟨(PuOK.ok (ok_aload_n dX1_disputes_13 rfl)), m_aload⟩ (
  lkp_c (P := OkP 183) ⟨ok_cv (List.forall_mem_cons.mpr ⟨tg_F (ci := 7) (r := CLr 7) (y := 50) rfl ⟨rfl, by decide⟩ q712 q716 q718 q150 q720 q714 q713 q719 q717 q715 ⟨cn_37.1, cn_37.2, pd_50⟩ dX1_disputes_14, (List.forall_mem_cons.mpr ⟨tg_F (ci := 24) (r := CLr 24) (y := 86) rfl ⟨rfl, by decide⟩ q712 q722 q724 q168 q726 q714 q713 q725 q723 q721 ⟨cn_37.1, cn_37.2, pd_50⟩ dX1_disputes_14, (List.forall_mem_cons.mpr ⟨tg_F (ci := 25) (r := CLr 25) (y := 92) rfl ⟨rfl, by decide⟩ q712 q738 q740 q171 q742 q714 q713 q741 q739 q737 ⟨cn_37.1, cn_37.2, pd_50⟩ dX1_disputes_14, (List.forall_mem_nil _)⟩)⟩)⟩) hd_no, m_cv⟩ (
  lkp_c (P := OkP 183) ⟨(PuOK.ok (ok_if_eq dX1_disputes_19 rfl)), m_if⟩ (
  lkp_c (P := OkP 183) ⟨(PuOK.ok (ok_aload_n dX1_disputes_22 rfl)), m_aload⟩ (
  lkp_c (P := OkP 183) ⟨ok_cv (List.forall_mem_cons.mpr ⟨tg_F (ci := 7) (r := CLr 7) (y := 51) rfl ⟨rfl, by decide⟩ q744 q747 q749 q150 q751 q746 q745 q750 q748 q715 ⟨cn_37.1, cn_37.2, pd_71⟩ dX1_disputes_23, (List.forall_mem_cons.mpr ⟨tg_F (ci := 24) (r := CLr 24) (y := 89) rfl ⟨rfl, by decide⟩ q744 q756 q758 q169 q760 q746 q745 q759 q757 q721 ⟨cn_37.1, cn_37.2, pd_71⟩ dX1_disputes_23, (List.forall_mem_cons.mpr ⟨tg_F (ci := 25) (r := CLr 25) (y := 95) rfl ⟨rfl, by decide⟩ q744 q790 q792 q172 q794 q746 q745 q793 q791 q737 ⟨cn_37.1, cn_37.2, pd_71⟩ dX1_disputes_23, (List.forall_mem_nil _)⟩)⟩)⟩) hd_no, m_cv⟩ (
  lkp_c (P := OkP 183) ⟨ok_cast q804 cst_5 dX1_disputes_28, m_cast⟩ (
  lkp_c (P := OkP 183) ⟨(PuOK.ok (ok_astore dX1_disputes_31)), m_astore⟩ (
  lkp_c (P := OkP 183) ⟨(PuOK.ok (ok_iload_n dX1_disputes_33 rfl)), m_iload⟩ (
  lkp_c (P := OkP 183) ⟨(PuOK.ok (ok_aload dX1_disputes_34)), m_aload⟩ (
  lkp_c (P := OkP 183) ⟨ok_getN ⟨"TollRoad$Bill", "TollRoad", q2649, Or.inl rfl⟩ dX1_disputes_36, m_get⟩ (
  lkp_c (P := OkP 183) ⟨(PuOK.ok (ok_iconst dX1_disputes_39 rfl)), m_push⟩ (
  lkp_c (P := OkP 183) ⟨(PuOK.ok (ok_icmp_eq dX1_disputes_40 rfl)), m_icmp⟩ (
  lkp_c (P := OkP 183) ⟨(PuOK.ok (ok_iload_n dX1_disputes_43 rfl)), m_iload⟩ (
  lkp_c (P := OkP 183) ⟨(PuOK.ok (ok_if_ne dX1_disputes_44 rfl)), m_if⟩ (
  lkp_c (P := OkP 183) ⟨(PuOK.ok (ok_aload dX1_disputes_47)), m_aload⟩ (
  lkp_c (P := OkP 183) ⟨ok_getN ⟨"TollRoad$Bill", "TollRoad", q2649, Or.inl rfl⟩ dX1_disputes_49, m_get⟩ (
  lkp_c (P := OkP 183) ⟨(PuOK.ok (ok_iconst dX1_disputes_52 rfl)), m_push⟩ (
  lkp_c (P := OkP 183) ⟨(PuOK.ok (ok_icmp_ne dX1_disputes_53 rfl)), m_icmp⟩ (
  lkp_c (P := OkP 183) ⟨(PuOK.ok (ok_iconst dX1_disputes_56 rfl)), m_push⟩ (
  lkp_c (P := OkP 183) ⟨(PuOK.ok (ok_goto dX1_disputes_57 rfl)), m_goto⟩ (
  lkp_c (P := OkP 183) ⟨(PuOK.ok (ok_iconst dX1_disputes_60 rfl)), m_push⟩ (
  lkp_c (P := OkP 183) ⟨(PuOK.ok (ok_iadd dX1_disputes_61)), m_iop⟩ (
  lkp_c (P := OkP 183) ⟨(PuOK.ok (ok_istore_n dX1_disputes_62 rfl)), m_istore⟩ (
  lkp_c (P := OkP 183) ⟨(PuOK.ok (ok_goto dX1_disputes_63 rfl)), m_goto⟩ (
  trivial)))))))))))))))))))))))))))))))
theorem c_183_1 : LkP (OkP 183) [(66, o_iload 2 1), (67, o_ret 1)] := lkp_c (P := OkP 183) ⟨(PuOK.ok (ok_iload_n dX1_disputes_66 rfl)), m_iload⟩ (
  lkp_c (P := OkP 183) ⟨ok_iret rfl rfl (by decide) dX1_disputes_67, m_ret⟩ (
  trivial))
theorem mt_183 : MtOK TB NT IT 183 := ⟨by decide +kernel, rfl, (fun h => by cases h), Or.inl ⟨rfl, rfl⟩, rfl, by decide, lk2_all (P := OkP 183) ⟨c_183_0, c_183_1, trivial⟩⟩
def dkwX1_account_3 : List UInt8 := [172, 45, 180, 0, 204, 172]
abbrev dktX1_account_3 : List UInt8 := dkwX1_account_3 ++ []
def dkwX1_account_2 : List UInt8 := [45, 180, 0, 188, 172, 45, 180, 0, 193, 172, 45, 180, 0, 196, 172, 45, 180, 0, 199, 172, 45, 180, 0, 201]
abbrev dktX1_account_2 : List UInt8 := dkwX1_account_2 ++ dktX1_account_3
def dkwX1_account_1 : List UInt8 := [170, 0, 0, 0, 58, 0, 0, 0, 0, 0, 0, 0, 4, 0, 0, 0, 33, 0, 0, 0, 38, 0, 0, 0, 43, 0, 0, 0, 48, 0, 0, 0, 53]
abbrev dktX1_account_1 : List UInt8 := dkwX1_account_1 ++ dktX1_account_2
def dkwX1_account_0 : List UInt8 := [42, 27, 182, 0, 182, 78, 28, 133, 9, 20, 0, 186, 184, 0, 46, 184, 0, 79, 28]
abbrev dktX1_account_0 : List UInt8 := dkwX1_account_0 ++ dktX1_account_1
theorem dksX1_account_0 : cX1_account.data.toList.drop 0 = dktX1_account_0 := by decide +kernel
theorem dksX1_account_1 : cX1_account.data.toList.drop 19 = dktX1_account_1 := dk_seg dksX1_account_0 19 rfl rfl
theorem dksX1_account_2 : cX1_account.data.toList.drop 52 = dktX1_account_2 := dk_seg dksX1_account_1 33 rfl rfl
theorem dksX1_account_3 : cX1_account.data.toList.drop 76 = dktX1_account_3 := dk_seg dksX1_account_2 24 rfl rfl
theorem dX1_account_0 : decode cX1_account 0 = .ok (.aload_n 0, 1) := dk_42 (dk_at dksX1_account_0 0 rfl rfl)
theorem dX1_account_1 : decode cX1_account 1 = .ok (.iload_n 1, 1) := dk_27 (dk_at dksX1_account_0 1 rfl rfl)
theorem dX1_account_2 : decode cX1_account 2 = .ok (.invokevirtual 182, 3) := dk_182 0 182 (dk_at dksX1_account_0 2 rfl rfl)
theorem dX1_account_5 : decode cX1_account 5 = .ok (.astore_n 3, 1) := dk_78 (dk_at dksX1_account_0 5 rfl rfl)
theorem dX1_account_6 : decode cX1_account 6 = .ok (.iload_n 2, 1) := dk_28 (dk_at dksX1_account_0 6 rfl rfl)
theorem dX1_account_7 : decode cX1_account 7 = .ok (.i2l, 1) := dk_133 (dk_at dksX1_account_0 7 rfl rfl)
theorem dX1_account_8 : decode cX1_account 8 = .ok (.lconst 0, 1) := dk_9 (dk_at dksX1_account_0 8 rfl rfl)
theorem dX1_account_9 : decode cX1_account 9 = .ok (.ldc2_w 186, 3) := dk_20 0 186 (dk_at dksX1_account_0 9 rfl rfl)
theorem dX1_account_12 : decode cX1_account 12 = .ok (.invokestatic 46, 3) := dk_184 0 46 (dk_at dksX1_account_0 12 rfl rfl)
theorem dX1_account_15 : decode cX1_account 15 = .ok (.invokestatic 79, 3) := dk_184 0 79 (dk_at dksX1_account_0 15 rfl rfl)
theorem dX1_account_18 : decode cX1_account 18 = .ok (.iload_n 2, 1) := dk_28 (dk_at dksX1_account_0 18 rfl rfl)
theorem dX1_account_19 : decode cX1_account 19 = .ok (.tableswitch 58 0 4 #[33, 38, 43, 48, 53], 33) := by decide +kernel
theorem dX1_account_52 : decode cX1_account 52 = .ok (.aload_n 3, 1) := dk_45 (dk_at dksX1_account_2 0 rfl rfl)
theorem dX1_account_53 : decode cX1_account 53 = .ok (.getfield 188, 3) := dk_180 0 188 (dk_at dksX1_account_2 1 rfl rfl)
theorem dX1_account_56 : decode cX1_account 56 = .ok (.ireturn, 1) := dk_172 (dk_at dksX1_account_2 4 rfl rfl)
theorem dX1_account_57 : decode cX1_account 57 = .ok (.aload_n 3, 1) := dk_45 (dk_at dksX1_account_2 5 rfl rfl)
theorem dX1_account_58 : decode cX1_account 58 = .ok (.getfield 193, 3) := dk_180 0 193 (dk_at dksX1_account_2 6 rfl rfl)
theorem dX1_account_61 : decode cX1_account 61 = .ok (.ireturn, 1) := dk_172 (dk_at dksX1_account_2 9 rfl rfl)
theorem dX1_account_62 : decode cX1_account 62 = .ok (.aload_n 3, 1) := dk_45 (dk_at dksX1_account_2 10 rfl rfl)
theorem dX1_account_63 : decode cX1_account 63 = .ok (.getfield 196, 3) := dk_180 0 196 (dk_at dksX1_account_2 11 rfl rfl)
theorem dX1_account_66 : decode cX1_account 66 = .ok (.ireturn, 1) := dk_172 (dk_at dksX1_account_2 14 rfl rfl)
theorem dX1_account_67 : decode cX1_account 67 = .ok (.aload_n 3, 1) := dk_45 (dk_at dksX1_account_2 15 rfl rfl)
theorem dX1_account_68 : decode cX1_account 68 = .ok (.getfield 199, 3) := dk_180 0 199 (dk_at dksX1_account_2 16 rfl rfl)
theorem dX1_account_71 : decode cX1_account 71 = .ok (.ireturn, 1) := dk_172 (dk_at dksX1_account_2 19 rfl rfl)
theorem dX1_account_72 : decode cX1_account 72 = .ok (.aload_n 3, 1) := dk_45 (dk_at dksX1_account_2 20 rfl rfl)
theorem dX1_account_73 : decode cX1_account 73 = .ok (.getfield 201, 3) := dk_180 0 201 (dk_at dksX1_account_2 21 rfl rfl)
theorem dX1_account_76 : decode cX1_account 76 = .ok (.ireturn, 1) := dk_172 (dk_at dksX1_account_3 0 rfl rfl)
theorem dX1_account_77 : decode cX1_account 77 = .ok (.aload_n 3, 1) := dk_45 (dk_at dksX1_account_3 1 rfl rfl)
theorem dX1_account_78 : decode cX1_account 78 = .ok (.getfield 204, 3) := dk_180 0 204 (dk_at dksX1_account_3 2 rfl rfl)
theorem dX1_account_81 : decode cX1_account 81 = .ok (.ireturn, 1) := dk_172 (dk_at dksX1_account_3 5 rfl rfl)
theorem c_184_0 : LkP (OkP 184) [(0, o_aload 0 1), (1, o_iload 1 1), (2, o_cv [(0, 185)] 1 3 false none), (5, o_astore 3 1), (6, o_iload 2 1), (7, o_i2l), (8, o_push 1 (.long 0)), (9, o_push 3 (.long 5)), (12, o_cs 165 3 false none), (15, o_cs 172 1 true none), (18, o_iload 2 1), (19, o_sw (swt 0 [52, 57, 62, 67, 72] 77)), (52, o_aload 3 1), (53, o_get 63), (56, o_ret 1), (57, o_aload 3 1), (58, o_get 64), (61, o_ret 1), (62, o_aload 3 1), (63, o_get 65)] := lkp_c (P := OkP 184) ⟨(PuOK.ok (ok_aload_n dX1_account_0 rfl)), m_aload⟩ (
  lkp_c (P := OkP 184) ⟨(PuOK.ok (ok_iload_n dX1_account_1 rfl)), m_iload⟩ (
  lkp_c (P := OkP 184) ⟨ok_cv (List.forall_mem_cons.mpr ⟨tg_V (ci := 0) (r := CLr 0) (y := 185) rfl ⟨rfl, by decide⟩ rfl q1783 q1785 qs17 q115 q1786 ⟨cn_33.1, cn_33.2, pd_79⟩ dX1_account_2, (List.forall_mem_nil _)⟩) hd_no, m_cv⟩ (
  lkp_c (P := OkP 184) ⟨(PuOK.ok (ok_astore_n dX1_account_5 rfl)), m_astore⟩ (
  lkp_c (P := OkP 184) ⟨(PuOK.ok (ok_iload_n dX1_account_6 rfl)), m_iload⟩ (
  lkp_c (P := OkP 184) ⟨(PuOK.ok (ok_i2l dX1_account_7)), m_i2l⟩ (
  lkp_c (P := OkP 184) ⟨(PuOK.ok (ok_lconst dX1_account_8 rfl)), m_push⟩ (
  lkp_c (P := OkP 184) ⟨(PuOK.ok (ok_ldc2 q1787 dX1_account_9)), m_push⟩ (
  lkp_c (P := OkP 184) ⟨ok_cs (tg_S ⟨rfl, by decide⟩ q1643 q1284 q115 q1285 ⟨cn_33.1, cn_33.2, pd_74⟩ dX1_account_12) hd_no, m_cs⟩ (
  lkp_c (P := OkP 184) ⟨ok_cs (tg_S ⟨rfl, by decide⟩ q1644 q1645 q115 q1646 ⟨cn_33.1, cn_33.2, pd_18⟩ dX1_account_15) hd_no, m_cs⟩ (
  lkp_c (P := OkP 184) ⟨(PuOK.ok (ok_iload_n dX1_account_18 rfl)), m_iload⟩ (
  lkp_c (P := OkP 184) ⟨(PuOK.ok (ok_tsw dX1_account_19 (by decide +kernel))), m_sw⟩ (
  lkp_c (P := OkP 184) ⟨(PuOK.ok (ok_aload_n dX1_account_52 rfl)), m_aload⟩ (
  lkp_c (P := OkP 184) ⟨ok_getN ⟨"TollRoad$Account", "TollRoad", q1459, Or.inl rfl⟩ dX1_account_53, m_get⟩ (
  lkp_c (P := OkP 184) ⟨ok_iret rfl rfl (by decide) dX1_account_56, m_ret⟩ (
  lkp_c (P := OkP 184) ⟨(PuOK.ok (ok_aload_n dX1_account_57 rfl)), m_aload⟩ (
  lkp_c (P := OkP 184) ⟨ok_getN ⟨"TollRoad$Account", "TollRoad", q1461, Or.inl rfl⟩ dX1_account_58, m_get⟩ (
  lkp_c (P := OkP 184) ⟨ok_iret rfl rfl (by decide) dX1_account_61, m_ret⟩ (
  lkp_c (P := OkP 184) ⟨(PuOK.ok (ok_aload_n dX1_account_62 rfl)), m_aload⟩ (
  lkp_c (P := OkP 184) ⟨ok_getN ⟨"TollRoad$Account", "TollRoad", q1463, Or.inl rfl⟩ dX1_account_63, m_get⟩ (
  trivial))))))))))))))))))))
theorem c_184_1 : LkP (OkP 184) [(66, o_ret 1), (67, o_aload 3 1), (68, o_get 66), (71, o_ret 1), (72, o_aload 3 1), (73, o_get 67), (76, o_ret 1), (77, o_aload 3 1), (78, o_get 68), (81, o_ret 1)] := lkp_c (P := OkP 184) ⟨ok_iret rfl rfl (by decide) dX1_account_66, m_ret⟩ (
  lkp_c (P := OkP 184) ⟨(PuOK.ok (ok_aload_n dX1_account_67 rfl)), m_aload⟩ (
  lkp_c (P := OkP 184) ⟨ok_getN ⟨"TollRoad$Account", "TollRoad", q1465, Or.inl rfl⟩ dX1_account_68, m_get⟩ (
  lkp_c (P := OkP 184) ⟨ok_iret rfl rfl (by decide) dX1_account_71, m_ret⟩ (
  lkp_c (P := OkP 184) ⟨(PuOK.ok (ok_aload_n dX1_account_72 rfl)), m_aload⟩ (
  lkp_c (P := OkP 184) ⟨ok_getN ⟨"TollRoad$Account", "TollRoad", q1467, Or.inl rfl⟩ dX1_account_73, m_get⟩ (
  lkp_c (P := OkP 184) ⟨ok_iret rfl rfl (by decide) dX1_account_76, m_ret⟩ (
  lkp_c (P := OkP 184) ⟨(PuOK.ok (ok_aload_n dX1_account_77 rfl)), m_aload⟩ (
  lkp_c (P := OkP 184) ⟨ok_getN ⟨"TollRoad$Account", "TollRoad", q1469, Or.inl rfl⟩ dX1_account_78, m_get⟩ (
  lkp_c (P := OkP 184) ⟨ok_iret rfl rfl (by decide) dX1_account_81, m_ret⟩ (
  trivial))))))))))
theorem mt_184 : MtOK TB NT IT 184 := ⟨by decide +kernel, rfl, (fun h => by cases h), Or.inl ⟨rfl, rfl⟩, rfl, by decide, lk2_all (P := OkP 184) ⟨c_184_0, c_184_1, trivial⟩⟩
def dkwX1_accountAt_1 : List UInt8 := [180, 0, 73, 27, 50, 176]
abbrev dktX1_accountAt_1 : List UInt8 := dkwX1_accountAt_1 ++ []
def dkwX1_accountAt_0 : List UInt8 := [27, 133, 9, 42, 180, 0, 19, 180, 0, 70, 4, 100, 133, 184, 0, 46, 184, 0, 50, 42, 180, 0, 19]
abbrev dktX1_accountAt_0 : List UInt8 := dkwX1_accountAt_0 ++ dktX1_accountAt_1
theorem dksX1_accountAt_0 : cX1_accountAt.data.toList.drop 0 = dktX1_accountAt_0 := by decide +kernel
theorem dksX1_accountAt_1 : cX1_accountAt.data.toList.drop 23 = dktX1_accountAt_1 := dk_seg dksX1_accountAt_0 23 rfl rfl
theorem dX1_accountAt_0 : decode cX1_accountAt 0 = .ok (.iload_n 1, 1) := dk_27 (dk_at dksX1_accountAt_0 0 rfl rfl)
theorem dX1_accountAt_1 : decode cX1_accountAt 1 = .ok (.i2l, 1) := dk_133 (dk_at dksX1_accountAt_0 1 rfl rfl)
theorem dX1_accountAt_2 : decode cX1_accountAt 2 = .ok (.lconst 0, 1) := dk_9 (dk_at dksX1_accountAt_0 2 rfl rfl)
theorem dX1_accountAt_3 : decode cX1_accountAt 3 = .ok (.aload_n 0, 1) := dk_42 (dk_at dksX1_accountAt_0 3 rfl rfl)
theorem dX1_accountAt_4 : decode cX1_accountAt 4 = .ok (.getfield 19, 3) := dk_180 0 19 (dk_at dksX1_accountAt_0 4 rfl rfl)
theorem dX1_accountAt_7 : decode cX1_accountAt 7 = .ok (.getfield 70, 3) := dk_180 0 70 (dk_at dksX1_accountAt_0 7 rfl rfl)
theorem dX1_accountAt_10 : decode cX1_accountAt 10 = .ok (.iconst 1, 1) := dk_4 (dk_at dksX1_accountAt_0 10 rfl rfl)
theorem dX1_accountAt_11 : decode cX1_accountAt 11 = .ok (.isub, 1) := dk_100 (dk_at dksX1_accountAt_0 11 rfl rfl)
theorem dX1_accountAt_12 : decode cX1_accountAt 12 = .ok (.i2l, 1) := dk_133 (dk_at dksX1_accountAt_0 12 rfl rfl)
theorem dX1_accountAt_13 : decode cX1_accountAt 13 = .ok (.invokestatic 46, 3) := dk_184 0 46 (dk_at dksX1_accountAt_0 13 rfl rfl)
theorem dX1_accountAt_16 : decode cX1_accountAt 16 = .ok (.invokestatic 50, 3) := dk_184 0 50 (dk_at dksX1_accountAt_0 16 rfl rfl)
theorem dX1_accountAt_19 : decode cX1_accountAt 19 = .ok (.aload_n 0, 1) := dk_42 (dk_at dksX1_accountAt_0 19 rfl rfl)
theorem dX1_accountAt_20 : decode cX1_accountAt 20 = .ok (.getfield 19, 3) := dk_180 0 19 (dk_at dksX1_accountAt_0 20 rfl rfl)
theorem dX1_accountAt_23 : decode cX1_accountAt 23 = .ok (.getfield 73, 3) := dk_180 0 73 (dk_at dksX1_accountAt_1 0 rfl rfl)
theorem dX1_accountAt_26 : decode cX1_accountAt 26 = .ok (.iload_n 1, 1) := dk_27 (dk_at dksX1_accountAt_1 3 rfl rfl)
theorem dX1_accountAt_27 : decode cX1_accountAt 27 = .ok (.aaload, 1) := dk_50 (dk_at dksX1_accountAt_1 4 rfl rfl)
theorem dX1_accountAt_28 : decode cX1_accountAt 28 = .ok (.areturn, 1) := dk_176 (dk_at dksX1_accountAt_1 5 rfl rfl)
theorem c_185_0 : LkP (OkP 185) [(0, o_iload 1 1), (1, o_i2l), (2, o_push 1 (.long 0)), (3, o_aload 0 1), (4, o_get 0), (7, o_get 9), (10, o_push 1 (.int 1)), (11, o_iop (fun x y => x - y)), (12, o_i2l), (13, o_cs 165 3 false none), (16, o_cs 176 1 true none), (19, o_aload 0 1), (20, o_get 0), (23, o_get 8), (26, o_iload 1 1), (27, o_rdQ), (28, o_ret 0)] := lkp_c (P := OkP 185) ⟨(PuOK.ok (ok_iload_n dX1_accountAt_0 rfl)), m_iload⟩ (
  lkp_c (P := OkP 185) ⟨(PuOK.ok (ok_i2l dX1_accountAt_1)), m_i2l⟩ (
  lkp_c (P := OkP 185) ⟨(PuOK.ok (ok_lconst dX1_accountAt_2 rfl)), m_push⟩ (
  lkp_c (P := OkP 185) ⟨(PuOK.ok (ok_aload_n dX1_accountAt_3 rfl)), m_aload⟩ (
  lkp_c (P := OkP 185) ⟨ok_get ⟨"TollRoad", q664, Or.inl rfl⟩ dX1_accountAt_4, m_get⟩ (
  lkp_c (P := OkP 185) ⟨ok_getN ⟨"TollRoad$World", "TollRoad", q635, Or.inl rfl⟩ dX1_accountAt_7, m_get⟩ (
  lkp_c (P := OkP 185) ⟨(PuOK.ok (ok_iconst dX1_accountAt_10 rfl)), m_push⟩ (
  lkp_c (P := OkP 185) ⟨(PuOK.ok (ok_isub dX1_accountAt_11)), m_iop⟩ (
  lkp_c (P := OkP 185) ⟨(PuOK.ok (ok_i2l dX1_accountAt_12)), m_i2l⟩ (
  lkp_c (P := OkP 185) ⟨ok_cs (tg_S ⟨rfl, by decide⟩ q1643 q1284 q115 q1285 ⟨cn_33.1, cn_33.2, pd_74⟩ dX1_accountAt_13) hd_no, m_cs⟩ (
  lkp_c (P := OkP 185) ⟨ok_cs (tg_S ⟨rfl, by decide⟩ q1691 q1692 q115 q1693 ⟨cn_33.1, cn_33.2, pd_18⟩ dX1_accountAt_16) hd_no, m_cs⟩ (
  lkp_c (P := OkP 185) ⟨(PuOK.ok (ok_aload_n dX1_accountAt_19 rfl)), m_aload⟩ (
  lkp_c (P := OkP 185) ⟨ok_get ⟨"TollRoad", q664, Or.inl rfl⟩ dX1_accountAt_20, m_get⟩ (
  lkp_c (P := OkP 185) ⟨ok_getN ⟨"TollRoad$World", "TollRoad", q633, Or.inl rfl⟩ dX1_accountAt_23, m_get⟩ (
  lkp_c (P := OkP 185) ⟨(PuOK.ok (ok_iload_n dX1_accountAt_26 rfl)), m_iload⟩ (
  lkp_c (P := OkP 185) ⟨ok_aald dX1_accountAt_27, m_rdQ⟩ (
  lkp_c (P := OkP 185) ⟨ok_aret rfl (Or.inl ⟨_, rfl⟩) dX1_accountAt_28, m_ret⟩ (
  trivial)))))))))))))))))
theorem mt_185 : MtOK TB NT IT 185 := ⟨by decide +kernel, rfl, (fun h => by cases h), Or.inl ⟨rfl, rfl⟩, rfl, by decide, lk2_all (P := OkP 185) ⟨c_185_0, trivial⟩⟩
def dkwX1_pay_1 : List UInt8 := [96, 181, 0, 188, 45, 180, 0, 188, 172]
abbrev dktX1_pay_1 : List UInt8 := dkwX1_pay_1 ++ []
def dkwX1_pay_0 : List UInt8 := [42, 27, 182, 0, 182, 78, 28, 133, 10, 20, 0, 108, 184, 0, 46, 184, 0, 79, 45, 89, 180, 0, 188, 28]
abbrev dktX1_pay_0 : List UInt8 := dkwX1_pay_0 ++ dktX1_pay_1
theorem dksX1_pay_0 : cX1_pay.data.toList.drop 0 = dktX1_pay_0 := by decide +kernel
theorem dksX1_pay_1 : cX1_pay.data.toList.drop 24 = dktX1_pay_1 := dk_seg dksX1_pay_0 24 rfl rfl
theorem dX1_pay_0 : decode cX1_pay 0 = .ok (.aload_n 0, 1) := dk_42 (dk_at dksX1_pay_0 0 rfl rfl)
theorem dX1_pay_1 : decode cX1_pay 1 = .ok (.iload_n 1, 1) := dk_27 (dk_at dksX1_pay_0 1 rfl rfl)
theorem dX1_pay_2 : decode cX1_pay 2 = .ok (.invokevirtual 182, 3) := dk_182 0 182 (dk_at dksX1_pay_0 2 rfl rfl)
theorem dX1_pay_5 : decode cX1_pay 5 = .ok (.astore_n 3, 1) := dk_78 (dk_at dksX1_pay_0 5 rfl rfl)
theorem dX1_pay_6 : decode cX1_pay 6 = .ok (.iload_n 2, 1) := dk_28 (dk_at dksX1_pay_0 6 rfl rfl)
theorem dX1_pay_7 : decode cX1_pay 7 = .ok (.i2l, 1) := dk_133 (dk_at dksX1_pay_0 7 rfl rfl)
theorem dX1_pay_8 : decode cX1_pay 8 = .ok (.lconst 1, 1) := dk_10 (dk_at dksX1_pay_0 8 rfl rfl)
theorem dX1_pay_9 : decode cX1_pay 9 = .ok (.ldc2_w 108, 3) := dk_20 0 108 (dk_at dksX1_pay_0 9 rfl rfl)
theorem dX1_pay_12 : decode cX1_pay 12 = .ok (.invokestatic 46, 3) := dk_184 0 46 (dk_at dksX1_pay_0 12 rfl rfl)
theorem dX1_pay_15 : decode cX1_pay 15 = .ok (.invokestatic 79, 3) := dk_184 0 79 (dk_at dksX1_pay_0 15 rfl rfl)
theorem dX1_pay_18 : decode cX1_pay 18 = .ok (.aload_n 3, 1) := dk_45 (dk_at dksX1_pay_0 18 rfl rfl)
theorem dX1_pay_19 : decode cX1_pay 19 = .ok (.dup, 1) := dk_89 (dk_at dksX1_pay_0 19 rfl rfl)
theorem dX1_pay_20 : decode cX1_pay 20 = .ok (.getfield 188, 3) := dk_180 0 188 (dk_at dksX1_pay_0 20 rfl rfl)
theorem dX1_pay_23 : decode cX1_pay 23 = .ok (.iload_n 2, 1) := dk_28 (dk_at dksX1_pay_0 23 rfl rfl)
theorem dX1_pay_24 : decode cX1_pay 24 = .ok (.iadd, 1) := dk_96 (dk_at dksX1_pay_1 0 rfl rfl)
theorem dX1_pay_25 : decode cX1_pay 25 = .ok (.putfield 188, 3) := dk_181 0 188 (dk_at dksX1_pay_1 1 rfl rfl)
theorem dX1_pay_28 : decode cX1_pay 28 = .ok (.aload_n 3, 1) := dk_45 (dk_at dksX1_pay_1 4 rfl rfl)
theorem dX1_pay_29 : decode cX1_pay 29 = .ok (.getfield 188, 3) := dk_180 0 188 (dk_at dksX1_pay_1 5 rfl rfl)
theorem dX1_pay_32 : decode cX1_pay 32 = .ok (.ireturn, 1) := dk_172 (dk_at dksX1_pay_1 8 rfl rfl)
theorem c_186_0 : LkP (OkP 186) [(0, o_aload 0 1), (1, o_iload 1 1), (2, o_cv [(0, 185)] 1 3 false none), (5, o_astore 3 1), (6, o_iload 2 1), (7, o_i2l), (8, o_push 1 (.long 1)), (9, o_push 3 (.long 100000)), (12, o_cs 165 3 false none), (15, o_cs 172 1 true none), (18, o_aload 3 1), (19, o_dup), (20, o_get 63), (23, o_iload 2 1), (24, o_iop (fun x y => x + y)), (25, o_put 63 1), (28, o_aload 3 1), (29, o_get 63), (32, o_ret 1)] := lkp_c (P := OkP 186) ⟨(PuOK.ok (ok_aload_n dX1_pay_0 rfl)), m_aload⟩ (
  lkp_c (P := OkP 186) ⟨(PuOK.ok (ok_iload_n dX1_pay_1 rfl)), m_iload⟩ (
  lkp_c (P := OkP 186) ⟨ok_cv (List.forall_mem_cons.mpr ⟨tg_V (ci := 0) (r := CLr 0) (y := 185) rfl ⟨rfl, by decide⟩ rfl q1783 q1785 qs17 q115 q1786 ⟨cn_33.1, cn_33.2, pd_79⟩ dX1_pay_2, (List.forall_mem_nil _)⟩) hd_no, m_cv⟩ (
  lkp_c (P := OkP 186) ⟨(PuOK.ok (ok_astore_n dX1_pay_5 rfl)), m_astore⟩ (
  lkp_c (P := OkP 186) ⟨(PuOK.ok (ok_iload_n dX1_pay_6 rfl)), m_iload⟩ (
  lkp_c (P := OkP 186) ⟨(PuOK.ok (ok_i2l dX1_pay_7)), m_i2l⟩ (
  lkp_c (P := OkP 186) ⟨(PuOK.ok (ok_lconst dX1_pay_8 rfl)), m_push⟩ (
  lkp_c (P := OkP 186) ⟨(PuOK.ok (ok_ldc2 q1720 dX1_pay_9)), m_push⟩ (
  lkp_c (P := OkP 186) ⟨ok_cs (tg_S ⟨rfl, by decide⟩ q1643 q1284 q115 q1285 ⟨cn_33.1, cn_33.2, pd_74⟩ dX1_pay_12) hd_no, m_cs⟩ (
  lkp_c (P := OkP 186) ⟨ok_cs (tg_S ⟨rfl, by decide⟩ q1644 q1645 q115 q1646 ⟨cn_33.1, cn_33.2, pd_18⟩ dX1_pay_15) hd_no, m_cs⟩ (
  lkp_c (P := OkP 186) ⟨(PuOK.ok (ok_aload_n dX1_pay_18 rfl)), m_aload⟩ (
  lkp_c (P := OkP 186) ⟨(PuOK.ok (ok_dup dX1_pay_19)), m_dup⟩ (
  lkp_c (P := OkP 186) ⟨ok_getN ⟨"TollRoad$Account", "TollRoad", q1459, Or.inl rfl⟩ dX1_pay_20, m_get⟩ (
  lkp_c (P := OkP 186) ⟨(PuOK.ok (ok_iload_n dX1_pay_23 rfl)), m_iload⟩ (
  lkp_c (P := OkP 186) ⟨(PuOK.ok (ok_iadd dX1_pay_24)), m_iop⟩ (
  lkp_c (P := OkP 186) ⟨ok_putN ⟨"TollRoad$Account", "TollRoad", q1459, Or.inl rfl⟩ rfl fd_63 rfl dX1_pay_25, m_put⟩ (
  lkp_c (P := OkP 186) ⟨(PuOK.ok (ok_aload_n dX1_pay_28 rfl)), m_aload⟩ (
  lkp_c (P := OkP 186) ⟨ok_getN ⟨"TollRoad$Account", "TollRoad", q1459, Or.inl rfl⟩ dX1_pay_29, m_get⟩ (
  lkp_c (P := OkP 186) ⟨ok_iret rfl rfl (by decide) dX1_pay_32, m_ret⟩ (
  trivial)))))))))))))))))))
theorem mt_186 : MtOK TB NT IT 186 := ⟨by decide +kernel, rfl, (fun h => by cases h), Or.inl ⟨rfl, rfl⟩, rfl, by decide, lk2_all (P := OkP 186) ⟨c_186_0, trivial⟩⟩
def dkwX1_vehicle_3 : List UInt8 := [172, 45, 180, 0, 224, 172, 45, 180, 0, 227, 172, 45, 180, 0, 230, 172]
abbrev dktX1_vehicle_3 : List UInt8 := dkwX1_vehicle_3 ++ []
def dkwX1_vehicle_2 : List UInt8 := [45, 180, 0, 213, 172, 45, 180, 0, 215, 172, 45, 180, 0, 218, 172, 42, 180, 0, 19, 27, 4, 182, 0, 221]
abbrev dktX1_vehicle_2 : List UInt8 := dkwX1_vehicle_2 ++ dktX1_vehicle_3
def dkwX1_vehicle_1 : List UInt8 := [170, 0, 0, 0, 72, 0, 0, 0, 0, 0, 0, 0, 5, 0, 0, 0, 37, 0, 0, 0, 42, 0, 0, 0, 47, 0, 0, 0, 52, 0, 0, 0, 62, 0, 0, 0, 67]
abbrev dktX1_vehicle_1 : List UInt8 := dkwX1_vehicle_1 ++ dktX1_vehicle_2
def dkwX1_vehicle_0 : List UInt8 := [42, 27, 182, 0, 207, 78, 28, 133, 9, 20, 0, 211, 184, 0, 46, 184, 0, 79, 28]
abbrev dktX1_vehicle_0 : List UInt8 := dkwX1_vehicle_0 ++ dktX1_vehicle_1
theorem dksX1_vehicle_0 : cX1_vehicle.data.toList.drop 0 = dktX1_vehicle_0 := by decide +kernel
theorem dksX1_vehicle_1 : cX1_vehicle.data.toList.drop 19 = dktX1_vehicle_1 := dk_seg dksX1_vehicle_0 19 rfl rfl
theorem dksX1_vehicle_2 : cX1_vehicle.data.toList.drop 56 = dktX1_vehicle_2 := dk_seg dksX1_vehicle_1 37 rfl rfl
theorem dksX1_vehicle_3 : cX1_vehicle.data.toList.drop 80 = dktX1_vehicle_3 := dk_seg dksX1_vehicle_2 24 rfl rfl
theorem dX1_vehicle_0 : decode cX1_vehicle 0 = .ok (.aload_n 0, 1) := dk_42 (dk_at dksX1_vehicle_0 0 rfl rfl)
theorem dX1_vehicle_1 : decode cX1_vehicle 1 = .ok (.iload_n 1, 1) := dk_27 (dk_at dksX1_vehicle_0 1 rfl rfl)
theorem dX1_vehicle_2 : decode cX1_vehicle 2 = .ok (.invokevirtual 207, 3) := dk_182 0 207 (dk_at dksX1_vehicle_0 2 rfl rfl)
theorem dX1_vehicle_5 : decode cX1_vehicle 5 = .ok (.astore_n 3, 1) := dk_78 (dk_at dksX1_vehicle_0 5 rfl rfl)
theorem dX1_vehicle_6 : decode cX1_vehicle 6 = .ok (.iload_n 2, 1) := dk_28 (dk_at dksX1_vehicle_0 6 rfl rfl)
theorem dX1_vehicle_7 : decode cX1_vehicle 7 = .ok (.i2l, 1) := dk_133 (dk_at dksX1_vehicle_0 7 rfl rfl)
theorem dX1_vehicle_8 : decode cX1_vehicle 8 = .ok (.lconst 0, 1) := dk_9 (dk_at dksX1_vehicle_0 8 rfl rfl)
theorem dX1_vehicle_9 : decode cX1_vehicle 9 = .ok (.ldc2_w 211, 3) := dk_20 0 211 (dk_at dksX1_vehicle_0 9 rfl rfl)
theorem dX1_vehicle_12 : decode cX1_vehicle 12 = .ok (.invokestatic 46, 3) := dk_184 0 46 (dk_at dksX1_vehicle_0 12 rfl rfl)
theorem dX1_vehicle_15 : decode cX1_vehicle 15 = .ok (.invokestatic 79, 3) := dk_184 0 79 (dk_at dksX1_vehicle_0 15 rfl rfl)
theorem dX1_vehicle_18 : decode cX1_vehicle 18 = .ok (.iload_n 2, 1) := dk_28 (dk_at dksX1_vehicle_0 18 rfl rfl)
theorem dX1_vehicle_19 : decode cX1_vehicle 19 = .ok (.tableswitch 72 0 5 #[37, 42, 47, 52, 62, 67], 37) := by decide +kernel
theorem dX1_vehicle_56 : decode cX1_vehicle 56 = .ok (.aload_n 3, 1) := dk_45 (dk_at dksX1_vehicle_2 0 rfl rfl)
theorem dX1_vehicle_57 : decode cX1_vehicle 57 = .ok (.getfield 213, 3) := dk_180 0 213 (dk_at dksX1_vehicle_2 1 rfl rfl)
theorem dX1_vehicle_60 : decode cX1_vehicle 60 = .ok (.ireturn, 1) := dk_172 (dk_at dksX1_vehicle_2 4 rfl rfl)
theorem dX1_vehicle_61 : decode cX1_vehicle 61 = .ok (.aload_n 3, 1) := dk_45 (dk_at dksX1_vehicle_2 5 rfl rfl)
theorem dX1_vehicle_62 : decode cX1_vehicle 62 = .ok (.getfield 215, 3) := dk_180 0 215 (dk_at dksX1_vehicle_2 6 rfl rfl)
theorem dX1_vehicle_65 : decode cX1_vehicle 65 = .ok (.ireturn, 1) := dk_172 (dk_at dksX1_vehicle_2 9 rfl rfl)
theorem dX1_vehicle_66 : decode cX1_vehicle 66 = .ok (.aload_n 3, 1) := dk_45 (dk_at dksX1_vehicle_2 10 rfl rfl)
theorem dX1_vehicle_67 : decode cX1_vehicle 67 = .ok (.getfield 218, 3) := dk_180 0 218 (dk_at dksX1_vehicle_2 11 rfl rfl)
theorem dX1_vehicle_70 : decode cX1_vehicle 70 = .ok (.ireturn, 1) := dk_172 (dk_at dksX1_vehicle_2 14 rfl rfl)
theorem dX1_vehicle_71 : decode cX1_vehicle 71 = .ok (.aload_n 0, 1) := dk_42 (dk_at dksX1_vehicle_2 15 rfl rfl)
theorem dX1_vehicle_72 : decode cX1_vehicle 72 = .ok (.getfield 19, 3) := dk_180 0 19 (dk_at dksX1_vehicle_2 16 rfl rfl)
theorem dX1_vehicle_75 : decode cX1_vehicle 75 = .ok (.iload_n 1, 1) := dk_27 (dk_at dksX1_vehicle_2 19 rfl rfl)
theorem dX1_vehicle_76 : decode cX1_vehicle 76 = .ok (.iconst 1, 1) := dk_4 (dk_at dksX1_vehicle_2 20 rfl rfl)
theorem dX1_vehicle_77 : decode cX1_vehicle 77 = .ok (.invokevirtual 221, 3) := dk_182 0 221 (dk_at dksX1_vehicle_2 21 rfl rfl)
theorem dX1_vehicle_80 : decode cX1_vehicle 80 = .ok (.ireturn, 1) := dk_172 (dk_at dksX1_vehicle_3 0 rfl rfl)
theorem dX1_vehicle_81 : decode cX1_vehicle 81 = .ok (.aload_n 3, 1) := dk_45 (dk_at dksX1_vehicle_3 1 rfl rfl)
theorem dX1_vehicle_82 : decode cX1_vehicle 82 = .ok (.getfield 224, 3) := dk_180 0 224 (dk_at dksX1_vehicle_3 2 rfl rfl)
theorem dX1_vehicle_85 : decode cX1_vehicle 85 = .ok (.ireturn, 1) := dk_172 (dk_at dksX1_vehicle_3 5 rfl rfl)
theorem dX1_vehicle_86 : decode cX1_vehicle 86 = .ok (.aload_n 3, 1) := dk_45 (dk_at dksX1_vehicle_3 6 rfl rfl)
theorem dX1_vehicle_87 : decode cX1_vehicle 87 = .ok (.getfield 227, 3) := dk_180 0 227 (dk_at dksX1_vehicle_3 7 rfl rfl)
theorem dX1_vehicle_90 : decode cX1_vehicle 90 = .ok (.ireturn, 1) := dk_172 (dk_at dksX1_vehicle_3 10 rfl rfl)
theorem dX1_vehicle_91 : decode cX1_vehicle 91 = .ok (.aload_n 3, 1) := dk_45 (dk_at dksX1_vehicle_3 11 rfl rfl)
theorem dX1_vehicle_92 : decode cX1_vehicle 92 = .ok (.getfield 230, 3) := dk_180 0 230 (dk_at dksX1_vehicle_3 12 rfl rfl)
theorem dX1_vehicle_95 : decode cX1_vehicle 95 = .ok (.ireturn, 1) := dk_172 (dk_at dksX1_vehicle_3 15 rfl rfl)
theorem c_187_0 : LkP (OkP 187) [(0, o_aload 0 1), (1, o_iload 1 1), (2, o_cv [(0, 188)] 1 3 false none), (5, o_astore 3 1), (6, o_iload 2 1), (7, o_i2l), (8, o_push 1 (.long 0)), (9, o_push 3 (.long 6)), (12, o_cs 165 3 false none), (15, o_cs 172 1 true none), (18, o_iload 2 1), (19, o_sw (swt 0 [56, 61, 66, 71, 81, 86] 91)), (56, o_aload 3 1), (57, o_get 69), (60, o_ret 1), (61, o_aload 3 1), (62, o_get 70)] := lkp_c (P := OkP 187) ⟨(PuOK.ok (ok_aload_n dX1_vehicle_0 rfl)), m_aload⟩ (
  lkp_c (P := OkP 187) ⟨(PuOK.ok (ok_iload_n dX1_vehicle_1 rfl)), m_iload⟩ (
  lkp_c (P := OkP 187) ⟨ok_cv (List.forall_mem_cons.mpr ⟨tg_V (ci := 0) (r := CLr 0) (y := 188) rfl ⟨rfl, by decide⟩ rfl q1802 q1804 qs18 q115 q1805 ⟨cn_33.1, cn_33.2, pd_80⟩ dX1_vehicle_2, (List.forall_mem_nil _)⟩) hd_no, m_cv⟩ (
  lkp_c (P := OkP 187) ⟨(PuOK.ok (ok_astore_n dX1_vehicle_5 rfl)), m_astore⟩ (
  lkp_c (P := OkP 187) ⟨(PuOK.ok (ok_iload_n dX1_vehicle_6 rfl)), m_iload⟩ (
  lkp_c (P := OkP 187) ⟨(PuOK.ok (ok_i2l dX1_vehicle_7)), m_i2l⟩ (
  lkp_c (P := OkP 187) ⟨(PuOK.ok (ok_lconst dX1_vehicle_8 rfl)), m_push⟩ (
  lkp_c (P := OkP 187) ⟨(PuOK.ok (ok_ldc2 q1819 dX1_vehicle_9)), m_push⟩ (
  lkp_c (P := OkP 187) ⟨ok_cs (tg_S ⟨rfl, by decide⟩ q1643 q1284 q115 q1285 ⟨cn_33.1, cn_33.2, pd_74⟩ dX1_vehicle_12) hd_no, m_cs⟩ (
  lkp_c (P := OkP 187) ⟨ok_cs (tg_S ⟨rfl, by decide⟩ q1644 q1645 q115 q1646 ⟨cn_33.1, cn_33.2, pd_18⟩ dX1_vehicle_15) hd_no, m_cs⟩ (
  lkp_c (P := OkP 187) ⟨(PuOK.ok (ok_iload_n dX1_vehicle_18 rfl)), m_iload⟩ (
  lkp_c (P := OkP 187) ⟨(PuOK.ok (ok_tsw dX1_vehicle_19 (by decide +kernel))), m_sw⟩ (
  lkp_c (P := OkP 187) ⟨(PuOK.ok (ok_aload_n dX1_vehicle_56 rfl)), m_aload⟩ (
  lkp_c (P := OkP 187) ⟨ok_getN ⟨"TollRoad$Vehicle", "TollRoad", q1501, Or.inl rfl⟩ dX1_vehicle_57, m_get⟩ (
  lkp_c (P := OkP 187) ⟨ok_iret rfl rfl (by decide) dX1_vehicle_60, m_ret⟩ (
  lkp_c (P := OkP 187) ⟨(PuOK.ok (ok_aload_n dX1_vehicle_61 rfl)), m_aload⟩ (
  lkp_c (P := OkP 187) ⟨ok_getN ⟨"TollRoad$Vehicle", "TollRoad", q1504, Or.inl rfl⟩ dX1_vehicle_62, m_get⟩ (
  trivial)))))))))))))))))
theorem c_187_1 : LkP (OkP 187) [(65, o_ret 1), (66, o_aload 3 1), (67, o_get 71), (70, o_ret 1), (71, o_aload 0 1), (72, o_get 0), (75, o_iload 1 1), (76, o_push 1 (.int 1)), (77, o_cv [(1, 260)] 2 3 false none), (80, o_ret 1), (81, o_aload 3 1), (82, o_get 72), (85, o_ret 1), (86, o_aload 3 1), (87, o_get 73), (90, o_ret 1), (91, o_aload 3 1), (92, o_get 74), (95, o_ret 1)] := lkp_c (P := OkP 187) ⟨ok_iret rfl rfl (by decide) dX1_vehicle_65, m_ret⟩ (
  lkp_c (P := OkP 187) ⟨(PuOK.ok (ok_aload_n dX1_vehicle_66 rfl)), m_aload⟩ (
  lkp_c (P := OkP 187) ⟨ok_getN ⟨"TollRoad$Vehicle", "TollRoad", q1507, Or.inl rfl⟩ dX1_vehicle_67, m_get⟩ (
  lkp_c (P := OkP 187) ⟨ok_iret rfl rfl (by decide) dX1_vehicle_70, m_ret⟩ (
  lkp_c (P := OkP 187) ⟨(PuOK.ok (ok_aload_n dX1_vehicle_71 rfl)), m_aload⟩ (
  lkp_c (P := OkP 187) ⟨ok_get ⟨"TollRoad", q664, Or.inl rfl⟩ dX1_vehicle_72, m_get⟩ (
  lkp_c (P := OkP 187) ⟨(PuOK.ok (ok_iload_n dX1_vehicle_75 rfl)), m_iload⟩ (
  lkp_c (P := OkP 187) ⟨(PuOK.ok (ok_iconst dX1_vehicle_76 rfl)), m_push⟩ (
  lkp_c (P := OkP 187) ⟨ok_cv (List.forall_mem_cons.mpr ⟨tg_V (ci := 1) (r := CLr 1) (y := 260) rfl ⟨rfl, by decide⟩ rfl q1820 q1821 q1822 q116 q1823 ⟨cn_36.1, cn_36.2, pd_1⟩ dX1_vehicle_77, (List.forall_mem_nil _)⟩) hd_no, m_cv⟩ (
  lkp_c (P := OkP 187) ⟨ok_iret rfl rfl (by decide) dX1_vehicle_80, m_ret⟩ (
  lkp_c (P := OkP 187) ⟨(PuOK.ok (ok_aload_n dX1_vehicle_81 rfl)), m_aload⟩ (
  lkp_c (P := OkP 187) ⟨ok_getN ⟨"TollRoad$Vehicle", "TollRoad", q1510, Or.inl rfl⟩ dX1_vehicle_82, m_get⟩ (
  lkp_c (P := OkP 187) ⟨ok_iret rfl rfl (by decide) dX1_vehicle_85, m_ret⟩ (
  lkp_c (P := OkP 187) ⟨(PuOK.ok (ok_aload_n dX1_vehicle_86 rfl)), m_aload⟩ (
  lkp_c (P := OkP 187) ⟨ok_getN ⟨"TollRoad$Vehicle", "TollRoad", q1513, Or.inl rfl⟩ dX1_vehicle_87, m_get⟩ (
  lkp_c (P := OkP 187) ⟨ok_iret rfl rfl (by decide) dX1_vehicle_90, m_ret⟩ (
  lkp_c (P := OkP 187) ⟨(PuOK.ok (ok_aload_n dX1_vehicle_91 rfl)), m_aload⟩ (
  lkp_c (P := OkP 187) ⟨ok_getN ⟨"TollRoad$Vehicle", "TollRoad", q1516, Or.inl rfl⟩ dX1_vehicle_92, m_get⟩ (
  lkp_c (P := OkP 187) ⟨ok_iret rfl rfl (by decide) dX1_vehicle_95, m_ret⟩ (
  trivial)))))))))))))))))))
theorem mt_187 : MtOK TB NT IT 187 := ⟨by decide +kernel, rfl, (fun h => by cases h), Or.inl ⟨rfl, rfl⟩, rfl, by decide, lk2_all (P := OkP 187) ⟨c_187_0, c_187_1, trivial⟩⟩
def dkwX1_vehicleAt_1 : List UInt8 := [180, 0, 19, 180, 0, 54, 27, 182, 0, 64, 192, 0, 68, 176]
abbrev dktX1_vehicleAt_1 : List UInt8 := dkwX1_vehicleAt_1 ++ []
def dkwX1_vehicleAt_0 : List UInt8 := [27, 133, 9, 42, 180, 0, 19, 180, 0, 54, 182, 0, 58, 4, 100, 133, 184, 0, 46, 184, 0, 50, 42]
abbrev dktX1_vehicleAt_0 : List UInt8 := dkwX1_vehicleAt_0 ++ dktX1_vehicleAt_1
theorem dksX1_vehicleAt_0 : cX1_vehicleAt.data.toList.drop 0 = dktX1_vehicleAt_0 := by decide +kernel
theorem dksX1_vehicleAt_1 : cX1_vehicleAt.data.toList.drop 23 = dktX1_vehicleAt_1 := dk_seg dksX1_vehicleAt_0 23 rfl rfl
theorem dX1_vehicleAt_0 : decode cX1_vehicleAt 0 = .ok (.iload_n 1, 1) := dk_27 (dk_at dksX1_vehicleAt_0 0 rfl rfl)
theorem dX1_vehicleAt_1 : decode cX1_vehicleAt 1 = .ok (.i2l, 1) := dk_133 (dk_at dksX1_vehicleAt_0 1 rfl rfl)
theorem dX1_vehicleAt_2 : decode cX1_vehicleAt 2 = .ok (.lconst 0, 1) := dk_9 (dk_at dksX1_vehicleAt_0 2 rfl rfl)
theorem dX1_vehicleAt_3 : decode cX1_vehicleAt 3 = .ok (.aload_n 0, 1) := dk_42 (dk_at dksX1_vehicleAt_0 3 rfl rfl)
theorem dX1_vehicleAt_4 : decode cX1_vehicleAt 4 = .ok (.getfield 19, 3) := dk_180 0 19 (dk_at dksX1_vehicleAt_0 4 rfl rfl)
theorem dX1_vehicleAt_7 : decode cX1_vehicleAt 7 = .ok (.getfield 54, 3) := dk_180 0 54 (dk_at dksX1_vehicleAt_0 7 rfl rfl)
theorem dX1_vehicleAt_10 : decode cX1_vehicleAt 10 = .ok (.invokevirtual 58, 3) := dk_182 0 58 (dk_at dksX1_vehicleAt_0 10 rfl rfl)
theorem dX1_vehicleAt_13 : decode cX1_vehicleAt 13 = .ok (.iconst 1, 1) := dk_4 (dk_at dksX1_vehicleAt_0 13 rfl rfl)
theorem dX1_vehicleAt_14 : decode cX1_vehicleAt 14 = .ok (.isub, 1) := dk_100 (dk_at dksX1_vehicleAt_0 14 rfl rfl)
theorem dX1_vehicleAt_15 : decode cX1_vehicleAt 15 = .ok (.i2l, 1) := dk_133 (dk_at dksX1_vehicleAt_0 15 rfl rfl)
theorem dX1_vehicleAt_16 : decode cX1_vehicleAt 16 = .ok (.invokestatic 46, 3) := dk_184 0 46 (dk_at dksX1_vehicleAt_0 16 rfl rfl)
theorem dX1_vehicleAt_19 : decode cX1_vehicleAt 19 = .ok (.invokestatic 50, 3) := dk_184 0 50 (dk_at dksX1_vehicleAt_0 19 rfl rfl)
theorem dX1_vehicleAt_22 : decode cX1_vehicleAt 22 = .ok (.aload_n 0, 1) := dk_42 (dk_at dksX1_vehicleAt_0 22 rfl rfl)
theorem dX1_vehicleAt_23 : decode cX1_vehicleAt 23 = .ok (.getfield 19, 3) := dk_180 0 19 (dk_at dksX1_vehicleAt_1 0 rfl rfl)
theorem dX1_vehicleAt_26 : decode cX1_vehicleAt 26 = .ok (.getfield 54, 3) := dk_180 0 54 (dk_at dksX1_vehicleAt_1 3 rfl rfl)
theorem dX1_vehicleAt_29 : decode cX1_vehicleAt 29 = .ok (.iload_n 1, 1) := dk_27 (dk_at dksX1_vehicleAt_1 6 rfl rfl)
theorem dX1_vehicleAt_30 : decode cX1_vehicleAt 30 = .ok (.invokevirtual 64, 3) := dk_182 0 64 (dk_at dksX1_vehicleAt_1 7 rfl rfl)
theorem dX1_vehicleAt_33 : decode cX1_vehicleAt 33 = .ok (.checkcast 68, 3) := dk_192 0 68 (dk_at dksX1_vehicleAt_1 10 rfl rfl)
theorem dX1_vehicleAt_36 : decode cX1_vehicleAt 36 = .ok (.areturn, 1) := dk_176 (dk_at dksX1_vehicleAt_1 13 rfl rfl)
theorem c_188_0 : LkP (OkP 188) [(0, o_iload 1 1), (1, o_i2l), (2, o_push 1 (.long 0)), (3, o_aload 0 1), (4, o_get 0), (7, o_get 10), (10, o_cv [(3, 42)] 0 3 false none), (13, o_push 1 (.int 1)), (14, o_iop (fun x y => x - y)), (15, o_i2l), (16, o_cs 165 3 false none), (19, o_cs 176 1 true none), (22, o_aload 0 1), (23, o_get 0), (26, o_get 10), (29, o_iload 1 1), (30, o_cv [(3, 47)] 1 3 false none), (33, o_cast [13]), (36, o_ret 0)] := lkp_c (P := OkP 188) ⟨(PuOK.ok (ok_iload_n dX1_vehicleAt_0 rfl)), m_iload⟩ (
  lkp_c (P := OkP 188) ⟨(PuOK.ok (ok_i2l dX1_vehicleAt_1)), m_i2l⟩ (
  lkp_c (P := OkP 188) ⟨(PuOK.ok (ok_lconst dX1_vehicleAt_2 rfl)), m_push⟩ (
  lkp_c (P := OkP 188) ⟨(PuOK.ok (ok_aload_n dX1_vehicleAt_3 rfl)), m_aload⟩ (
  lkp_c (P := OkP 188) ⟨ok_get ⟨"TollRoad", q664, Or.inl rfl⟩ dX1_vehicleAt_4, m_get⟩ (
  lkp_c (P := OkP 188) ⟨ok_getN ⟨"TollRoad$World", "TollRoad", q639, Or.inl rfl⟩ dX1_vehicleAt_7, m_get⟩ (
  lkp_c (P := OkP 188) ⟨ok_cv (List.forall_mem_cons.mpr ⟨tg_V (ci := 3) (r := CLr 3) (y := 42) rfl ⟨rfl, by decide⟩ rfl q1256 q1257 q1258 q120 q1259 ⟨cn_15.1, cn_15.2, pd_13⟩ dX1_vehicleAt_10, (List.forall_mem_nil _)⟩) hd_no, m_cv⟩ (
  lkp_c (P := OkP 188) ⟨(PuOK.ok (ok_iconst dX1_vehicleAt_13 rfl)), m_push⟩ (
  lkp_c (P := OkP 188) ⟨(PuOK.ok (ok_isub dX1_vehicleAt_14)), m_iop⟩ (
  lkp_c (P := OkP 188) ⟨(PuOK.ok (ok_i2l dX1_vehicleAt_15)), m_i2l⟩ (
  lkp_c (P := OkP 188) ⟨ok_cs (tg_S ⟨rfl, by decide⟩ q1643 q1284 q115 q1285 ⟨cn_33.1, cn_33.2, pd_74⟩ dX1_vehicleAt_16) hd_no, m_cs⟩ (
  lkp_c (P := OkP 188) ⟨ok_cs (tg_S ⟨rfl, by decide⟩ q1691 q1692 q115 q1693 ⟨cn_33.1, cn_33.2, pd_18⟩ dX1_vehicleAt_19) hd_no, m_cs⟩ (
  lkp_c (P := OkP 188) ⟨(PuOK.ok (ok_aload_n dX1_vehicleAt_22 rfl)), m_aload⟩ (
  lkp_c (P := OkP 188) ⟨ok_get ⟨"TollRoad", q664, Or.inl rfl⟩ dX1_vehicleAt_23, m_get⟩ (
  lkp_c (P := OkP 188) ⟨ok_getN ⟨"TollRoad$World", "TollRoad", q639, Or.inl rfl⟩ dX1_vehicleAt_26, m_get⟩ (
  lkp_c (P := OkP 188) ⟨(PuOK.ok (ok_iload_n dX1_vehicleAt_29 rfl)), m_iload⟩ (
  lkp_c (P := OkP 188) ⟨ok_cv (List.forall_mem_cons.mpr ⟨tg_V (ci := 3) (r := CLr 3) (y := 47) rfl ⟨rfl, by decide⟩ rfl q1806 q1807 q1808 q120 q1809 ⟨cn_15.1, cn_15.2, pd_27⟩ dX1_vehicleAt_30, (List.forall_mem_nil _)⟩) hd_no, m_cv⟩ (
  lkp_c (P := OkP 188) ⟨ok_cast q1818 cst_7 dX1_vehicleAt_33, m_cast⟩ (
  lkp_c (P := OkP 188) ⟨ok_aret rfl (Or.inl ⟨_, rfl⟩) dX1_vehicleAt_36, m_ret⟩ (
  trivial)))))))))))))))))))
theorem mt_188 : MtOK TB NT IT 188 := ⟨by decide +kernel, rfl, (fun h => by cases h), Or.inl ⟨rfl, rfl⟩, rfl, by decide, lk2_all (P := OkP 188) ⟨c_188_0, trivial⟩⟩
def dkwX1_setAccount_1 : List UInt8 := [172]
abbrev dktX1_setAccount_1 : List UInt8 := dkwX1_setAccount_1 ++ []
def dkwX1_setAccount_0 : List UInt8 := [42, 27, 182, 0, 207, 78, 42, 28, 182, 0, 118, 45, 180, 0, 215, 54, 4, 45, 28, 181, 0, 215, 21, 4]
abbrev dktX1_setAccount_0 : List UInt8 := dkwX1_setAccount_0 ++ dktX1_setAccount_1
theorem dksX1_setAccount_0 : cX1_setAccount.data.toList.drop 0 = dktX1_setAccount_0 := by decide +kernel
theorem dksX1_setAccount_1 : cX1_setAccount.data.toList.drop 24 = dktX1_setAccount_1 := dk_seg dksX1_setAccount_0 24 rfl rfl
theorem dX1_setAccount_0 : decode cX1_setAccount 0 = .ok (.aload_n 0, 1) := dk_42 (dk_at dksX1_setAccount_0 0 rfl rfl)
theorem dX1_setAccount_1 : decode cX1_setAccount 1 = .ok (.iload_n 1, 1) := dk_27 (dk_at dksX1_setAccount_0 1 rfl rfl)
theorem dX1_setAccount_2 : decode cX1_setAccount 2 = .ok (.invokevirtual 207, 3) := dk_182 0 207 (dk_at dksX1_setAccount_0 2 rfl rfl)
theorem dX1_setAccount_5 : decode cX1_setAccount 5 = .ok (.astore_n 3, 1) := dk_78 (dk_at dksX1_setAccount_0 5 rfl rfl)
theorem dX1_setAccount_6 : decode cX1_setAccount 6 = .ok (.aload_n 0, 1) := dk_42 (dk_at dksX1_setAccount_0 6 rfl rfl)
theorem dX1_setAccount_7 : decode cX1_setAccount 7 = .ok (.iload_n 2, 1) := dk_28 (dk_at dksX1_setAccount_0 7 rfl rfl)
theorem dX1_setAccount_8 : decode cX1_setAccount 8 = .ok (.invokevirtual 118, 3) := dk_182 0 118 (dk_at dksX1_setAccount_0 8 rfl rfl)
theorem dX1_setAccount_11 : decode cX1_setAccount 11 = .ok (.aload_n 3, 1) := dk_45 (dk_at dksX1_setAccount_0 11 rfl rfl)
theorem dX1_setAccount_12 : decode cX1_setAccount 12 = .ok (.getfield 215, 3) := dk_180 0 215 (dk_at dksX1_setAccount_0 12 rfl rfl)
theorem dX1_setAccount_15 : decode cX1_setAccount 15 = .ok (.istore 4, 2) := dk_54 4 (dk_at dksX1_setAccount_0 15 rfl rfl)
theorem dX1_setAccount_17 : decode cX1_setAccount 17 = .ok (.aload_n 3, 1) := dk_45 (dk_at dksX1_setAccount_0 17 rfl rfl)
theorem dX1_setAccount_18 : decode cX1_setAccount 18 = .ok (.iload_n 2, 1) := dk_28 (dk_at dksX1_setAccount_0 18 rfl rfl)
theorem dX1_setAccount_19 : decode cX1_setAccount 19 = .ok (.putfield 215, 3) := dk_181 0 215 (dk_at dksX1_setAccount_0 19 rfl rfl)
theorem dX1_setAccount_22 : decode cX1_setAccount 22 = .ok (.iload 4, 2) := dk_21 4 (dk_at dksX1_setAccount_0 22 rfl rfl)
theorem dX1_setAccount_24 : decode cX1_setAccount 24 = .ok (.ireturn, 1) := dk_172 (dk_at dksX1_setAccount_1 0 rfl rfl)
theorem c_189_0 : LkP (OkP 189) [(0, o_aload 0 1), (1, o_iload 1 1), (2, o_cv [(0, 188)] 1 3 false none), (5, o_astore 3 1), (6, o_aload 0 1), (7, o_iload 2 1), (8, o_cv [(0, 179)] 1 3 true none), (11, o_aload 3 1), (12, o_get 70), (15, o_istore 4 2), (17, o_aload 3 1), (18, o_iload 2 1), (19, o_put 70 1), (22, o_iload 4 2), (24, o_ret 1)] := lkp_c (P := OkP 189) ⟨(PuOK.ok (ok_aload_n dX1_setAccount_0 rfl)), m_aload⟩ (
  lkp_c (P := OkP 189) ⟨(PuOK.ok (ok_iload_n dX1_setAccount_1 rfl)), m_iload⟩ (
  lkp_c (P := OkP 189) ⟨ok_cv (List.forall_mem_cons.mpr ⟨tg_V (ci := 0) (r := CLr 0) (y := 188) rfl ⟨rfl, by decide⟩ rfl q1802 q1804 qs18 q115 q1805 ⟨cn_33.1, cn_33.2, pd_80⟩ dX1_setAccount_2, (List.forall_mem_nil _)⟩) hd_no, m_cv⟩ (
  lkp_c (P := OkP 189) ⟨(PuOK.ok (ok_astore_n dX1_setAccount_5 rfl)), m_astore⟩ (
  lkp_c (P := OkP 189) ⟨(PuOK.ok (ok_aload_n dX1_setAccount_6 rfl)), m_aload⟩ (
  lkp_c (P := OkP 189) ⟨(PuOK.ok (ok_iload_n dX1_setAccount_7 rfl)), m_iload⟩ (
  lkp_c (P := OkP 189) ⟨ok_cv (List.forall_mem_cons.mpr ⟨tg_V (ci := 0) (r := CLr 0) (y := 179) rfl ⟨rfl, by decide⟩ rfl q1730 q1732 qs14 q115 q1733 ⟨cn_33.1, cn_33.2, pd_9⟩ dX1_setAccount_8, (List.forall_mem_nil _)⟩) hd_no, m_cv⟩ (
  lkp_c (P := OkP 189) ⟨(PuOK.ok (ok_aload_n dX1_setAccount_11 rfl)), m_aload⟩ (
  lkp_c (P := OkP 189) ⟨ok_getN ⟨"TollRoad$Vehicle", "TollRoad", q1504, Or.inl rfl⟩ dX1_setAccount_12, m_get⟩ (
  lkp_c (P := OkP 189) ⟨(PuOK.ok (ok_istore dX1_setAccount_15)), m_istore⟩ (
  lkp_c (P := OkP 189) ⟨(PuOK.ok (ok_aload_n dX1_setAccount_17 rfl)), m_aload⟩ (
  lkp_c (P := OkP 189) ⟨(PuOK.ok (ok_iload_n dX1_setAccount_18 rfl)), m_iload⟩ (
  lkp_c (P := OkP 189) ⟨ok_putN ⟨"TollRoad$Vehicle", "TollRoad", q1504, Or.inl rfl⟩ rfl fd_70 rfl dX1_setAccount_19, m_put⟩ (
  lkp_c (P := OkP 189) ⟨(PuOK.ok (ok_iload dX1_setAccount_22)), m_iload⟩ (
  lkp_c (P := OkP 189) ⟨ok_iret rfl rfl (by decide) dX1_setAccount_24, m_ret⟩ (
  trivial)))))))))))))))
theorem mt_189 : MtOK TB NT IT 189 := ⟨by decide +kernel, rfl, (fun h => by cases h), Or.inl ⟨rfl, rfl⟩, rfl, by decide, lk2_all (P := OkP 189) ⟨c_189_0, trivial⟩⟩
def dkwX1_route_4 : List UInt8 := [25, 5, 180, 1, 7, 167, 0, 8, 25, 5, 180, 1, 10, 172]
abbrev dktX1_route_4 : List UInt8 := dkwX1_route_4 ++ []
def dkwX1_route_3 : List UInt8 := [167, 0, 36, 21, 4, 4, 160, 0, 11, 25, 5, 180, 1, 4, 167, 0, 22, 21, 4, 5, 160, 0, 11]
abbrev dktX1_route_3 : List UInt8 := dkwX1_route_3 ++ dktX1_route_4
def dkwX1_route_2 : List UInt8 := [29, 182, 0, 253, 58, 5, 25, 5, 199, 0, 5, 2, 172, 21, 4, 154, 0, 11, 25, 5, 180, 1, 1]
abbrev dktX1_route_2 : List UInt8 := dkwX1_route_2 ++ dktX1_route_3
def dkwX1_route_1 : List UInt8 := [21, 4, 133, 9, 20, 0, 251, 184, 0, 46, 153, 0, 7, 4, 167, 0, 4, 3, 184, 0, 79, 42, 27, 28]
abbrev dktX1_route_1 : List UInt8 := dkwX1_route_1 ++ dktX1_route_2
def dkwX1_route_0 : List UInt8 := [42, 27, 28, 182, 0, 245, 27, 28, 159, 0, 32, 29, 133, 9, 20, 0, 249, 184, 0, 46, 153, 0, 20]
abbrev dktX1_route_0 : List UInt8 := dkwX1_route_0 ++ dktX1_route_1
theorem dksX1_route_0 : cX1_route.data.toList.drop 0 = dktX1_route_0 := by decide +kernel
theorem dksX1_route_1 : cX1_route.data.toList.drop 23 = dktX1_route_1 := dk_seg dksX1_route_0 23 rfl rfl
theorem dksX1_route_2 : cX1_route.data.toList.drop 47 = dktX1_route_2 := dk_seg dksX1_route_1 24 rfl rfl
theorem dksX1_route_3 : cX1_route.data.toList.drop 70 = dktX1_route_3 := dk_seg dksX1_route_2 23 rfl rfl
theorem dksX1_route_4 : cX1_route.data.toList.drop 93 = dktX1_route_4 := dk_seg dksX1_route_3 23 rfl rfl
theorem dX1_route_0 : decode cX1_route 0 = .ok (.aload_n 0, 1) := dk_42 (dk_at dksX1_route_0 0 rfl rfl)
theorem dX1_route_1 : decode cX1_route 1 = .ok (.iload_n 1, 1) := dk_27 (dk_at dksX1_route_0 1 rfl rfl)
theorem dX1_route_2 : decode cX1_route 2 = .ok (.iload_n 2, 1) := dk_28 (dk_at dksX1_route_0 2 rfl rfl)
theorem dX1_route_3 : decode cX1_route 3 = .ok (.invokevirtual 245, 3) := dk_182 0 245 (dk_at dksX1_route_0 3 rfl rfl)
theorem dX1_route_6 : decode cX1_route 6 = .ok (.iload_n 1, 1) := dk_27 (dk_at dksX1_route_0 6 rfl rfl)
theorem dX1_route_7 : decode cX1_route 7 = .ok (.iload_n 2, 1) := dk_28 (dk_at dksX1_route_0 7 rfl rfl)
theorem dX1_route_8 : decode cX1_route 8 = .ok (.if_icmp .eq 32, 3) := dk_159 0 32 (dk_at dksX1_route_0 8 rfl rfl)
theorem dX1_route_11 : decode cX1_route 11 = .ok (.iload_n 3, 1) := dk_29 (dk_at dksX1_route_0 11 rfl rfl)
theorem dX1_route_12 : decode cX1_route 12 = .ok (.i2l, 1) := dk_133 (dk_at dksX1_route_0 12 rfl rfl)
theorem dX1_route_13 : decode cX1_route 13 = .ok (.lconst 0, 1) := dk_9 (dk_at dksX1_route_0 13 rfl rfl)
theorem dX1_route_14 : decode cX1_route 14 = .ok (.ldc2_w 249, 3) := dk_20 0 249 (dk_at dksX1_route_0 14 rfl rfl)
theorem dX1_route_17 : decode cX1_route 17 = .ok (.invokestatic 46, 3) := dk_184 0 46 (dk_at dksX1_route_0 17 rfl rfl)
theorem dX1_route_20 : decode cX1_route 20 = .ok (.ifCond .eq 20, 3) := dk_153 0 20 (dk_at dksX1_route_0 20 rfl rfl)
theorem dX1_route_23 : decode cX1_route 23 = .ok (.iload 4, 2) := dk_21 4 (dk_at dksX1_route_1 0 rfl rfl)
theorem dX1_route_25 : decode cX1_route 25 = .ok (.i2l, 1) := dk_133 (dk_at dksX1_route_1 2 rfl rfl)
theorem dX1_route_26 : decode cX1_route 26 = .ok (.lconst 0, 1) := dk_9 (dk_at dksX1_route_1 3 rfl rfl)
theorem dX1_route_27 : decode cX1_route 27 = .ok (.ldc2_w 251, 3) := dk_20 0 251 (dk_at dksX1_route_1 4 rfl rfl)
theorem dX1_route_30 : decode cX1_route 30 = .ok (.invokestatic 46, 3) := dk_184 0 46 (dk_at dksX1_route_1 7 rfl rfl)
theorem dX1_route_33 : decode cX1_route 33 = .ok (.ifCond .eq 7, 3) := dk_153 0 7 (dk_at dksX1_route_1 10 rfl rfl)
theorem dX1_route_36 : decode cX1_route 36 = .ok (.iconst 1, 1) := dk_4 (dk_at dksX1_route_1 13 rfl rfl)
theorem dX1_route_37 : decode cX1_route 37 = .ok (.goto 4, 3) := dk_167 0 4 (dk_at dksX1_route_1 14 rfl rfl)
theorem dX1_route_40 : decode cX1_route 40 = .ok (.iconst 0, 1) := dk_3 (dk_at dksX1_route_1 17 rfl rfl)
theorem dX1_route_41 : decode cX1_route 41 = .ok (.invokestatic 79, 3) := dk_184 0 79 (dk_at dksX1_route_1 18 rfl rfl)
theorem dX1_route_44 : decode cX1_route 44 = .ok (.aload_n 0, 1) := dk_42 (dk_at dksX1_route_1 21 rfl rfl)
theorem dX1_route_45 : decode cX1_route 45 = .ok (.iload_n 1, 1) := dk_27 (dk_at dksX1_route_1 22 rfl rfl)
theorem dX1_route_46 : decode cX1_route 46 = .ok (.iload_n 2, 1) := dk_28 (dk_at dksX1_route_1 23 rfl rfl)
theorem dX1_route_47 : decode cX1_route 47 = .ok (.iload_n 3, 1) := dk_29 (dk_at dksX1_route_2 0 rfl rfl)
theorem dX1_route_48 : decode cX1_route 48 = .ok (.invokevirtual 253, 3) := dk_182 0 253 (dk_at dksX1_route_2 1 rfl rfl)
theorem dX1_route_51 : decode cX1_route 51 = .ok (.astore 5, 2) := dk_58 5 (dk_at dksX1_route_2 4 rfl rfl)
theorem dX1_route_53 : decode cX1_route 53 = .ok (.aload 5, 2) := dk_25 5 (dk_at dksX1_route_2 6 rfl rfl)
theorem dX1_route_55 : decode cX1_route 55 = .ok (.ifnonnull 5, 3) := dk_199 0 5 (dk_at dksX1_route_2 8 rfl rfl)
theorem dX1_route_58 : decode cX1_route 58 = .ok (.iconst (-1), 1) := dk_2 (dk_at dksX1_route_2 11 rfl rfl)
theorem dX1_route_59 : decode cX1_route 59 = .ok (.ireturn, 1) := dk_172 (dk_at dksX1_route_2 12 rfl rfl)
theorem dX1_route_60 : decode cX1_route 60 = .ok (.iload 4, 2) := dk_21 4 (dk_at dksX1_route_2 13 rfl rfl)
theorem dX1_route_62 : decode cX1_route 62 = .ok (.ifCond .ne 11, 3) := dk_154 0 11 (dk_at dksX1_route_2 15 rfl rfl)
theorem dX1_route_65 : decode cX1_route 65 = .ok (.aload 5, 2) := dk_25 5 (dk_at dksX1_route_2 18 rfl rfl)
theorem dX1_route_67 : decode cX1_route 67 = .ok (.getfield 257, 3) := dk_180 1 1 (dk_at dksX1_route_2 20 rfl rfl)
theorem dX1_route_70 : decode cX1_route 70 = .ok (.goto 36, 3) := dk_167 0 36 (dk_at dksX1_route_3 0 rfl rfl)
theorem dX1_route_73 : decode cX1_route 73 = .ok (.iload 4, 2) := dk_21 4 (dk_at dksX1_route_3 3 rfl rfl)
theorem dX1_route_75 : decode cX1_route 75 = .ok (.iconst 1, 1) := dk_4 (dk_at dksX1_route_3 5 rfl rfl)
theorem dX1_route_76 : decode cX1_route 76 = .ok (.if_icmp .ne 11, 3) := dk_160 0 11 (dk_at dksX1_route_3 6 rfl rfl)
theorem dX1_route_79 : decode cX1_route 79 = .ok (.aload 5, 2) := dk_25 5 (dk_at dksX1_route_3 9 rfl rfl)
theorem dX1_route_81 : decode cX1_route 81 = .ok (.getfield 260, 3) := dk_180 1 4 (dk_at dksX1_route_3 11 rfl rfl)
theorem dX1_route_84 : decode cX1_route 84 = .ok (.goto 22, 3) := dk_167 0 22 (dk_at dksX1_route_3 14 rfl rfl)
theorem dX1_route_87 : decode cX1_route 87 = .ok (.iload 4, 2) := dk_21 4 (dk_at dksX1_route_3 17 rfl rfl)
theorem dX1_route_89 : decode cX1_route 89 = .ok (.iconst 2, 1) := dk_5 (dk_at dksX1_route_3 19 rfl rfl)
theorem dX1_route_90 : decode cX1_route 90 = .ok (.if_icmp .ne 11, 3) := dk_160 0 11 (dk_at dksX1_route_3 20 rfl rfl)
theorem dX1_route_93 : decode cX1_route 93 = .ok (.aload 5, 2) := dk_25 5 (dk_at dksX1_route_4 0 rfl rfl)
theorem dX1_route_95 : decode cX1_route 95 = .ok (.getfield 263, 3) := dk_180 1 7 (dk_at dksX1_route_4 2 rfl rfl)
theorem dX1_route_98 : decode cX1_route 98 = .ok (.goto 8, 3) := dk_167 0 8 (dk_at dksX1_route_4 5 rfl rfl)
theorem dX1_route_101 : decode cX1_route 101 = .ok (.aload 5, 2) := dk_25 5 (dk_at dksX1_route_4 8 rfl rfl)
theorem dX1_route_103 : decode cX1_route 103 = .ok (.getfield 266, 3) := dk_180 1 10 (dk_at dksX1_route_4 10 rfl rfl)
theorem dX1_route_106 : decode cX1_route 106 = .ok (.ireturn, 1) := dk_172 (dk_at dksX1_route_4 13 rfl rfl)
theorem c_190_0 : LkP (OkP 190) [(0, o_aload 0 1), (1, o_iload 1 1), (2, o_iload 2 1), (3, o_cv [(0, 191)] 2 3 true none), (6, o_iload 1 1), (7, o_iload 2 1), (8, o_icmp (fun x y => decide (x = y)) 40), (11, o_iload 3 1), (12, o_i2l), (13, o_push 1 (.long 0)), (14, o_push 3 (.long 600)), (17, o_cs 165 3 false none), (20, o_if (fun x => decide (x = 0)) 40), (23, o_iload 4 2), (25, o_i2l), (26, o_push 1 (.long 0)), (27, o_push 3 (.long 3)), (30, o_cs 165 3 false none), (33, o_if (fun x => decide (x = 0)) 40), (36, o_push 1 (.int 1)), (37, o_goto 41), (40, o_push 1 (.int 0)), (41, o_cs 172 1 true none), (44, o_aload 0 1), (45, o_iload 1 1), (46, o_iload 2 1), (47, o_iload 3 1), (48, o_cv [(0, 192)] 3 3 false none), (51, o_astore 5 2), (53, o_aload 5 2), (55, o_ifnonnull 60), (58, o_push 1 (.int (-1))), (59, o_ret 1), (60, o_iload 4 2), (62, o_if (fun x => decide (¬ x = 0)) 73)] := lkp_c (P := OkP 190) ⟨(PuOK.ok (ok_aload_n dX1_route_0 rfl)), m_aload⟩ (
  lkp_c (P := OkP 190) ⟨(PuOK.ok (ok_iload_n dX1_route_1 rfl)), m_iload⟩ (
  lkp_c (P := OkP 190) ⟨(PuOK.ok (ok_iload_n dX1_route_2 rfl)), m_iload⟩ (
  lkp_c (P := OkP 190) ⟨ok_cv (List.forall_mem_cons.mpr ⟨tg_V (ci := 0) (r := CLr 0) (y := 191) rfl ⟨rfl, by decide⟩ rfl q1844 q1846 qs19 q115 q1847 ⟨cn_33.1, cn_33.2, pd_5⟩ dX1_route_3, (List.forall_mem_nil _)⟩) hd_no, m_cv⟩ (
  lkp_c (P := OkP 190) ⟨(PuOK.ok (ok_iload_n dX1_route_6 rfl)), m_iload⟩ (
  lkp_c (P := OkP 190) ⟨(PuOK.ok (ok_iload_n dX1_route_7 rfl)), m_iload⟩ (
  lkp_c (P := OkP 190) ⟨(PuOK.ok (ok_icmp_eq dX1_route_8 rfl)), m_icmp⟩ (
  lkp_c (P := OkP 190) ⟨(PuOK.ok (ok_iload_n dX1_route_11 rfl)), m_iload⟩ (
  lkp_c (P := OkP 190) ⟨(PuOK.ok (ok_i2l dX1_route_12)), m_i2l⟩ (
  lkp_c (P := OkP 190) ⟨(PuOK.ok (ok_lconst dX1_route_13 rfl)), m_push⟩ (
  lkp_c (P := OkP 190) ⟨(PuOK.ok (ok_ldc2 q1848 dX1_route_14)), m_push⟩ (
  lkp_c (P := OkP 190) ⟨ok_cs (tg_S ⟨rfl, by decide⟩ q1643 q1284 q115 q1285 ⟨cn_33.1, cn_33.2, pd_74⟩ dX1_route_17) hd_no, m_cs⟩ (
  lkp_c (P := OkP 190) ⟨(PuOK.ok (ok_if_eq dX1_route_20 rfl)), m_if⟩ (
  lkp_c (P := OkP 190) ⟨(PuOK.ok (ok_iload dX1_route_23)), m_iload⟩ (
  lkp_c (P := OkP 190) ⟨(PuOK.ok (ok_i2l dX1_route_25)), m_i2l⟩ (
  lkp_c (P := OkP 190) ⟨(PuOK.ok (ok_lconst dX1_route_26 rfl)), m_push⟩ (
  lkp_c (P := OkP 190) ⟨(PuOK.ok (ok_ldc2 q1849 dX1_route_27)), m_push⟩ (
  lkp_c (P := OkP 190) ⟨ok_cs (tg_S ⟨rfl, by decide⟩ q1643 q1284 q115 q1285 ⟨cn_33.1, cn_33.2, pd_74⟩ dX1_route_30) hd_no, m_cs⟩ (
  lkp_c (P := OkP 190) ⟨(PuOK.ok (ok_if_eq dX1_route_33 rfl)), m_if⟩ (
  lkp_c (P := OkP 190) ⟨(PuOK.ok (ok_iconst dX1_route_36 rfl)), m_push⟩ (
  lkp_c (P := OkP 190) ⟨(PuOK.ok (ok_goto dX1_route_37 rfl)), m_goto⟩ (
  lkp_c (P := OkP 190) ⟨(PuOK.ok (ok_iconst dX1_route_40 rfl)), m_push⟩ (
  lkp_c (P := OkP 190) ⟨ok_cs (tg_S ⟨rfl, by decide⟩ q1644 q1645 q115 q1646 ⟨cn_33.1, cn_33.2, pd_18⟩ dX1_route_41) hd_no, m_cs⟩ (
  lkp_c (P := OkP 190) ⟨(PuOK.ok (ok_aload_n dX1_route_44 rfl)), m_aload⟩ (
  lkp_c (P := OkP 190) ⟨(PuOK.ok (ok_iload_n dX1_route_45 rfl)), m_iload⟩ (
  lkp_c (P := OkP 190) ⟨(PuOK.ok (ok_iload_n dX1_route_46 rfl)), m_iload⟩ (
  lkp_c (P := OkP 190) ⟨(PuOK.ok (ok_iload_n dX1_route_47 rfl)), m_iload⟩ (
  lkp_c (P := OkP 190) ⟨ok_cv (List.forall_mem_cons.mpr ⟨tg_V (ci := 0) (r := CLr 0) (y := 192) rfl ⟨rfl, by decide⟩ rfl q1850 q1852 qs20 q115 q1853 ⟨cn_33.1, cn_33.2, pd_81⟩ dX1_route_48, (List.forall_mem_nil _)⟩) hd_no, m_cv⟩ (
  lkp_c (P := OkP 190) ⟨(PuOK.ok (ok_astore dX1_route_51)), m_astore⟩ (
  lkp_c (P := OkP 190) ⟨(PuOK.ok (ok_aload dX1_route_53)), m_aload⟩ (
  lkp_c (P := OkP 190) ⟨(PuOK.ok (ok_ifnonnull dX1_route_55 rfl)), m_ifnonnull⟩ (
  lkp_c (P := OkP 190) ⟨(PuOK.ok (ok_iconst dX1_route_58 rfl)), m_push⟩ (
  lkp_c (P := OkP 190) ⟨ok_iret rfl rfl (by decide) dX1_route_59, m_ret⟩ (
  lkp_c (P := OkP 190) ⟨(PuOK.ok (ok_iload dX1_route_60)), m_iload⟩ (
  lkp_c (P := OkP 190) ⟨(PuOK.ok (ok_if_ne dX1_route_62 rfl)), m_if⟩ (
  trivial)))))))))))))))))))))))))))))))))))
theorem c_190_1 : LkP (OkP 190) [(65, o_aload 5 2), (67, o_get 85), (70, o_goto 106), (73, o_iload 4 2), (75, o_push 1 (.int 1)), (76, o_icmp (fun x y => decide (¬ x = y)) 87), (79, o_aload 5 2), (81, o_get 81), (84, o_goto 106), (87, o_iload 4 2), (89, o_push 1 (.int 2)), (90, o_icmp (fun x y => decide (¬ x = y)) 101), (93, o_aload 5 2), (95, o_get 87), (98, o_goto 106), (101, o_aload 5 2), (103, o_get 86), (106, o_ret 1)] := lkp_c (P := OkP 190) ⟨(PuOK.ok (ok_aload dX1_route_65)), m_aload⟩ (
  lkp_c (P := OkP 190) ⟨ok_getN ⟨"TollRoad$Route", "TollRoad", q1868, Or.inl rfl⟩ dX1_route_67, m_get⟩ (
  lkp_c (P := OkP 190) ⟨(PuOK.ok (ok_goto dX1_route_70 rfl)), m_goto⟩ (
  lkp_c (P := OkP 190) ⟨(PuOK.ok (ok_iload dX1_route_73)), m_iload⟩ (
  lkp_c (P := OkP 190) ⟨(PuOK.ok (ok_iconst dX1_route_75 rfl)), m_push⟩ (
  lkp_c (P := OkP 190) ⟨(PuOK.ok (ok_icmp_ne dX1_route_76 rfl)), m_icmp⟩ (
  lkp_c (P := OkP 190) ⟨(PuOK.ok (ok_aload dX1_route_79)), m_aload⟩ (
  lkp_c (P := OkP 190) ⟨ok_getN ⟨"TollRoad$Search", "TollRoad", q1883, Or.inl rfl⟩ dX1_route_81, m_get⟩ (
  lkp_c (P := OkP 190) ⟨(PuOK.ok (ok_goto dX1_route_84 rfl)), m_goto⟩ (
  lkp_c (P := OkP 190) ⟨(PuOK.ok (ok_iload dX1_route_87)), m_iload⟩ (
  lkp_c (P := OkP 190) ⟨(PuOK.ok (ok_iconst dX1_route_89 rfl)), m_push⟩ (
  lkp_c (P := OkP 190) ⟨(PuOK.ok (ok_icmp_ne dX1_route_90 rfl)), m_icmp⟩ (
  lkp_c (P := OkP 190) ⟨(PuOK.ok (ok_aload dX1_route_93)), m_aload⟩ (
  lkp_c (P := OkP 190) ⟨ok_getN ⟨"TollRoad$Route", "TollRoad", q1873, Or.inl rfl⟩ dX1_route_95, m_get⟩ (
  lkp_c (P := OkP 190) ⟨(PuOK.ok (ok_goto dX1_route_98 rfl)), m_goto⟩ (
  lkp_c (P := OkP 190) ⟨(PuOK.ok (ok_aload dX1_route_101)), m_aload⟩ (
  lkp_c (P := OkP 190) ⟨ok_getN ⟨"TollRoad$Route", "TollRoad", q1870, Or.inl rfl⟩ dX1_route_103, m_get⟩ (
  lkp_c (P := OkP 190) ⟨ok_iret rfl rfl (by decide) dX1_route_106, m_ret⟩ (
  trivial))))))))))))))))))
theorem mt_190 : MtOK TB NT IT 190 := ⟨by decide +kernel, rfl, (fun h => by cases h), Or.inl ⟨rfl, rfl⟩, rfl, by decide, lk2_all (P := OkP 190) ⟨c_190_0, c_190_1, trivial⟩⟩
def dkwX1_checkEnds_0 : List UInt8 := [42, 27, 182, 0, 89, 42, 28, 182, 0, 89, 177]
abbrev dktX1_checkEnds_0 : List UInt8 := dkwX1_checkEnds_0 ++ []
theorem dksX1_checkEnds_0 : cX1_checkEnds.data.toList.drop 0 = dktX1_checkEnds_0 := by decide +kernel
theorem dX1_checkEnds_0 : decode cX1_checkEnds 0 = .ok (.aload_n 0, 1) := dk_42 (dk_at dksX1_checkEnds_0 0 rfl rfl)
theorem dX1_checkEnds_1 : decode cX1_checkEnds 1 = .ok (.iload_n 1, 1) := dk_27 (dk_at dksX1_checkEnds_0 1 rfl rfl)
theorem dX1_checkEnds_2 : decode cX1_checkEnds 2 = .ok (.invokevirtual 89, 3) := dk_182 0 89 (dk_at dksX1_checkEnds_0 2 rfl rfl)
theorem dX1_checkEnds_5 : decode cX1_checkEnds 5 = .ok (.aload_n 0, 1) := dk_42 (dk_at dksX1_checkEnds_0 5 rfl rfl)
theorem dX1_checkEnds_6 : decode cX1_checkEnds 6 = .ok (.iload_n 2, 1) := dk_28 (dk_at dksX1_checkEnds_0 6 rfl rfl)
theorem dX1_checkEnds_7 : decode cX1_checkEnds 7 = .ok (.invokevirtual 89, 3) := dk_182 0 89 (dk_at dksX1_checkEnds_0 7 rfl rfl)
theorem dX1_checkEnds_10 : decode cX1_checkEnds 10 = .ok (.return_, 1) := dk_177 (dk_at dksX1_checkEnds_0 10 rfl rfl)
theorem c_191_0 : LkP (OkP 191) [(0, o_aload 0 1), (1, o_iload 1 1), (2, o_cv [(0, 175)] 1 3 true none), (5, o_aload 0 1), (6, o_iload 2 1), (7, o_cv [(0, 175)] 1 3 true none), (10, o_vret)] := lkp_c (P := OkP 191) ⟨(PuOK.ok (ok_aload_n dX1_checkEnds_0 rfl)), m_aload⟩ (
  lkp_c (P := OkP 191) ⟨(PuOK.ok (ok_iload_n dX1_checkEnds_1 rfl)), m_iload⟩ (
  lkp_c (P := OkP 191) ⟨ok_cv (List.forall_mem_cons.mpr ⟨tg_V (ci := 0) (r := CLr 0) (y := 175) rfl ⟨rfl, by decide⟩ rfl q1687 q1689 qs13 q115 q1690 ⟨cn_33.1, cn_33.2, pd_9⟩ dX1_checkEnds_2, (List.forall_mem_nil _)⟩) hd_no, m_cv⟩ (
  lkp_c (P := OkP 191) ⟨(PuOK.ok (ok_aload_n dX1_checkEnds_5 rfl)), m_aload⟩ (
  lkp_c (P := OkP 191) ⟨(PuOK.ok (ok_iload_n dX1_checkEnds_6 rfl)), m_iload⟩ (
  lkp_c (P := OkP 191) ⟨ok_cv (List.forall_mem_cons.mpr ⟨tg_V (ci := 0) (r := CLr 0) (y := 175) rfl ⟨rfl, by decide⟩ rfl q1687 q1689 qs13 q115 q1690 ⟨cn_33.1, cn_33.2, pd_9⟩ dX1_checkEnds_7, (List.forall_mem_nil _)⟩) hd_no, m_cv⟩ (
  lkp_c (P := OkP 191) ⟨ok_vret rfl dX1_checkEnds_10, m_vret⟩ (
  trivial)))))))
theorem mt_191 : MtOK TB NT IT 191 := ⟨by decide +kernel, rfl, (fun h => by cases h), Or.inl ⟨rfl, rfl⟩, rfl, by decide, lk2_all (P := OkP 191) ⟨c_191_0, trivial⟩⟩
def dkwX1_routeOf_1 : List UInt8 := [58, 4, 25, 4, 182, 0, 236, 182, 0, 240, 153, 0, 8, 25, 4, 167, 0, 4, 1, 176]
abbrev dktX1_routeOf_1 : List UInt8 := dkwX1_routeOf_1 ++ []
def dkwX1_routeOf_0 : List UInt8 := [187, 0, 231, 89, 42, 180, 0, 19, 180, 0, 37, 42, 180, 0, 19, 180, 0, 139, 27, 28, 29, 183, 0, 233]
abbrev dktX1_routeOf_0 : List UInt8 := dkwX1_routeOf_0 ++ dktX1_routeOf_1
theorem dksX1_routeOf_0 : cX1_routeOf.data.toList.drop 0 = dktX1_routeOf_0 := by decide +kernel
theorem dksX1_routeOf_1 : cX1_routeOf.data.toList.drop 24 = dktX1_routeOf_1 := dk_seg dksX1_routeOf_0 24 rfl rfl
theorem dX1_routeOf_0 : decode cX1_routeOf 0 = .ok (.new 231, 3) := dk_187 0 231 (dk_at dksX1_routeOf_0 0 rfl rfl)
theorem dX1_routeOf_3 : decode cX1_routeOf 3 = .ok (.dup, 1) := dk_89 (dk_at dksX1_routeOf_0 3 rfl rfl)
theorem dX1_routeOf_4 : decode cX1_routeOf 4 = .ok (.aload_n 0, 1) := dk_42 (dk_at dksX1_routeOf_0 4 rfl rfl)
theorem dX1_routeOf_5 : decode cX1_routeOf 5 = .ok (.getfield 19, 3) := dk_180 0 19 (dk_at dksX1_routeOf_0 5 rfl rfl)
theorem dX1_routeOf_8 : decode cX1_routeOf 8 = .ok (.getfield 37, 3) := dk_180 0 37 (dk_at dksX1_routeOf_0 8 rfl rfl)
theorem dX1_routeOf_11 : decode cX1_routeOf 11 = .ok (.aload_n 0, 1) := dk_42 (dk_at dksX1_routeOf_0 11 rfl rfl)
theorem dX1_routeOf_12 : decode cX1_routeOf 12 = .ok (.getfield 19, 3) := dk_180 0 19 (dk_at dksX1_routeOf_0 12 rfl rfl)
theorem dX1_routeOf_15 : decode cX1_routeOf 15 = .ok (.getfield 139, 3) := dk_180 0 139 (dk_at dksX1_routeOf_0 15 rfl rfl)
theorem dX1_routeOf_18 : decode cX1_routeOf 18 = .ok (.iload_n 1, 1) := dk_27 (dk_at dksX1_routeOf_0 18 rfl rfl)
theorem dX1_routeOf_19 : decode cX1_routeOf 19 = .ok (.iload_n 2, 1) := dk_28 (dk_at dksX1_routeOf_0 19 rfl rfl)
theorem dX1_routeOf_20 : decode cX1_routeOf 20 = .ok (.iload_n 3, 1) := dk_29 (dk_at dksX1_routeOf_0 20 rfl rfl)
theorem dX1_routeOf_21 : decode cX1_routeOf 21 = .ok (.invokespecial 233, 3) := dk_183 0 233 (dk_at dksX1_routeOf_0 21 rfl rfl)
theorem dX1_routeOf_24 : decode cX1_routeOf 24 = .ok (.astore 4, 2) := dk_58 4 (dk_at dksX1_routeOf_1 0 rfl rfl)
theorem dX1_routeOf_26 : decode cX1_routeOf 26 = .ok (.aload 4, 2) := dk_25 4 (dk_at dksX1_routeOf_1 2 rfl rfl)
theorem dX1_routeOf_28 : decode cX1_routeOf 28 = .ok (.invokevirtual 236, 3) := dk_182 0 236 (dk_at dksX1_routeOf_1 4 rfl rfl)
theorem dX1_routeOf_31 : decode cX1_routeOf 31 = .ok (.invokevirtual 240, 3) := dk_182 0 240 (dk_at dksX1_routeOf_1 7 rfl rfl)
theorem dX1_routeOf_34 : decode cX1_routeOf 34 = .ok (.ifCond .eq 8, 3) := dk_153 0 8 (dk_at dksX1_routeOf_1 10 rfl rfl)
theorem dX1_routeOf_37 : decode cX1_routeOf 37 = .ok (.aload 4, 2) := dk_25 4 (dk_at dksX1_routeOf_1 13 rfl rfl)
theorem dX1_routeOf_39 : decode cX1_routeOf 39 = .ok (.goto 4, 3) := dk_167 0 4 (dk_at dksX1_routeOf_1 15 rfl rfl)
theorem dX1_routeOf_42 : decode cX1_routeOf 42 = .ok (.aconst_null, 1) := dk_1 (dk_at dksX1_routeOf_1 18 rfl rfl)
theorem dX1_routeOf_43 : decode cX1_routeOf 43 = .ok (.areturn, 1) := dk_176 (dk_at dksX1_routeOf_1 19 rfl rfl)
theorem c_192_0 : LkP (OkP 192) [(0, o_new 15 11 dv15), (3, o_dup), (4, o_aload 0 1), (5, o_get 0), (8, o_get 6), (11, o_aload 0 1), (12, o_get 0), (15, o_get 7), (18, o_iload 1 1), (19, o_iload 2 1), (20, o_iload 3 1), (21, o_ci 231 5), (24, o_astore 4 2), (26, o_aload 4 2), (28, o_cv [(15, 228)] 0 3 false none), (31, o_cv [(16, 230), (15, 230)] 0 3 false none), (34, o_if (fun x => decide (x = 0)) 42), (37, o_aload 4 2), (39, o_goto 43), (42, o_push 1 .null), (43, o_ret 0)] := lkp_c (P := OkP 192) ⟨ok_new (ci := 15) (r := CLr 15) rfl dvok_15 q1854 q1855 q155 dX1_routeOf_0, m_new⟩ (
  lkp_c (P := OkP 192) ⟨(PuOK.ok (ok_dup dX1_routeOf_3)), m_dup⟩ (
  lkp_c (P := OkP 192) ⟨(PuOK.ok (ok_aload_n dX1_routeOf_4 rfl)), m_aload⟩ (
  lkp_c (P := OkP 192) ⟨ok_get ⟨"TollRoad", q664, Or.inl rfl⟩ dX1_routeOf_5, m_get⟩ (
  lkp_c (P := OkP 192) ⟨ok_getN ⟨"TollRoad$World", "TollRoad", q627, Or.inl rfl⟩ dX1_routeOf_8, m_get⟩ (
  lkp_c (P := OkP 192) ⟨(PuOK.ok (ok_aload_n dX1_routeOf_11 rfl)), m_aload⟩ (
  lkp_c (P := OkP 192) ⟨ok_get ⟨"TollRoad", q664, Or.inl rfl⟩ dX1_routeOf_12, m_get⟩ (
  lkp_c (P := OkP 192) ⟨ok_getN ⟨"TollRoad$World", "TollRoad", q631, Or.inl rfl⟩ dX1_routeOf_15, m_get⟩ (
  lkp_c (P := OkP 192) ⟨(PuOK.ok (ok_iload_n dX1_routeOf_18 rfl)), m_iload⟩ (
  lkp_c (P := OkP 192) ⟨(PuOK.ok (ok_iload_n dX1_routeOf_19 rfl)), m_iload⟩ (
  lkp_c (P := OkP 192) ⟨(PuOK.ok (ok_iload_n dX1_routeOf_20 rfl)), m_iload⟩ (
  lkp_c (P := OkP 192) ⟨ok_ci (tg_I (rt := none) ⟨rfl, by decide⟩ rfl q1856 q1857 q155 q1858 ⟨cn_42.1, cn_42.2, pd_82⟩ dX1_routeOf_21) hd_no, m_ci⟩ (
  lkp_c (P := OkP 192) ⟨(PuOK.ok (ok_astore dX1_routeOf_24)), m_astore⟩ (
  lkp_c (P := OkP 192) ⟨(PuOK.ok (ok_aload dX1_routeOf_26)), m_aload⟩ (
  lkp_c (P := OkP 192) ⟨ok_cv (List.forall_mem_cons.mpr ⟨tg_U (ci := 15) (r := CLr 15) (y := 228) rfl (owner := "TollRoad$Search") ⟨rfl, by decide⟩ q1907 q1908 q1910 q1911 q154 q1912 ⟨cn_43.1, cn_43.2, pd_83⟩ rfl dX1_routeOf_28, (List.forall_mem_nil _)⟩) hd_no, m_cv⟩ (
  lkp_c (P := OkP 192) ⟨ok_cv (List.forall_mem_cons.mpr ⟨tg_U (ci := 16) (r := CLr 16) (y := 230) rfl (owner := "TollRoad$Search") ⟨rfl, by decide⟩ q1942 q3709 q3710 q1929 q154 q1930 ⟨cn_43.1, cn_43.2, pd_50⟩ rfl dX1_routeOf_31, (List.forall_mem_cons.mpr ⟨tg_U (ci := 15) (r := CLr 15) (y := 230) rfl (owner := "TollRoad$Search") ⟨rfl, by decide⟩ q1942 q3709 q3711 q1929 q154 q1930 ⟨cn_43.1, cn_43.2, pd_50⟩ rfl dX1_routeOf_31, (List.forall_mem_nil _)⟩)⟩) hd_no, m_cv⟩ (
  lkp_c (P := OkP 192) ⟨(PuOK.ok (ok_if_eq dX1_routeOf_34 rfl)), m_if⟩ (
  lkp_c (P := OkP 192) ⟨(PuOK.ok (ok_aload dX1_routeOf_37)), m_aload⟩ (
  lkp_c (P := OkP 192) ⟨(PuOK.ok (ok_goto dX1_routeOf_39 rfl)), m_goto⟩ (
  lkp_c (P := OkP 192) ⟨(PuOK.ok (ok_null dX1_routeOf_42)), m_push⟩ (
  lkp_c (P := OkP 192) ⟨ok_aret rfl (Or.inl ⟨_, rfl⟩) dX1_routeOf_43, m_ret⟩ (
  trivial)))))))))))))))))))))
theorem mt_192 : MtOK TB NT IT 192 := ⟨by decide +kernel, rfl, (fun h => by cases h), Or.inl ⟨rfl, rfl⟩, rfl, by decide, lk2_all (P := OkP 192) ⟨c_192_0, trivial⟩⟩
def dkwX1_routeGantry_3 : List UInt8 := [46, 172]
abbrev dktX1_routeGantry_3 : List UInt8 := dkwX1_routeGantry_3 ++ []
def dkwX1_routeGantry_2 : List UInt8 := [198, 0, 13, 21, 4, 25, 5, 180, 1, 4, 164, 0, 7, 2, 167, 0, 11, 25, 5, 180, 1, 13, 21, 4]
abbrev dktX1_routeGantry_2 : List UInt8 := dkwX1_routeGantry_2 ++ dktX1_routeGantry_3
def dkwX1_routeGantry_1 : List UInt8 := [21, 4, 155, 0, 7, 4, 167, 0, 4, 3, 184, 0, 79, 42, 27, 28, 29, 182, 0, 253, 58, 5, 25, 5]
abbrev dktX1_routeGantry_1 : List UInt8 := dkwX1_routeGantry_1 ++ dktX1_routeGantry_2
def dkwX1_routeGantry_0 : List UInt8 := [42, 27, 28, 182, 0, 245, 27, 28, 159, 0, 24, 29, 133, 9, 20, 0, 249, 184, 0, 46, 153, 0, 12]
abbrev dktX1_routeGantry_0 : List UInt8 := dkwX1_routeGantry_0 ++ dktX1_routeGantry_1
theorem dksX1_routeGantry_0 : cX1_routeGantry.data.toList.drop 0 = dktX1_routeGantry_0 := by decide +kernel
theorem dksX1_routeGantry_1 : cX1_routeGantry.data.toList.drop 23 = dktX1_routeGantry_1 := dk_seg dksX1_routeGantry_0 23 rfl rfl
theorem dksX1_routeGantry_2 : cX1_routeGantry.data.toList.drop 47 = dktX1_routeGantry_2 := dk_seg dksX1_routeGantry_1 24 rfl rfl
theorem dksX1_routeGantry_3 : cX1_routeGantry.data.toList.drop 71 = dktX1_routeGantry_3 := dk_seg dksX1_routeGantry_2 24 rfl rfl
theorem dX1_routeGantry_0 : decode cX1_routeGantry 0 = .ok (.aload_n 0, 1) := dk_42 (dk_at dksX1_routeGantry_0 0 rfl rfl)
theorem dX1_routeGantry_1 : decode cX1_routeGantry 1 = .ok (.iload_n 1, 1) := dk_27 (dk_at dksX1_routeGantry_0 1 rfl rfl)
theorem dX1_routeGantry_2 : decode cX1_routeGantry 2 = .ok (.iload_n 2, 1) := dk_28 (dk_at dksX1_routeGantry_0 2 rfl rfl)
theorem dX1_routeGantry_3 : decode cX1_routeGantry 3 = .ok (.invokevirtual 245, 3) := dk_182 0 245 (dk_at dksX1_routeGantry_0 3 rfl rfl)
theorem dX1_routeGantry_6 : decode cX1_routeGantry 6 = .ok (.iload_n 1, 1) := dk_27 (dk_at dksX1_routeGantry_0 6 rfl rfl)
theorem dX1_routeGantry_7 : decode cX1_routeGantry 7 = .ok (.iload_n 2, 1) := dk_28 (dk_at dksX1_routeGantry_0 7 rfl rfl)
theorem dX1_routeGantry_8 : decode cX1_routeGantry 8 = .ok (.if_icmp .eq 24, 3) := dk_159 0 24 (dk_at dksX1_routeGantry_0 8 rfl rfl)
theorem dX1_routeGantry_11 : decode cX1_routeGantry 11 = .ok (.iload_n 3, 1) := dk_29 (dk_at dksX1_routeGantry_0 11 rfl rfl)
theorem dX1_routeGantry_12 : decode cX1_routeGantry 12 = .ok (.i2l, 1) := dk_133 (dk_at dksX1_routeGantry_0 12 rfl rfl)
theorem dX1_routeGantry_13 : decode cX1_routeGantry 13 = .ok (.lconst 0, 1) := dk_9 (dk_at dksX1_routeGantry_0 13 rfl rfl)
theorem dX1_routeGantry_14 : decode cX1_routeGantry 14 = .ok (.ldc2_w 249, 3) := dk_20 0 249 (dk_at dksX1_routeGantry_0 14 rfl rfl)
theorem dX1_routeGantry_17 : decode cX1_routeGantry 17 = .ok (.invokestatic 46, 3) := dk_184 0 46 (dk_at dksX1_routeGantry_0 17 rfl rfl)
theorem dX1_routeGantry_20 : decode cX1_routeGantry 20 = .ok (.ifCond .eq 12, 3) := dk_153 0 12 (dk_at dksX1_routeGantry_0 20 rfl rfl)
theorem dX1_routeGantry_23 : decode cX1_routeGantry 23 = .ok (.iload 4, 2) := dk_21 4 (dk_at dksX1_routeGantry_1 0 rfl rfl)
theorem dX1_routeGantry_25 : decode cX1_routeGantry 25 = .ok (.ifCond .lt 7, 3) := dk_155 0 7 (dk_at dksX1_routeGantry_1 2 rfl rfl)
theorem dX1_routeGantry_28 : decode cX1_routeGantry 28 = .ok (.iconst 1, 1) := dk_4 (dk_at dksX1_routeGantry_1 5 rfl rfl)
theorem dX1_routeGantry_29 : decode cX1_routeGantry 29 = .ok (.goto 4, 3) := dk_167 0 4 (dk_at dksX1_routeGantry_1 6 rfl rfl)
theorem dX1_routeGantry_32 : decode cX1_routeGantry 32 = .ok (.iconst 0, 1) := dk_3 (dk_at dksX1_routeGantry_1 9 rfl rfl)
theorem dX1_routeGantry_33 : decode cX1_routeGantry 33 = .ok (.invokestatic 79, 3) := dk_184 0 79 (dk_at dksX1_routeGantry_1 10 rfl rfl)
theorem dX1_routeGantry_36 : decode cX1_routeGantry 36 = .ok (.aload_n 0, 1) := dk_42 (dk_at dksX1_routeGantry_1 13 rfl rfl)
theorem dX1_routeGantry_37 : decode cX1_routeGantry 37 = .ok (.iload_n 1, 1) := dk_27 (dk_at dksX1_routeGantry_1 14 rfl rfl)
theorem dX1_routeGantry_38 : decode cX1_routeGantry 38 = .ok (.iload_n 2, 1) := dk_28 (dk_at dksX1_routeGantry_1 15 rfl rfl)
theorem dX1_routeGantry_39 : decode cX1_routeGantry 39 = .ok (.iload_n 3, 1) := dk_29 (dk_at dksX1_routeGantry_1 16 rfl rfl)
theorem dX1_routeGantry_40 : decode cX1_routeGantry 40 = .ok (.invokevirtual 253, 3) := dk_182 0 253 (dk_at dksX1_routeGantry_1 17 rfl rfl)
theorem dX1_routeGantry_43 : decode cX1_routeGantry 43 = .ok (.astore 5, 2) := dk_58 5 (dk_at dksX1_routeGantry_1 20 rfl rfl)
theorem dX1_routeGantry_45 : decode cX1_routeGantry 45 = .ok (.aload 5, 2) := dk_25 5 (dk_at dksX1_routeGantry_1 22 rfl rfl)
theorem dX1_routeGantry_47 : decode cX1_routeGantry 47 = .ok (.ifnull 13, 3) := dk_198 0 13 (dk_at dksX1_routeGantry_2 0 rfl rfl)
theorem dX1_routeGantry_50 : decode cX1_routeGantry 50 = .ok (.iload 4, 2) := dk_21 4 (dk_at dksX1_routeGantry_2 3 rfl rfl)
theorem dX1_routeGantry_52 : decode cX1_routeGantry 52 = .ok (.aload 5, 2) := dk_25 5 (dk_at dksX1_routeGantry_2 5 rfl rfl)
theorem dX1_routeGantry_54 : decode cX1_routeGantry 54 = .ok (.getfield 260, 3) := dk_180 1 4 (dk_at dksX1_routeGantry_2 7 rfl rfl)
theorem dX1_routeGantry_57 : decode cX1_routeGantry 57 = .ok (.if_icmp .le 7, 3) := dk_164 0 7 (dk_at dksX1_routeGantry_2 10 rfl rfl)
theorem dX1_routeGantry_60 : decode cX1_routeGantry 60 = .ok (.iconst (-1), 1) := dk_2 (dk_at dksX1_routeGantry_2 13 rfl rfl)
theorem dX1_routeGantry_61 : decode cX1_routeGantry 61 = .ok (.goto 11, 3) := dk_167 0 11 (dk_at dksX1_routeGantry_2 14 rfl rfl)
theorem dX1_routeGantry_64 : decode cX1_routeGantry 64 = .ok (.aload 5, 2) := dk_25 5 (dk_at dksX1_routeGantry_2 17 rfl rfl)
theorem dX1_routeGantry_66 : decode cX1_routeGantry 66 = .ok (.getfield 269, 3) := dk_180 1 13 (dk_at dksX1_routeGantry_2 19 rfl rfl)
theorem dX1_routeGantry_69 : decode cX1_routeGantry 69 = .ok (.iload 4, 2) := dk_21 4 (dk_at dksX1_routeGantry_2 22 rfl rfl)
theorem dX1_routeGantry_71 : decode cX1_routeGantry 71 = .ok (.iaload, 1) := dk_46 (dk_at dksX1_routeGantry_3 0 rfl rfl)
theorem dX1_routeGantry_72 : decode cX1_routeGantry 72 = .ok (.ireturn, 1) := dk_172 (dk_at dksX1_routeGantry_3 1 rfl rfl)
theorem c_193_0 : LkP (OkP 193) [(0, o_aload 0 1), (1, o_iload 1 1), (2, o_iload 2 1), (3, o_cv [(0, 191)] 2 3 true none), (6, o_iload 1 1), (7, o_iload 2 1), (8, o_icmp (fun x y => decide (x = y)) 32), (11, o_iload 3 1), (12, o_i2l), (13, o_push 1 (.long 0)), (14, o_push 3 (.long 600)), (17, o_cs 165 3 false none), (20, o_if (fun x => decide (x = 0)) 32), (23, o_iload 4 2), (25, o_if (fun x => decide (x < 0)) 32), (28, o_push 1 (.int 1)), (29, o_goto 33), (32, o_push 1 (.int 0)), (33, o_cs 172 1 true none), (36, o_aload 0 1), (37, o_iload 1 1), (38, o_iload 2 1), (39, o_iload 3 1), (40, o_cv [(0, 192)] 3 3 false none), (43, o_astore 5 2), (45, o_aload 5 2), (47, o_ifnull 60), (50, o_iload 4 2), (52, o_aload 5 2), (54, o_get 81), (57, o_icmp (fun x y => decide (x ≤ y)) 64), (60, o_push 1 (.int (-1))), (61, o_goto 72)] := lkp_c (P := OkP 193) ⟨(PuOK.ok (ok_aload_n dX1_routeGantry_0 rfl)), m_aload⟩ (
  lkp_c (P := OkP 193) ⟨(PuOK.ok (ok_iload_n dX1_routeGantry_1 rfl)), m_iload⟩ (
  lkp_c (P := OkP 193) ⟨(PuOK.ok (ok_iload_n dX1_routeGantry_2 rfl)), m_iload⟩ (
  lkp_c (P := OkP 193) ⟨ok_cv (List.forall_mem_cons.mpr ⟨tg_V (ci := 0) (r := CLr 0) (y := 191) rfl ⟨rfl, by decide⟩ rfl q1844 q1846 qs19 q115 q1847 ⟨cn_33.1, cn_33.2, pd_5⟩ dX1_routeGantry_3, (List.forall_mem_nil _)⟩) hd_no, m_cv⟩ (
  lkp_c (P := OkP 193) ⟨(PuOK.ok (ok_iload_n dX1_routeGantry_6 rfl)), m_iload⟩ (
  lkp_c (P := OkP 193) ⟨(PuOK.ok (ok_iload_n dX1_routeGantry_7 rfl)), m_iload⟩ (
  lkp_c (P := OkP 193) ⟨(PuOK.ok (ok_icmp_eq dX1_routeGantry_8 rfl)), m_icmp⟩ (
  lkp_c (P := OkP 193) ⟨(PuOK.ok (ok_iload_n dX1_routeGantry_11 rfl)), m_iload⟩ (
  lkp_c (P := OkP 193) ⟨(PuOK.ok (ok_i2l dX1_routeGantry_12)), m_i2l⟩ (
  lkp_c (P := OkP 193) ⟨(PuOK.ok (ok_lconst dX1_routeGantry_13 rfl)), m_push⟩ (
  lkp_c (P := OkP 193) ⟨(PuOK.ok (ok_ldc2 q1848 dX1_routeGantry_14)), m_push⟩ (
  lkp_c (P := OkP 193) ⟨ok_cs (tg_S ⟨rfl, by decide⟩ q1643 q1284 q115 q1285 ⟨cn_33.1, cn_33.2, pd_74⟩ dX1_routeGantry_17) hd_no, m_cs⟩ (
  lkp_c (P := OkP 193) ⟨(PuOK.ok (ok_if_eq dX1_routeGantry_20 rfl)), m_if⟩ (
  lkp_c (P := OkP 193) ⟨(PuOK.ok (ok_iload dX1_routeGantry_23)), m_iload⟩ (
  lkp_c (P := OkP 193) ⟨(PuOK.ok (ok_if_lt dX1_routeGantry_25 rfl)), m_if⟩ (
  lkp_c (P := OkP 193) ⟨(PuOK.ok (ok_iconst dX1_routeGantry_28 rfl)), m_push⟩ (
  lkp_c (P := OkP 193) ⟨(PuOK.ok (ok_goto dX1_routeGantry_29 rfl)), m_goto⟩ (
  lkp_c (P := OkP 193) ⟨(PuOK.ok (ok_iconst dX1_routeGantry_32 rfl)), m_push⟩ (
  lkp_c (P := OkP 193) ⟨ok_cs (tg_S ⟨rfl, by decide⟩ q1644 q1645 q115 q1646 ⟨cn_33.1, cn_33.2, pd_18⟩ dX1_routeGantry_33) hd_no, m_cs⟩ (
  lkp_c (P := OkP 193) ⟨(PuOK.ok (ok_aload_n dX1_routeGantry_36 rfl)), m_aload⟩ (
  lkp_c (P := OkP 193) ⟨(PuOK.ok (ok_iload_n dX1_routeGantry_37 rfl)), m_iload⟩ (
  lkp_c (P := OkP 193) ⟨(PuOK.ok (ok_iload_n dX1_routeGantry_38 rfl)), m_iload⟩ (
  lkp_c (P := OkP 193) ⟨(PuOK.ok (ok_iload_n dX1_routeGantry_39 rfl)), m_iload⟩ (
  lkp_c (P := OkP 193) ⟨ok_cv (List.forall_mem_cons.mpr ⟨tg_V (ci := 0) (r := CLr 0) (y := 192) rfl ⟨rfl, by decide⟩ rfl q1850 q1852 qs20 q115 q1853 ⟨cn_33.1, cn_33.2, pd_81⟩ dX1_routeGantry_40, (List.forall_mem_nil _)⟩) hd_no, m_cv⟩ (
  lkp_c (P := OkP 193) ⟨(PuOK.ok (ok_astore dX1_routeGantry_43)), m_astore⟩ (
  lkp_c (P := OkP 193) ⟨(PuOK.ok (ok_aload dX1_routeGantry_45)), m_aload⟩ (
  lkp_c (P := OkP 193) ⟨(PuOK.ok (ok_ifnull dX1_routeGantry_47 rfl)), m_ifnull⟩ (
  lkp_c (P := OkP 193) ⟨(PuOK.ok (ok_iload dX1_routeGantry_50)), m_iload⟩ (
  lkp_c (P := OkP 193) ⟨(PuOK.ok (ok_aload dX1_routeGantry_52)), m_aload⟩ (
  lkp_c (P := OkP 193) ⟨ok_getN ⟨"TollRoad$Search", "TollRoad", q1883, Or.inl rfl⟩ dX1_routeGantry_54, m_get⟩ (
  lkp_c (P := OkP 193) ⟨(PuOK.ok (ok_icmp_le dX1_routeGantry_57 rfl)), m_icmp⟩ (
  lkp_c (P := OkP 193) ⟨(PuOK.ok (ok_iconst dX1_routeGantry_60 rfl)), m_push⟩ (
  lkp_c (P := OkP 193) ⟨(PuOK.ok (ok_goto dX1_routeGantry_61 rfl)), m_goto⟩ (
  trivial)))))))))))))))))))))))))))))))))
theorem c_193_1 : LkP (OkP 193) [(64, o_aload 5 2), (66, o_get 80), (69, o_iload 4 2), (71, o_rdI 0), (72, o_ret 1)] := lkp_c (P := OkP 193) ⟨(PuOK.ok (ok_aload dX1_routeGantry_64)), m_aload⟩ (
  lkp_c (P := OkP 193) ⟨ok_getN ⟨"TollRoad$Search", "TollRoad", q1879, Or.inl rfl⟩ dX1_routeGantry_66, m_get⟩ (
  lkp_c (P := OkP 193) ⟨(PuOK.ok (ok_iload dX1_routeGantry_69)), m_iload⟩ (
  lkp_c (P := OkP 193) ⟨ok_iald dX1_routeGantry_71, m_rdI⟩ (
  lkp_c (P := OkP 193) ⟨ok_iret rfl rfl (by decide) dX1_routeGantry_72, m_ret⟩ (
  trivial)))))
theorem mt_193 : MtOK TB NT IT 193 := ⟨by decide +kernel, rfl, (fun h => by cases h), Or.inl ⟨rfl, rfl⟩, rfl, by decide, lk2_all (P := OkP 193) ⟨c_193_0, c_193_1, trivial⟩⟩
def dkwX1_leastToll_0 : List UInt8 := [42, 27, 28, 182, 0, 245, 42, 180, 0, 19, 27, 28, 182, 1, 16, 172]
abbrev dktX1_leastToll_0 : List UInt8 := dkwX1_leastToll_0 ++ []
theorem dksX1_leastToll_0 : cX1_leastToll.data.toList.drop 0 = dktX1_leastToll_0 := by decide +kernel
theorem dX1_leastToll_0 : decode cX1_leastToll 0 = .ok (.aload_n 0, 1) := dk_42 (dk_at dksX1_leastToll_0 0 rfl rfl)
theorem dX1_leastToll_1 : decode cX1_leastToll 1 = .ok (.iload_n 1, 1) := dk_27 (dk_at dksX1_leastToll_0 1 rfl rfl)
theorem dX1_leastToll_2 : decode cX1_leastToll 2 = .ok (.iload_n 2, 1) := dk_28 (dk_at dksX1_leastToll_0 2 rfl rfl)
theorem dX1_leastToll_3 : decode cX1_leastToll 3 = .ok (.invokevirtual 245, 3) := dk_182 0 245 (dk_at dksX1_leastToll_0 3 rfl rfl)
theorem dX1_leastToll_6 : decode cX1_leastToll 6 = .ok (.aload_n 0, 1) := dk_42 (dk_at dksX1_leastToll_0 6 rfl rfl)
theorem dX1_leastToll_7 : decode cX1_leastToll 7 = .ok (.getfield 19, 3) := dk_180 0 19 (dk_at dksX1_leastToll_0 7 rfl rfl)
theorem dX1_leastToll_10 : decode cX1_leastToll 10 = .ok (.iload_n 1, 1) := dk_27 (dk_at dksX1_leastToll_0 10 rfl rfl)
theorem dX1_leastToll_11 : decode cX1_leastToll 11 = .ok (.iload_n 2, 1) := dk_28 (dk_at dksX1_leastToll_0 11 rfl rfl)
theorem dX1_leastToll_12 : decode cX1_leastToll 12 = .ok (.invokevirtual 272, 3) := dk_182 1 16 (dk_at dksX1_leastToll_0 12 rfl rfl)
theorem dX1_leastToll_15 : decode cX1_leastToll 15 = .ok (.ireturn, 1) := dk_172 (dk_at dksX1_leastToll_0 15 rfl rfl)
theorem c_194_0 : LkP (OkP 194) [(0, o_aload 0 1), (1, o_iload 1 1), (2, o_iload 2 1), (3, o_cv [(0, 191)] 2 3 true none), (6, o_aload 0 1), (7, o_get 0), (10, o_iload 1 1), (11, o_iload 2 1), (12, o_cv [(1, 261)] 2 3 false none), (15, o_ret 1)] := lkp_c (P := OkP 194) ⟨(PuOK.ok (ok_aload_n dX1_leastToll_0 rfl)), m_aload⟩ (
  lkp_c (P := OkP 194) ⟨(PuOK.ok (ok_iload_n dX1_leastToll_1 rfl)), m_iload⟩ (
  lkp_c (P := OkP 194) ⟨(PuOK.ok (ok_iload_n dX1_leastToll_2 rfl)), m_iload⟩ (
  lkp_c (P := OkP 194) ⟨ok_cv (List.forall_mem_cons.mpr ⟨tg_V (ci := 0) (r := CLr 0) (y := 191) rfl ⟨rfl, by decide⟩ rfl q1844 q1846 qs19 q115 q1847 ⟨cn_33.1, cn_33.2, pd_5⟩ dX1_leastToll_3, (List.forall_mem_nil _)⟩) hd_no, m_cv⟩ (
  lkp_c (P := OkP 194) ⟨(PuOK.ok (ok_aload_n dX1_leastToll_6 rfl)), m_aload⟩ (
  lkp_c (P := OkP 194) ⟨ok_get ⟨"TollRoad", q664, Or.inl rfl⟩ dX1_leastToll_7, m_get⟩ (
  lkp_c (P := OkP 194) ⟨(PuOK.ok (ok_iload_n dX1_leastToll_10 rfl)), m_iload⟩ (
  lkp_c (P := OkP 194) ⟨(PuOK.ok (ok_iload_n dX1_leastToll_11 rfl)), m_iload⟩ (
  lkp_c (P := OkP 194) ⟨ok_cv (List.forall_mem_cons.mpr ⟨tg_V (ci := 1) (r := CLr 1) (y := 261) rfl ⟨rfl, by decide⟩ rfl q1957 q1958 q1959 q116 q1960 ⟨cn_36.1, cn_36.2, pd_1⟩ dX1_leastToll_12, (List.forall_mem_nil _)⟩) hd_no, m_cv⟩ (
  lkp_c (P := OkP 194) ⟨ok_iret rfl rfl (by decide) dX1_leastToll_15, m_ret⟩ (
  trivial))))))))))
theorem mt_194 : MtOK TB NT IT 194 := ⟨by decide +kernel, rfl, (fun h => by cases h), Or.inl ⟨rfl, rfl⟩, rfl, by decide, lk2_all (P := OkP 194) ⟨c_194_0, trivial⟩⟩
def dkwX1_tagRead_3 : List UInt8 := [16, 100, 182, 1, 22, 172]
abbrev dktX1_tagRead_3 : List UInt8 := dkwX1_tagRead_3 ++ []
def dkwX1_tagRead_2 : List UInt8 := [180, 0, 19, 187, 0, 160, 89, 42, 180, 0, 19, 180, 0, 143, 182, 0, 58, 28, 29, 3, 183, 1, 19, 27]
abbrev dktX1_tagRead_2 : List UInt8 := dkwX1_tagRead_2 ++ dktX1_tagRead_3
def dkwX1_tagRead_1 : List UInt8 := [42, 180, 0, 19, 180, 0, 143, 182, 0, 58, 16, 120, 162, 0, 7, 4, 167, 0, 4, 3, 184, 0, 82, 42]
abbrev dktX1_tagRead_1 : List UInt8 := dkwX1_tagRead_1 ++ dktX1_tagRead_2
def dkwX1_tagRead_0 : List UInt8 := [42, 27, 182, 0, 207, 58, 4, 42, 28, 182, 0, 89, 29, 133, 9, 20, 0, 108, 184, 0, 46, 184, 0, 79]
abbrev dktX1_tagRead_0 : List UInt8 := dkwX1_tagRead_0 ++ dktX1_tagRead_1
theorem dksX1_tagRead_0 : cX1_tagRead.data.toList.drop 0 = dktX1_tagRead_0 := by decide +kernel
theorem dksX1_tagRead_1 : cX1_tagRead.data.toList.drop 24 = dktX1_tagRead_1 := dk_seg dksX1_tagRead_0 24 rfl rfl
theorem dksX1_tagRead_2 : cX1_tagRead.data.toList.drop 48 = dktX1_tagRead_2 := dk_seg dksX1_tagRead_1 24 rfl rfl
theorem dksX1_tagRead_3 : cX1_tagRead.data.toList.drop 72 = dktX1_tagRead_3 := dk_seg dksX1_tagRead_2 24 rfl rfl
theorem dX1_tagRead_0 : decode cX1_tagRead 0 = .ok (.aload_n 0, 1) := dk_42 (dk_at dksX1_tagRead_0 0 rfl rfl)
theorem dX1_tagRead_1 : decode cX1_tagRead 1 = .ok (.iload_n 1, 1) := dk_27 (dk_at dksX1_tagRead_0 1 rfl rfl)
theorem dX1_tagRead_2 : decode cX1_tagRead 2 = .ok (.invokevirtual 207, 3) := dk_182 0 207 (dk_at dksX1_tagRead_0 2 rfl rfl)
theorem dX1_tagRead_5 : decode cX1_tagRead 5 = .ok (.astore 4, 2) := dk_58 4 (dk_at dksX1_tagRead_0 5 rfl rfl)
theorem dX1_tagRead_7 : decode cX1_tagRead 7 = .ok (.aload_n 0, 1) := dk_42 (dk_at dksX1_tagRead_0 7 rfl rfl)
theorem dX1_tagRead_8 : decode cX1_tagRead 8 = .ok (.iload_n 2, 1) := dk_28 (dk_at dksX1_tagRead_0 8 rfl rfl)
theorem dX1_tagRead_9 : decode cX1_tagRead 9 = .ok (.invokevirtual 89, 3) := dk_182 0 89 (dk_at dksX1_tagRead_0 9 rfl rfl)
theorem dX1_tagRead_12 : decode cX1_tagRead 12 = .ok (.iload_n 3, 1) := dk_29 (dk_at dksX1_tagRead_0 12 rfl rfl)
theorem dX1_tagRead_13 : decode cX1_tagRead 13 = .ok (.i2l, 1) := dk_133 (dk_at dksX1_tagRead_0 13 rfl rfl)
theorem dX1_tagRead_14 : decode cX1_tagRead 14 = .ok (.lconst 0, 1) := dk_9 (dk_at dksX1_tagRead_0 14 rfl rfl)
theorem dX1_tagRead_15 : decode cX1_tagRead 15 = .ok (.ldc2_w 108, 3) := dk_20 0 108 (dk_at dksX1_tagRead_0 15 rfl rfl)
theorem dX1_tagRead_18 : decode cX1_tagRead 18 = .ok (.invokestatic 46, 3) := dk_184 0 46 (dk_at dksX1_tagRead_0 18 rfl rfl)
theorem dX1_tagRead_21 : decode cX1_tagRead 21 = .ok (.invokestatic 79, 3) := dk_184 0 79 (dk_at dksX1_tagRead_0 21 rfl rfl)
theorem dX1_tagRead_24 : decode cX1_tagRead 24 = .ok (.aload_n 0, 1) := dk_42 (dk_at dksX1_tagRead_1 0 rfl rfl)
theorem dX1_tagRead_25 : decode cX1_tagRead 25 = .ok (.getfield 19, 3) := dk_180 0 19 (dk_at dksX1_tagRead_1 1 rfl rfl)
theorem dX1_tagRead_28 : decode cX1_tagRead 28 = .ok (.getfield 143, 3) := dk_180 0 143 (dk_at dksX1_tagRead_1 4 rfl rfl)
theorem dX1_tagRead_31 : decode cX1_tagRead 31 = .ok (.invokevirtual 58, 3) := dk_182 0 58 (dk_at dksX1_tagRead_1 7 rfl rfl)
theorem dX1_tagRead_34 : decode cX1_tagRead 34 = .ok (.bipush 120, 2) := dk_16 120 (dk_at dksX1_tagRead_1 10 rfl rfl)
theorem dX1_tagRead_36 : decode cX1_tagRead 36 = .ok (.if_icmp .ge 7, 3) := dk_162 0 7 (dk_at dksX1_tagRead_1 12 rfl rfl)
theorem dX1_tagRead_39 : decode cX1_tagRead 39 = .ok (.iconst 1, 1) := dk_4 (dk_at dksX1_tagRead_1 15 rfl rfl)
theorem dX1_tagRead_40 : decode cX1_tagRead 40 = .ok (.goto 4, 3) := dk_167 0 4 (dk_at dksX1_tagRead_1 16 rfl rfl)
theorem dX1_tagRead_43 : decode cX1_tagRead 43 = .ok (.iconst 0, 1) := dk_3 (dk_at dksX1_tagRead_1 19 rfl rfl)
theorem dX1_tagRead_44 : decode cX1_tagRead 44 = .ok (.invokestatic 82, 3) := dk_184 0 82 (dk_at dksX1_tagRead_1 20 rfl rfl)
theorem dX1_tagRead_47 : decode cX1_tagRead 47 = .ok (.aload_n 0, 1) := dk_42 (dk_at dksX1_tagRead_1 23 rfl rfl)
theorem dX1_tagRead_48 : decode cX1_tagRead 48 = .ok (.getfield 19, 3) := dk_180 0 19 (dk_at dksX1_tagRead_2 0 rfl rfl)
theorem dX1_tagRead_51 : decode cX1_tagRead 51 = .ok (.new 160, 3) := dk_187 0 160 (dk_at dksX1_tagRead_2 3 rfl rfl)
theorem dX1_tagRead_54 : decode cX1_tagRead 54 = .ok (.dup, 1) := dk_89 (dk_at dksX1_tagRead_2 6 rfl rfl)
theorem dX1_tagRead_55 : decode cX1_tagRead 55 = .ok (.aload_n 0, 1) := dk_42 (dk_at dksX1_tagRead_2 7 rfl rfl)
theorem dX1_tagRead_56 : decode cX1_tagRead 56 = .ok (.getfield 19, 3) := dk_180 0 19 (dk_at dksX1_tagRead_2 8 rfl rfl)
theorem dX1_tagRead_59 : decode cX1_tagRead 59 = .ok (.getfield 143, 3) := dk_180 0 143 (dk_at dksX1_tagRead_2 11 rfl rfl)
theorem dX1_tagRead_62 : decode cX1_tagRead 62 = .ok (.invokevirtual 58, 3) := dk_182 0 58 (dk_at dksX1_tagRead_2 14 rfl rfl)
theorem dX1_tagRead_65 : decode cX1_tagRead 65 = .ok (.iload_n 2, 1) := dk_28 (dk_at dksX1_tagRead_2 17 rfl rfl)
theorem dX1_tagRead_66 : decode cX1_tagRead 66 = .ok (.iload_n 3, 1) := dk_29 (dk_at dksX1_tagRead_2 18 rfl rfl)
theorem dX1_tagRead_67 : decode cX1_tagRead 67 = .ok (.iconst 0, 1) := dk_3 (dk_at dksX1_tagRead_2 19 rfl rfl)
theorem dX1_tagRead_68 : decode cX1_tagRead 68 = .ok (.invokespecial 275, 3) := dk_183 1 19 (dk_at dksX1_tagRead_2 20 rfl rfl)
theorem dX1_tagRead_71 : decode cX1_tagRead 71 = .ok (.iload_n 1, 1) := dk_27 (dk_at dksX1_tagRead_2 23 rfl rfl)
theorem dX1_tagRead_72 : decode cX1_tagRead 72 = .ok (.bipush 100, 2) := dk_16 100 (dk_at dksX1_tagRead_3 0 rfl rfl)
theorem dX1_tagRead_74 : decode cX1_tagRead 74 = .ok (.invokevirtual 278, 3) := dk_182 1 22 (dk_at dksX1_tagRead_3 2 rfl rfl)
theorem dX1_tagRead_77 : decode cX1_tagRead 77 = .ok (.ireturn, 1) := dk_172 (dk_at dksX1_tagRead_3 5 rfl rfl)
theorem c_195_0 : LkP (OkP 195) [(0, o_aload 0 1), (1, o_iload 1 1), (2, o_cv [(0, 188)] 1 3 false none), (5, o_astore 4 2), (7, o_aload 0 1), (8, o_iload 2 1), (9, o_cv [(0, 175)] 1 3 true none), (12, o_iload 3 1), (13, o_i2l), (14, o_push 1 (.long 0)), (15, o_push 3 (.long 100000)), (18, o_cs 165 3 false none), (21, o_cs 172 1 true none), (24, o_aload 0 1), (25, o_get 0), (28, o_get 11), (31, o_cv [(3, 42)] 0 3 false none), (34, o_push 2 (.int 120)), (36, o_icmp (fun x y => decide (y ≤ x)) 43), (39, o_push 1 (.int 1)), (40, o_goto 44), (43, o_push 1 (.int 0)), (44, o_cs 170 1 true none), (47, o_aload 0 1), (48, o_get 0), (51, o_new 17 8 dv17), (54, o_dup), (55, o_aload 0 1), (56, o_get 0), (59, o_get 11), (62, o_cv [(3, 42)] 0 3 false none)] := lkp_c (P := OkP 195) ⟨(PuOK.ok (ok_aload_n dX1_tagRead_0 rfl)), m_aload⟩ (
  lkp_c (P := OkP 195) ⟨(PuOK.ok (ok_iload_n dX1_tagRead_1 rfl)), m_iload⟩ (
  lkp_c (P := OkP 195) ⟨ok_cv (List.forall_mem_cons.mpr ⟨tg_V (ci := 0) (r := CLr 0) (y := 188) rfl ⟨rfl, by decide⟩ rfl q1802 q1804 qs18 q115 q1805 ⟨cn_33.1, cn_33.2, pd_80⟩ dX1_tagRead_2, (List.forall_mem_nil _)⟩) hd_no, m_cv⟩ (
  lkp_c (P := OkP 195) ⟨(PuOK.ok (ok_astore dX1_tagRead_5)), m_astore⟩ (
  lkp_c (P := OkP 195) ⟨(PuOK.ok (ok_aload_n dX1_tagRead_7 rfl)), m_aload⟩ (
  lkp_c (P := OkP 195) ⟨(PuOK.ok (ok_iload_n dX1_tagRead_8 rfl)), m_iload⟩ (
  lkp_c (P := OkP 195) ⟨ok_cv (List.forall_mem_cons.mpr ⟨tg_V (ci := 0) (r := CLr 0) (y := 175) rfl ⟨rfl, by decide⟩ rfl q1687 q1689 qs13 q115 q1690 ⟨cn_33.1, cn_33.2, pd_9⟩ dX1_tagRead_9, (List.forall_mem_nil _)⟩) hd_no, m_cv⟩ (
  lkp_c (P := OkP 195) ⟨(PuOK.ok (ok_iload_n dX1_tagRead_12 rfl)), m_iload⟩ (
  lkp_c (P := OkP 195) ⟨(PuOK.ok (ok_i2l dX1_tagRead_13)), m_i2l⟩ (
  lkp_c (P := OkP 195) ⟨(PuOK.ok (ok_lconst dX1_tagRead_14 rfl)), m_push⟩ (
  lkp_c (P := OkP 195) ⟨(PuOK.ok (ok_ldc2 q1720 dX1_tagRead_15)), m_push⟩ (
  lkp_c (P := OkP 195) ⟨ok_cs (tg_S ⟨rfl, by decide⟩ q1643 q1284 q115 q1285 ⟨cn_33.1, cn_33.2, pd_74⟩ dX1_tagRead_18) hd_no, m_cs⟩ (
  lkp_c (P := OkP 195) ⟨ok_cs (tg_S ⟨rfl, by decide⟩ q1644 q1645 q115 q1646 ⟨cn_33.1, cn_33.2, pd_18⟩ dX1_tagRead_21) hd_no, m_cs⟩ (
  lkp_c (P := OkP 195) ⟨(PuOK.ok (ok_aload_n dX1_tagRead_24 rfl)), m_aload⟩ (
  lkp_c (P := OkP 195) ⟨ok_get ⟨"TollRoad", q664, Or.inl rfl⟩ dX1_tagRead_25, m_get⟩ (
  lkp_c (P := OkP 195) ⟨ok_getN ⟨"TollRoad$World", "TollRoad", q642, Or.inl rfl⟩ dX1_tagRead_28, m_get⟩ (
  lkp_c (P := OkP 195) ⟨ok_cv (List.forall_mem_cons.mpr ⟨tg_V (ci := 3) (r := CLr 3) (y := 42) rfl ⟨rfl, by decide⟩ rfl q1256 q1257 q1258 q120 q1259 ⟨cn_15.1, cn_15.2, pd_13⟩ dX1_tagRead_31, (List.forall_mem_nil _)⟩) hd_no, m_cv⟩ (
  lkp_c (P := OkP 195) ⟨(PuOK.ok (ok_bipush dX1_tagRead_34 rfl)), m_push⟩ (
  lkp_c (P := OkP 195) ⟨(PuOK.ok (ok_icmp_ge dX1_tagRead_36 rfl)), m_icmp⟩ (
  lkp_c (P := OkP 195) ⟨(PuOK.ok (ok_iconst dX1_tagRead_39 rfl)), m_push⟩ (
  lkp_c (P := OkP 195) ⟨(PuOK.ok (ok_goto dX1_tagRead_40 rfl)), m_goto⟩ (
  lkp_c (P := OkP 195) ⟨(PuOK.ok (ok_iconst dX1_tagRead_43 rfl)), m_push⟩ (
  lkp_c (P := OkP 195) ⟨ok_cs (tg_S ⟨rfl, by decide⟩ q1611 q1612 q115 q1613 ⟨cn_33.1, cn_33.2, pd_18⟩ dX1_tagRead_44) hd_no, m_cs⟩ (
  lkp_c (P := OkP 195) ⟨(PuOK.ok (ok_aload_n dX1_tagRead_47 rfl)), m_aload⟩ (
  lkp_c (P := OkP 195) ⟨ok_get ⟨"TollRoad", q664, Or.inl rfl⟩ dX1_tagRead_48, m_get⟩ (
  lkp_c (P := OkP 195) ⟨ok_new (ci := 17) (r := CLr 17) rfl dvok_17 q1771 q1988 q157 dX1_tagRead_51, m_new⟩ (
  lkp_c (P := OkP 195) ⟨(PuOK.ok (ok_dup dX1_tagRead_54)), m_dup⟩ (
  lkp_c (P := OkP 195) ⟨(PuOK.ok (ok_aload_n dX1_tagRead_55 rfl)), m_aload⟩ (
  lkp_c (P := OkP 195) ⟨ok_get ⟨"TollRoad", q664, Or.inl rfl⟩ dX1_tagRead_56, m_get⟩ (
  lkp_c (P := OkP 195) ⟨ok_getN ⟨"TollRoad$World", "TollRoad", q642, Or.inl rfl⟩ dX1_tagRead_59, m_get⟩ (
  lkp_c (P := OkP 195) ⟨ok_cv (List.forall_mem_cons.mpr ⟨tg_V (ci := 3) (r := CLr 3) (y := 42) rfl ⟨rfl, by decide⟩ rfl q1256 q1257 q1258 q120 q1259 ⟨cn_15.1, cn_15.2, pd_13⟩ dX1_tagRead_62, (List.forall_mem_nil _)⟩) hd_no, m_cv⟩ (
  trivial)))))))))))))))))))))))))))))))
theorem c_195_1 : LkP (OkP 195) [(65, o_iload 2 1), (66, o_iload 3 1), (67, o_push 1 (.int 0)), (68, o_ci 235 4), (71, o_iload 1 1), (72, o_push 2 (.int 100)), (74, o_cv [(1, 262)] 3 3 false none), (77, o_ret 1)] := lkp_c (P := OkP 195) ⟨(PuOK.ok (ok_iload_n dX1_tagRead_65 rfl)), m_iload⟩ (
  lkp_c (P := OkP 195) ⟨(PuOK.ok (ok_iload_n dX1_tagRead_66 rfl)), m_iload⟩ (
  lkp_c (P := OkP 195) ⟨(PuOK.ok (ok_iconst dX1_tagRead_67 rfl)), m_push⟩ (
  lkp_c (P := OkP 195) ⟨ok_ci (tg_I (rt := none) ⟨rfl, by decide⟩ rfl q1989 q1990 q157 q1991 ⟨cn_44.1, cn_44.2, pd_84⟩ dX1_tagRead_68) hd_no, m_ci⟩ (
  lkp_c (P := OkP 195) ⟨(PuOK.ok (ok_iload_n dX1_tagRead_71 rfl)), m_iload⟩ (
  lkp_c (P := OkP 195) ⟨(PuOK.ok (ok_bipush dX1_tagRead_72 rfl)), m_push⟩ (
  lkp_c (P := OkP 195) ⟨ok_cv (List.forall_mem_cons.mpr ⟨tg_V (ci := 1) (r := CLr 1) (y := 262) rfl ⟨rfl, by decide⟩ rfl q2036 q2037 q2038 q116 q2039 ⟨cn_36.1, cn_36.2, pd_85⟩ dX1_tagRead_74, (List.forall_mem_nil _)⟩) hd_no, m_cv⟩ (
  lkp_c (P := OkP 195) ⟨ok_iret rfl rfl (by decide) dX1_tagRead_77, m_ret⟩ (
  trivial))))))))
theorem mt_195 : MtOK TB NT IT 195 := ⟨by decide +kernel, rfl, (fun h => by cases h), Or.inl ⟨rfl, rfl⟩, rfl, by decide, lk2_all (P := OkP 195) ⟨c_195_0, c_195_1, trivial⟩⟩
def dkwX1_imageRead_4 : List UInt8 := [21, 4, 182, 1, 22, 172]
abbrev dktX1_imageRead_4 : List UInt8 := dkwX1_imageRead_4 ++ []
def dkwX1_imageRead_3 : List UInt8 := [180, 0, 19, 187, 0, 160, 89, 42, 180, 0, 19, 180, 0, 143, 182, 0, 58, 28, 29, 4, 183, 1, 19, 27]
abbrev dktX1_imageRead_3 : List UInt8 := dkwX1_imageRead_3 ++ dktX1_imageRead_4
def dkwX1_imageRead_2 : List UInt8 := [180, 0, 19, 180, 0, 143, 182, 0, 58, 16, 120, 162, 0, 7, 4, 167, 0, 4, 3, 184, 0, 82, 42]
abbrev dktX1_imageRead_2 : List UInt8 := dkwX1_imageRead_2 ++ dktX1_imageRead_3
def dkwX1_imageRead_1 : List UInt8 := [21, 4, 133, 9, 20, 1, 25, 184, 0, 46, 153, 0, 7, 4, 167, 0, 4, 3, 184, 0, 79, 42]
abbrev dktX1_imageRead_1 : List UInt8 := dkwX1_imageRead_1 ++ dktX1_imageRead_2
def dkwX1_imageRead_0 : List UInt8 := [42, 27, 182, 0, 207, 58, 5, 42, 28, 182, 0, 89, 29, 133, 9, 20, 0, 108, 184, 0, 46, 153, 0, 20]
abbrev dktX1_imageRead_0 : List UInt8 := dkwX1_imageRead_0 ++ dktX1_imageRead_1
theorem dksX1_imageRead_0 : cX1_imageRead.data.toList.drop 0 = dktX1_imageRead_0 := by decide +kernel
theorem dksX1_imageRead_1 : cX1_imageRead.data.toList.drop 24 = dktX1_imageRead_1 := dk_seg dksX1_imageRead_0 24 rfl rfl
theorem dksX1_imageRead_2 : cX1_imageRead.data.toList.drop 46 = dktX1_imageRead_2 := dk_seg dksX1_imageRead_1 22 rfl rfl
theorem dksX1_imageRead_3 : cX1_imageRead.data.toList.drop 69 = dktX1_imageRead_3 := dk_seg dksX1_imageRead_2 23 rfl rfl
theorem dksX1_imageRead_4 : cX1_imageRead.data.toList.drop 93 = dktX1_imageRead_4 := dk_seg dksX1_imageRead_3 24 rfl rfl
theorem dX1_imageRead_0 : decode cX1_imageRead 0 = .ok (.aload_n 0, 1) := dk_42 (dk_at dksX1_imageRead_0 0 rfl rfl)
theorem dX1_imageRead_1 : decode cX1_imageRead 1 = .ok (.iload_n 1, 1) := dk_27 (dk_at dksX1_imageRead_0 1 rfl rfl)
theorem dX1_imageRead_2 : decode cX1_imageRead 2 = .ok (.invokevirtual 207, 3) := dk_182 0 207 (dk_at dksX1_imageRead_0 2 rfl rfl)
theorem dX1_imageRead_5 : decode cX1_imageRead 5 = .ok (.astore 5, 2) := dk_58 5 (dk_at dksX1_imageRead_0 5 rfl rfl)
theorem dX1_imageRead_7 : decode cX1_imageRead 7 = .ok (.aload_n 0, 1) := dk_42 (dk_at dksX1_imageRead_0 7 rfl rfl)
theorem dX1_imageRead_8 : decode cX1_imageRead 8 = .ok (.iload_n 2, 1) := dk_28 (dk_at dksX1_imageRead_0 8 rfl rfl)
theorem dX1_imageRead_9 : decode cX1_imageRead 9 = .ok (.invokevirtual 89, 3) := dk_182 0 89 (dk_at dksX1_imageRead_0 9 rfl rfl)
theorem dX1_imageRead_12 : decode cX1_imageRead 12 = .ok (.iload_n 3, 1) := dk_29 (dk_at dksX1_imageRead_0 12 rfl rfl)
theorem dX1_imageRead_13 : decode cX1_imageRead 13 = .ok (.i2l, 1) := dk_133 (dk_at dksX1_imageRead_0 13 rfl rfl)
theorem dX1_imageRead_14 : decode cX1_imageRead 14 = .ok (.lconst 0, 1) := dk_9 (dk_at dksX1_imageRead_0 14 rfl rfl)
theorem dX1_imageRead_15 : decode cX1_imageRead 15 = .ok (.ldc2_w 108, 3) := dk_20 0 108 (dk_at dksX1_imageRead_0 15 rfl rfl)
theorem dX1_imageRead_18 : decode cX1_imageRead 18 = .ok (.invokestatic 46, 3) := dk_184 0 46 (dk_at dksX1_imageRead_0 18 rfl rfl)
theorem dX1_imageRead_21 : decode cX1_imageRead 21 = .ok (.ifCond .eq 20, 3) := dk_153 0 20 (dk_at dksX1_imageRead_0 21 rfl rfl)
theorem dX1_imageRead_24 : decode cX1_imageRead 24 = .ok (.iload 4, 2) := dk_21 4 (dk_at dksX1_imageRead_1 0 rfl rfl)
theorem dX1_imageRead_26 : decode cX1_imageRead 26 = .ok (.i2l, 1) := dk_133 (dk_at dksX1_imageRead_1 2 rfl rfl)
theorem dX1_imageRead_27 : decode cX1_imageRead 27 = .ok (.lconst 0, 1) := dk_9 (dk_at dksX1_imageRead_1 3 rfl rfl)
theorem dX1_imageRead_28 : decode cX1_imageRead 28 = .ok (.ldc2_w 281, 3) := dk_20 1 25 (dk_at dksX1_imageRead_1 4 rfl rfl)
theorem dX1_imageRead_31 : decode cX1_imageRead 31 = .ok (.invokestatic 46, 3) := dk_184 0 46 (dk_at dksX1_imageRead_1 7 rfl rfl)
theorem dX1_imageRead_34 : decode cX1_imageRead 34 = .ok (.ifCond .eq 7, 3) := dk_153 0 7 (dk_at dksX1_imageRead_1 10 rfl rfl)
theorem dX1_imageRead_37 : decode cX1_imageRead 37 = .ok (.iconst 1, 1) := dk_4 (dk_at dksX1_imageRead_1 13 rfl rfl)
theorem dX1_imageRead_38 : decode cX1_imageRead 38 = .ok (.goto 4, 3) := dk_167 0 4 (dk_at dksX1_imageRead_1 14 rfl rfl)
theorem dX1_imageRead_41 : decode cX1_imageRead 41 = .ok (.iconst 0, 1) := dk_3 (dk_at dksX1_imageRead_1 17 rfl rfl)
theorem dX1_imageRead_42 : decode cX1_imageRead 42 = .ok (.invokestatic 79, 3) := dk_184 0 79 (dk_at dksX1_imageRead_1 18 rfl rfl)
theorem dX1_imageRead_45 : decode cX1_imageRead 45 = .ok (.aload_n 0, 1) := dk_42 (dk_at dksX1_imageRead_1 21 rfl rfl)
theorem dX1_imageRead_46 : decode cX1_imageRead 46 = .ok (.getfield 19, 3) := dk_180 0 19 (dk_at dksX1_imageRead_2 0 rfl rfl)
theorem dX1_imageRead_49 : decode cX1_imageRead 49 = .ok (.getfield 143, 3) := dk_180 0 143 (dk_at dksX1_imageRead_2 3 rfl rfl)
theorem dX1_imageRead_52 : decode cX1_imageRead 52 = .ok (.invokevirtual 58, 3) := dk_182 0 58 (dk_at dksX1_imageRead_2 6 rfl rfl)
theorem dX1_imageRead_55 : decode cX1_imageRead 55 = .ok (.bipush 120, 2) := dk_16 120 (dk_at dksX1_imageRead_2 9 rfl rfl)
theorem dX1_imageRead_57 : decode cX1_imageRead 57 = .ok (.if_icmp .ge 7, 3) := dk_162 0 7 (dk_at dksX1_imageRead_2 11 rfl rfl)
theorem dX1_imageRead_60 : decode cX1_imageRead 60 = .ok (.iconst 1, 1) := dk_4 (dk_at dksX1_imageRead_2 14 rfl rfl)
theorem dX1_imageRead_61 : decode cX1_imageRead 61 = .ok (.goto 4, 3) := dk_167 0 4 (dk_at dksX1_imageRead_2 15 rfl rfl)
theorem dX1_imageRead_64 : decode cX1_imageRead 64 = .ok (.iconst 0, 1) := dk_3 (dk_at dksX1_imageRead_2 18 rfl rfl)
theorem dX1_imageRead_65 : decode cX1_imageRead 65 = .ok (.invokestatic 82, 3) := dk_184 0 82 (dk_at dksX1_imageRead_2 19 rfl rfl)
theorem dX1_imageRead_68 : decode cX1_imageRead 68 = .ok (.aload_n 0, 1) := dk_42 (dk_at dksX1_imageRead_2 22 rfl rfl)
theorem dX1_imageRead_69 : decode cX1_imageRead 69 = .ok (.getfield 19, 3) := dk_180 0 19 (dk_at dksX1_imageRead_3 0 rfl rfl)
theorem dX1_imageRead_72 : decode cX1_imageRead 72 = .ok (.new 160, 3) := dk_187 0 160 (dk_at dksX1_imageRead_3 3 rfl rfl)
theorem dX1_imageRead_75 : decode cX1_imageRead 75 = .ok (.dup, 1) := dk_89 (dk_at dksX1_imageRead_3 6 rfl rfl)
theorem dX1_imageRead_76 : decode cX1_imageRead 76 = .ok (.aload_n 0, 1) := dk_42 (dk_at dksX1_imageRead_3 7 rfl rfl)
theorem dX1_imageRead_77 : decode cX1_imageRead 77 = .ok (.getfield 19, 3) := dk_180 0 19 (dk_at dksX1_imageRead_3 8 rfl rfl)
theorem dX1_imageRead_80 : decode cX1_imageRead 80 = .ok (.getfield 143, 3) := dk_180 0 143 (dk_at dksX1_imageRead_3 11 rfl rfl)
theorem dX1_imageRead_83 : decode cX1_imageRead 83 = .ok (.invokevirtual 58, 3) := dk_182 0 58 (dk_at dksX1_imageRead_3 14 rfl rfl)
theorem dX1_imageRead_86 : decode cX1_imageRead 86 = .ok (.iload_n 2, 1) := dk_28 (dk_at dksX1_imageRead_3 17 rfl rfl)
theorem dX1_imageRead_87 : decode cX1_imageRead 87 = .ok (.iload_n 3, 1) := dk_29 (dk_at dksX1_imageRead_3 18 rfl rfl)
theorem dX1_imageRead_88 : decode cX1_imageRead 88 = .ok (.iconst 1, 1) := dk_4 (dk_at dksX1_imageRead_3 19 rfl rfl)
theorem dX1_imageRead_89 : decode cX1_imageRead 89 = .ok (.invokespecial 275, 3) := dk_183 1 19 (dk_at dksX1_imageRead_3 20 rfl rfl)
theorem dX1_imageRead_92 : decode cX1_imageRead 92 = .ok (.iload_n 1, 1) := dk_27 (dk_at dksX1_imageRead_3 23 rfl rfl)
theorem dX1_imageRead_93 : decode cX1_imageRead 93 = .ok (.iload 4, 2) := dk_21 4 (dk_at dksX1_imageRead_4 0 rfl rfl)
theorem dX1_imageRead_95 : decode cX1_imageRead 95 = .ok (.invokevirtual 278, 3) := dk_182 1 22 (dk_at dksX1_imageRead_4 2 rfl rfl)
theorem dX1_imageRead_98 : decode cX1_imageRead 98 = .ok (.ireturn, 1) := dk_172 (dk_at dksX1_imageRead_4 5 rfl rfl)
theorem c_196_0 : LkP (OkP 196) [(0, o_aload 0 1), (1, o_iload 1 1), (2, o_cv [(0, 188)] 1 3 false none), (5, o_astore 5 2), (7, o_aload 0 1), (8, o_iload 2 1), (9, o_cv [(0, 175)] 1 3 true none), (12, o_iload 3 1), (13, o_i2l), (14, o_push 1 (.long 0)), (15, o_push 3 (.long 100000)), (18, o_cs 165 3 false none), (21, o_if (fun x => decide (x = 0)) 41), (24, o_iload 4 2), (26, o_i2l), (27, o_push 1 (.long 0)), (28, o_push 3 (.long 100)), (31, o_cs 165 3 false none), (34, o_if (fun x => decide (x = 0)) 41), (37, o_push 1 (.int 1)), (38, o_goto 42), (41, o_push 1 (.int 0)), (42, o_cs 172 1 true none), (45, o_aload 0 1), (46, o_get 0), (49, o_get 11), (52, o_cv [(3, 42)] 0 3 false none), (55, o_push 2 (.int 120)), (57, o_icmp (fun x y => decide (y ≤ x)) 64), (60, o_push 1 (.int 1)), (61, o_goto 65)] := lkp_c (P := OkP 196) ⟨(PuOK.ok (ok_aload_n dX1_imageRead_0 rfl)), m_aload⟩ (
  lkp_c (P := OkP 196) ⟨(PuOK.ok (ok_iload_n dX1_imageRead_1 rfl)), m_iload⟩ (
  lkp_c (P := OkP 196) ⟨ok_cv (List.forall_mem_cons.mpr ⟨tg_V (ci := 0) (r := CLr 0) (y := 188) rfl ⟨rfl, by decide⟩ rfl q1802 q1804 qs18 q115 q1805 ⟨cn_33.1, cn_33.2, pd_80⟩ dX1_imageRead_2, (List.forall_mem_nil _)⟩) hd_no, m_cv⟩ (
  lkp_c (P := OkP 196) ⟨(PuOK.ok (ok_astore dX1_imageRead_5)), m_astore⟩ (
  lkp_c (P := OkP 196) ⟨(PuOK.ok (ok_aload_n dX1_imageRead_7 rfl)), m_aload⟩ (
  lkp_c (P := OkP 196) ⟨(PuOK.ok (ok_iload_n dX1_imageRead_8 rfl)), m_iload⟩ (
  lkp_c (P := OkP 196) ⟨ok_cv (List.forall_mem_cons.mpr ⟨tg_V (ci := 0) (r := CLr 0) (y := 175) rfl ⟨rfl, by decide⟩ rfl q1687 q1689 qs13 q115 q1690 ⟨cn_33.1, cn_33.2, pd_9⟩ dX1_imageRead_9, (List.forall_mem_nil _)⟩) hd_no, m_cv⟩ (
  lkp_c (P := OkP 196) ⟨(PuOK.ok (ok_iload_n dX1_imageRead_12 rfl)), m_iload⟩ (
  lkp_c (P := OkP 196) ⟨(PuOK.ok (ok_i2l dX1_imageRead_13)), m_i2l⟩ (
  lkp_c (P := OkP 196) ⟨(PuOK.ok (ok_lconst dX1_imageRead_14 rfl)), m_push⟩ (
  lkp_c (P := OkP 196) ⟨(PuOK.ok (ok_ldc2 q1720 dX1_imageRead_15)), m_push⟩ (
  lkp_c (P := OkP 196) ⟨ok_cs (tg_S ⟨rfl, by decide⟩ q1643 q1284 q115 q1285 ⟨cn_33.1, cn_33.2, pd_74⟩ dX1_imageRead_18) hd_no, m_cs⟩ (
  lkp_c (P := OkP 196) ⟨(PuOK.ok (ok_if_eq dX1_imageRead_21 rfl)), m_if⟩ (
  lkp_c (P := OkP 196) ⟨(PuOK.ok (ok_iload dX1_imageRead_24)), m_iload⟩ (
  lkp_c (P := OkP 196) ⟨(PuOK.ok (ok_i2l dX1_imageRead_26)), m_i2l⟩ (
  lkp_c (P := OkP 196) ⟨(PuOK.ok (ok_lconst dX1_imageRead_27 rfl)), m_push⟩ (
  lkp_c (P := OkP 196) ⟨(PuOK.ok (ok_ldc2 q2052 dX1_imageRead_28)), m_push⟩ (
  lkp_c (P := OkP 196) ⟨ok_cs (tg_S ⟨rfl, by decide⟩ q1643 q1284 q115 q1285 ⟨cn_33.1, cn_33.2, pd_74⟩ dX1_imageRead_31) hd_no, m_cs⟩ (
  lkp_c (P := OkP 196) ⟨(PuOK.ok (ok_if_eq dX1_imageRead_34 rfl)), m_if⟩ (
  lkp_c (P := OkP 196) ⟨(PuOK.ok (ok_iconst dX1_imageRead_37 rfl)), m_push⟩ (
  lkp_c (P := OkP 196) ⟨(PuOK.ok (ok_goto dX1_imageRead_38 rfl)), m_goto⟩ (
  lkp_c (P := OkP 196) ⟨(PuOK.ok (ok_iconst dX1_imageRead_41 rfl)), m_push⟩ (
  lkp_c (P := OkP 196) ⟨ok_cs (tg_S ⟨rfl, by decide⟩ q1644 q1645 q115 q1646 ⟨cn_33.1, cn_33.2, pd_18⟩ dX1_imageRead_42) hd_no, m_cs⟩ (
  lkp_c (P := OkP 196) ⟨(PuOK.ok (ok_aload_n dX1_imageRead_45 rfl)), m_aload⟩ (
  lkp_c (P := OkP 196) ⟨ok_get ⟨"TollRoad", q664, Or.inl rfl⟩ dX1_imageRead_46, m_get⟩ (
  lkp_c (P := OkP 196) ⟨ok_getN ⟨"TollRoad$World", "TollRoad", q642, Or.inl rfl⟩ dX1_imageRead_49, m_get⟩ (
  lkp_c (P := OkP 196) ⟨ok_cv (List.forall_mem_cons.mpr ⟨tg_V (ci := 3) (r := CLr 3) (y := 42) rfl ⟨rfl, by decide⟩ rfl q1256 q1257 q1258 q120 q1259 ⟨cn_15.1, cn_15.2, pd_13⟩ dX1_imageRead_52, (List.forall_mem_nil _)⟩) hd_no, m_cv⟩ (
  lkp_c (P := OkP 196) ⟨(PuOK.ok (ok_bipush dX1_imageRead_55 rfl)), m_push⟩ (
  lkp_c (P := OkP 196) ⟨(PuOK.ok (ok_icmp_ge dX1_imageRead_57 rfl)), m_icmp⟩ (
  lkp_c (P := OkP 196) ⟨(PuOK.ok (ok_iconst dX1_imageRead_60 rfl)), m_push⟩ (
  lkp_c (P := OkP 196) ⟨(PuOK.ok (ok_goto dX1_imageRead_61 rfl)), m_goto⟩ (
  trivial)))))))))))))))))))))))))))))))
theorem c_196_1 : LkP (OkP 196) [(64, o_push 1 (.int 0)), (65, o_cs 170 1 true none), (68, o_aload 0 1), (69, o_get 0), (72, o_new 17 8 dv17), (75, o_dup), (76, o_aload 0 1), (77, o_get 0), (80, o_get 11), (83, o_cv [(3, 42)] 0 3 false none), (86, o_iload 2 1), (87, o_iload 3 1), (88, o_push 1 (.int 1)), (89, o_ci 235 4), (92, o_iload 1 1), (93, o_iload 4 2), (95, o_cv [(1, 262)] 3 3 false none), (98, o_ret 1)] := lkp_c (P := OkP 196) ⟨(PuOK.ok (ok_iconst dX1_imageRead_64 rfl)), m_push⟩ (
  lkp_c (P := OkP 196) ⟨ok_cs (tg_S ⟨rfl, by decide⟩ q1611 q1612 q115 q1613 ⟨cn_33.1, cn_33.2, pd_18⟩ dX1_imageRead_65) hd_no, m_cs⟩ (
  lkp_c (P := OkP 196) ⟨(PuOK.ok (ok_aload_n dX1_imageRead_68 rfl)), m_aload⟩ (
  lkp_c (P := OkP 196) ⟨ok_get ⟨"TollRoad", q664, Or.inl rfl⟩ dX1_imageRead_69, m_get⟩ (
  lkp_c (P := OkP 196) ⟨ok_new (ci := 17) (r := CLr 17) rfl dvok_17 q1771 q1988 q157 dX1_imageRead_72, m_new⟩ (
  lkp_c (P := OkP 196) ⟨(PuOK.ok (ok_dup dX1_imageRead_75)), m_dup⟩ (
  lkp_c (P := OkP 196) ⟨(PuOK.ok (ok_aload_n dX1_imageRead_76 rfl)), m_aload⟩ (
  lkp_c (P := OkP 196) ⟨ok_get ⟨"TollRoad", q664, Or.inl rfl⟩ dX1_imageRead_77, m_get⟩ (
  lkp_c (P := OkP 196) ⟨ok_getN ⟨"TollRoad$World", "TollRoad", q642, Or.inl rfl⟩ dX1_imageRead_80, m_get⟩ (
  lkp_c (P := OkP 196) ⟨ok_cv (List.forall_mem_cons.mpr ⟨tg_V (ci := 3) (r := CLr 3) (y := 42) rfl ⟨rfl, by decide⟩ rfl q1256 q1257 q1258 q120 q1259 ⟨cn_15.1, cn_15.2, pd_13⟩ dX1_imageRead_83, (List.forall_mem_nil _)⟩) hd_no, m_cv⟩ (
  lkp_c (P := OkP 196) ⟨(PuOK.ok (ok_iload_n dX1_imageRead_86 rfl)), m_iload⟩ (
  lkp_c (P := OkP 196) ⟨(PuOK.ok (ok_iload_n dX1_imageRead_87 rfl)), m_iload⟩ (
  lkp_c (P := OkP 196) ⟨(PuOK.ok (ok_iconst dX1_imageRead_88 rfl)), m_push⟩ (
  lkp_c (P := OkP 196) ⟨ok_ci (tg_I (rt := none) ⟨rfl, by decide⟩ rfl q1989 q1990 q157 q1991 ⟨cn_44.1, cn_44.2, pd_84⟩ dX1_imageRead_89) hd_no, m_ci⟩ (
  lkp_c (P := OkP 196) ⟨(PuOK.ok (ok_iload_n dX1_imageRead_92 rfl)), m_iload⟩ (
  lkp_c (P := OkP 196) ⟨(PuOK.ok (ok_iload dX1_imageRead_93)), m_iload⟩ (
  lkp_c (P := OkP 196) ⟨ok_cv (List.forall_mem_cons.mpr ⟨tg_V (ci := 1) (r := CLr 1) (y := 262) rfl ⟨rfl, by decide⟩ rfl q2036 q2037 q2038 q116 q2039 ⟨cn_36.1, cn_36.2, pd_85⟩ dX1_imageRead_95, (List.forall_mem_nil _)⟩) hd_no, m_cv⟩ (
  lkp_c (P := OkP 196) ⟨ok_iret rfl rfl (by decide) dX1_imageRead_98, m_ret⟩ (
  trivial))))))))))))))))))
theorem mt_196 : MtOK TB NT IT 196 := ⟨by decide +kernel, rfl, (fun h => by cases h), Or.inl ⟨rfl, rfl⟩, rfl, by decide, lk2_all (P := OkP 196) ⟨c_196_0, c_196_1, trivial⟩⟩
