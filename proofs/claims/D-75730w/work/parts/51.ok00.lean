set_option maxRecDepth 100000
/-! each op is what its instruction does -/
theorem dJ0_init_0 : decode cJ0_init 0 = .ok (.aload_n 0, 1) := by decide +kernel
theorem dJ0_init_1 : decode cJ0_init 1 = .ok (.invokespecial 1, 3) := by decide +kernel
theorem dJ0_init_4 : decode cJ0_init 4 = .ok (.return_, 1) := by decide +kernel
theorem c_0_0 : LkP (OkP 0) [(0, o_aload 0 1), (1, o_oi), (4, o_vret)] := lkp_c (P := OkP 0) ⟨(PuOK.ok (ok_aload_n dJ0_init_0 rfl)), m_aload⟩ (
  lkp_c (P := OkP 0) ⟨ok_oi q238 q188 q_oi dJ0_init_1, m_oi⟩ (
  lkp_c (P := OkP 0) ⟨ok_vret rfl dJ0_init_4, m_vret⟩ (
  trivial)))
theorem mt_0 : MtOK TB NT IT 0 := ⟨by decide +kernel, rfl, fun _ => rfl, Or.inl ⟨rfl, rfl⟩, rfl, by decide, lk2_all (P := OkP 0) ⟨c_0_0, trivial⟩⟩
def dkwJ1_init_0 : List UInt8 := [42, 183, 0, 1, 42, 3, 181, 0, 7, 177]
abbrev dktJ1_init_0 : List UInt8 := dkwJ1_init_0 ++ []
theorem dksJ1_init_0 : cJ1_init.data.toList.drop 0 = dktJ1_init_0 := by decide +kernel
theorem dJ1_init_0 : decode cJ1_init 0 = .ok (.aload_n 0, 1) := dk_42 (dk_at dksJ1_init_0 0 rfl rfl)
theorem dJ1_init_1 : decode cJ1_init 1 = .ok (.invokespecial 1, 3) := dk_183 0 1 (dk_at dksJ1_init_0 1 rfl rfl)
theorem dJ1_init_4 : decode cJ1_init 4 = .ok (.aload_n 0, 1) := dk_42 (dk_at dksJ1_init_0 4 rfl rfl)
theorem dJ1_init_5 : decode cJ1_init 5 = .ok (.iconst 0, 1) := dk_3 (dk_at dksJ1_init_0 5 rfl rfl)
theorem dJ1_init_6 : decode cJ1_init 6 = .ok (.putfield 7, 3) := dk_181 0 7 (dk_at dksJ1_init_0 6 rfl rfl)
theorem dJ1_init_9 : decode cJ1_init 9 = .ok (.return_, 1) := dk_177 (dk_at dksJ1_init_0 9 rfl rfl)
theorem c_1_0 : LkP (OkP 1) [(0, o_aload 0 1), (1, o_ci 0 0), (4, o_aload 0 1), (5, o_push 1 (.int 0)), (6, o_put 18 1), (9, o_vret)] := lkp_c (P := OkP 1) ⟨(PuOK.ok (ok_aload_n dJ1_init_0 rfl)), m_aload⟩ (
  lkp_c (P := OkP 1) ⟨ok_ci (tg_I (rt := none) ⟨rfl, by decide⟩ rfl q235 q236 q118 q237 ⟨cn_0.1, cn_0.2, pd_0⟩ dJ1_init_1) hd_no, m_ci⟩ (
  lkp_c (P := OkP 1) ⟨(PuOK.ok (ok_aload_n dJ1_init_4 rfl)), m_aload⟩ (
  lkp_c (P := OkP 1) ⟨(PuOK.ok (ok_iconst dJ1_init_5 rfl)), m_push⟩ (
  lkp_c (P := OkP 1) ⟨ok_put ⟨"java/util/AbstractList", q577, Or.inl rfl⟩ rfl fd_18 rfl dJ1_init_6, m_put⟩ (
  lkp_c (P := OkP 1) ⟨ok_vret rfl dJ1_init_9, m_vret⟩ (
  trivial))))))
theorem mt_1 : MtOK TB NT IT 1 := ⟨by decide +kernel, rfl, fun _ => rfl, Or.inl ⟨rfl, rfl⟩, rfl, by decide, lk2_all (P := OkP 1) ⟨c_1_0, trivial⟩⟩
def dkwJ11_newLength_1 : List UInt8 := [184, 0, 201, 172]
abbrev dktJ11_newLength_1 : List UInt8 := dkwJ11_newLength_1 ++ []
def dkwJ11_newLength_0 : List UInt8 := [26, 27, 28, 184, 0, 194, 96, 62, 3, 29, 162, 0, 11, 29, 18, 200, 163, 0, 5, 29, 172, 26, 27]
abbrev dktJ11_newLength_0 : List UInt8 := dkwJ11_newLength_0 ++ dktJ11_newLength_1
theorem dksJ11_newLength_0 : cJ11_newLength.data.toList.drop 0 = dktJ11_newLength_0 := by decide +kernel
theorem dksJ11_newLength_1 : cJ11_newLength.data.toList.drop 23 = dktJ11_newLength_1 := dk_seg dksJ11_newLength_0 23 rfl rfl
theorem dJ11_newLength_0 : decode cJ11_newLength 0 = .ok (.iload_n 0, 1) := dk_26 (dk_at dksJ11_newLength_0 0 rfl rfl)
theorem dJ11_newLength_1 : decode cJ11_newLength 1 = .ok (.iload_n 1, 1) := dk_27 (dk_at dksJ11_newLength_0 1 rfl rfl)
theorem dJ11_newLength_2 : decode cJ11_newLength 2 = .ok (.iload_n 2, 1) := dk_28 (dk_at dksJ11_newLength_0 2 rfl rfl)
theorem dJ11_newLength_3 : decode cJ11_newLength 3 = .ok (.invokestatic 194, 3) := dk_184 0 194 (dk_at dksJ11_newLength_0 3 rfl rfl)
theorem dJ11_newLength_6 : decode cJ11_newLength 6 = .ok (.iadd, 1) := dk_96 (dk_at dksJ11_newLength_0 6 rfl rfl)
theorem dJ11_newLength_7 : decode cJ11_newLength 7 = .ok (.istore_n 3, 1) := dk_62 (dk_at dksJ11_newLength_0 7 rfl rfl)
theorem dJ11_newLength_8 : decode cJ11_newLength 8 = .ok (.iconst 0, 1) := dk_3 (dk_at dksJ11_newLength_0 8 rfl rfl)
theorem dJ11_newLength_9 : decode cJ11_newLength 9 = .ok (.iload_n 3, 1) := dk_29 (dk_at dksJ11_newLength_0 9 rfl rfl)
theorem dJ11_newLength_10 : decode cJ11_newLength 10 = .ok (.if_icmp .ge 11, 3) := dk_162 0 11 (dk_at dksJ11_newLength_0 10 rfl rfl)
theorem dJ11_newLength_13 : decode cJ11_newLength 13 = .ok (.iload_n 3, 1) := dk_29 (dk_at dksJ11_newLength_0 13 rfl rfl)
theorem dJ11_newLength_14 : decode cJ11_newLength 14 = .ok (.ldc 200, 2) := dk_18 200 (dk_at dksJ11_newLength_0 14 rfl rfl)
theorem dJ11_newLength_16 : decode cJ11_newLength 16 = .ok (.if_icmp .gt 5, 3) := dk_163 0 5 (dk_at dksJ11_newLength_0 16 rfl rfl)
theorem dJ11_newLength_19 : decode cJ11_newLength 19 = .ok (.iload_n 3, 1) := dk_29 (dk_at dksJ11_newLength_0 19 rfl rfl)
theorem dJ11_newLength_20 : decode cJ11_newLength 20 = .ok (.ireturn, 1) := dk_172 (dk_at dksJ11_newLength_0 20 rfl rfl)
theorem dJ11_newLength_21 : decode cJ11_newLength 21 = .ok (.iload_n 0, 1) := dk_26 (dk_at dksJ11_newLength_0 21 rfl rfl)
theorem dJ11_newLength_22 : decode cJ11_newLength 22 = .ok (.iload_n 1, 1) := dk_27 (dk_at dksJ11_newLength_0 22 rfl rfl)
theorem dJ11_newLength_26 : decode cJ11_newLength 26 = .ok (.ireturn, 1) := dk_172 (dk_at dksJ11_newLength_1 3 rfl rfl)
theorem c_2_0 : LkP (OkP 2) [(0, o_iload 0 1), (1, o_iload 1 1), (2, o_iload 2 1), (3, o_cs 6 2 false none), (6, o_iop (fun x y => x + y)), (7, o_istore 3 1), (8, o_push 1 (.int 0)), (9, o_iload 3 1), (10, o_icmp (fun x y => decide (y ≤ x)) 21), (13, o_iload 3 1), (14, o_push 2 (.int 2147483639)), (16, o_icmp (fun x y => decide (y < x)) 21), (19, o_iload 3 1), (20, o_ret 1), (21, o_iload 0 1), (22, o_iload 1 1), (26, o_ret 1)] := lkp_c (P := OkP 2) ⟨(PuOK.ok (ok_iload_n dJ11_newLength_0 rfl)), m_iload⟩ (
  lkp_c (P := OkP 2) ⟨(PuOK.ok (ok_iload_n dJ11_newLength_1 rfl)), m_iload⟩ (
  lkp_c (P := OkP 2) ⟨(PuOK.ok (ok_iload_n dJ11_newLength_2 rfl)), m_iload⟩ (
  lkp_c (P := OkP 2) ⟨ok_cs (tg_S ⟨rfl, by decide⟩ q355 q356 q130 q357 ⟨cn_1.1, cn_1.2, pd_1⟩ dJ11_newLength_3) hd_no, m_cs⟩ (
  lkp_c (P := OkP 2) ⟨(PuOK.ok (ok_iadd dJ11_newLength_6)), m_iop⟩ (
  lkp_c (P := OkP 2) ⟨(PuOK.ok (ok_istore_n dJ11_newLength_7 rfl)), m_istore⟩ (
  lkp_c (P := OkP 2) ⟨(PuOK.ok (ok_iconst dJ11_newLength_8 rfl)), m_push⟩ (
  lkp_c (P := OkP 2) ⟨(PuOK.ok (ok_iload_n dJ11_newLength_9 rfl)), m_iload⟩ (
  lkp_c (P := OkP 2) ⟨(PuOK.ok (ok_icmp_ge dJ11_newLength_10 rfl)), m_icmp⟩ (
  lkp_c (P := OkP 2) ⟨(PuOK.ok (ok_iload_n dJ11_newLength_13 rfl)), m_iload⟩ (
  lkp_c (P := OkP 2) ⟨(PuOK.ok (ok_ldc q358 dJ11_newLength_14)), m_push⟩ (
  lkp_c (P := OkP 2) ⟨(PuOK.ok (ok_icmp_gt dJ11_newLength_16 rfl)), m_icmp⟩ (
  lkp_c (P := OkP 2) ⟨(PuOK.ok (ok_iload_n dJ11_newLength_19 rfl)), m_iload⟩ (
  lkp_c (P := OkP 2) ⟨ok_iret rfl rfl (by decide) dJ11_newLength_20, m_ret⟩ (
  lkp_c (P := OkP 2) ⟨(PuOK.ok (ok_iload_n dJ11_newLength_21 rfl)), m_iload⟩ (
  lkp_c (P := OkP 2) ⟨(PuOK.ok (ok_iload_n dJ11_newLength_22 rfl)), m_iload⟩ (
  lkp_c (P := OkP 2) ⟨ok_iret rfl rfl (by decide) dJ11_newLength_26, m_ret⟩ (
  trivial)))))))))))))))))
theorem mt_2 : MtOK TB NT IT 2 := ⟨by decide +kernel, rfl, (fun h => by cases h), Or.inl ⟨rfl, rfl⟩, rfl, by decide, lk2_all (P := OkP 2) ⟨c_2_0, trivial⟩⟩
def dkwJ11_vectorizedHashCode_6 : List UInt8 := [183, 0, 91, 18, 92, 182, 0, 94, 21, 4, 182, 0, 98, 182, 0, 101, 183, 0, 105, 191, 172]
abbrev dktJ11_vectorizedHashCode_6 : List UInt8 := dkwJ11_vectorizedHashCode_6 ++ []
def dkwJ11_vectorizedHashCode_5 : List UInt8 := [167, 0, 44, 29, 42, 192, 0, 82, 27, 28, 184, 0, 84, 167, 0, 31, 187, 0, 87, 89, 187, 0, 89, 89]
abbrev dktJ11_vectorizedHashCode_5 : List UInt8 := dkwJ11_vectorizedHashCode_5 ++ dktJ11_vectorizedHashCode_6
def dkwJ11_vectorizedHashCode_4 : List UInt8 := [29, 42, 192, 0, 60, 27, 28, 184, 0, 75, 167, 0, 57, 29, 42, 192, 0, 77, 27, 28, 184, 0, 79]
abbrev dktJ11_vectorizedHashCode_4 : List UInt8 := dkwJ11_vectorizedHashCode_4 ++ dktJ11_vectorizedHashCode_5
def dkwJ11_vectorizedHashCode_3 : List UInt8 := [192, 0, 60, 27, 28, 184, 0, 66, 167, 0, 83, 29, 42, 192, 0, 69, 27, 28, 184, 0, 71, 167, 0, 70]
abbrev dktJ11_vectorizedHashCode_3 : List UInt8 := dkwJ11_vectorizedHashCode_3 ++ dktJ11_vectorizedHashCode_4
def dkwJ11_vectorizedHashCode_2 : List UInt8 := [29, 42, 192, 0, 60, 27, 28, 184, 0, 62, 167, 0, 103, 42, 193, 0, 60, 153, 0, 16, 29, 42]
abbrev dktJ11_vectorizedHashCode_2 : List UInt8 := dkwJ11_vectorizedHashCode_2 ++ dktJ11_vectorizedHashCode_3
def dkwJ11_vectorizedHashCode_1 : List UInt8 := [170, 0, 0, 0, 0, 127, 0, 0, 0, 4, 0, 0, 0, 10, 0, 0, 0, 42, 0, 0, 0, 55, 0, 0, 0, 127, 0, 0, 0, 127, 0, 0, 0, 88, 0, 0, 0, 101, 0, 0, 0, 114]
abbrev dktJ11_vectorizedHashCode_1 : List UInt8 := dkwJ11_vectorizedHashCode_1 ++ dktJ11_vectorizedHashCode_2
def dkwJ11_vectorizedHashCode_0 : List UInt8 := [21, 4]
abbrev dktJ11_vectorizedHashCode_0 : List UInt8 := dkwJ11_vectorizedHashCode_0 ++ dktJ11_vectorizedHashCode_1
theorem dksJ11_vectorizedHashCode_0 : cJ11_vectorizedHashCode.data.toList.drop 0 = dktJ11_vectorizedHashCode_0 := by decide +kernel
theorem dksJ11_vectorizedHashCode_1 : cJ11_vectorizedHashCode.data.toList.drop 2 = dktJ11_vectorizedHashCode_1 := dk_seg dksJ11_vectorizedHashCode_0 2 rfl rfl
theorem dksJ11_vectorizedHashCode_2 : cJ11_vectorizedHashCode.data.toList.drop 44 = dktJ11_vectorizedHashCode_2 := dk_seg dksJ11_vectorizedHashCode_1 42 rfl rfl
theorem dksJ11_vectorizedHashCode_3 : cJ11_vectorizedHashCode.data.toList.drop 66 = dktJ11_vectorizedHashCode_3 := dk_seg dksJ11_vectorizedHashCode_2 22 rfl rfl
theorem dksJ11_vectorizedHashCode_4 : cJ11_vectorizedHashCode.data.toList.drop 90 = dktJ11_vectorizedHashCode_4 := dk_seg dksJ11_vectorizedHashCode_3 24 rfl rfl
theorem dksJ11_vectorizedHashCode_5 : cJ11_vectorizedHashCode.data.toList.drop 113 = dktJ11_vectorizedHashCode_5 := dk_seg dksJ11_vectorizedHashCode_4 23 rfl rfl
theorem dksJ11_vectorizedHashCode_6 : cJ11_vectorizedHashCode.data.toList.drop 137 = dktJ11_vectorizedHashCode_6 := dk_seg dksJ11_vectorizedHashCode_5 24 rfl rfl
theorem dJ11_vectorizedHashCode_0 : decode cJ11_vectorizedHashCode 0 = .ok (.iload 4, 2) := dk_21 4 (dk_at dksJ11_vectorizedHashCode_0 0 rfl rfl)
theorem dJ11_vectorizedHashCode_2 : decode cJ11_vectorizedHashCode 2 = .ok (.tableswitch 127 4 10 #[42, 55, 127, 127, 88, 101, 114], 42) := by decide +kernel
theorem dJ11_vectorizedHashCode_44 : decode cJ11_vectorizedHashCode 44 = .ok (.iload_n 3, 1) := dk_29 (dk_at dksJ11_vectorizedHashCode_2 0 rfl rfl)
theorem dJ11_vectorizedHashCode_45 : decode cJ11_vectorizedHashCode 45 = .ok (.aload_n 0, 1) := dk_42 (dk_at dksJ11_vectorizedHashCode_2 1 rfl rfl)
theorem dJ11_vectorizedHashCode_46 : decode cJ11_vectorizedHashCode 46 = .ok (.checkcast 60, 3) := dk_192 0 60 (dk_at dksJ11_vectorizedHashCode_2 2 rfl rfl)
theorem dJ11_vectorizedHashCode_49 : decode cJ11_vectorizedHashCode 49 = .ok (.iload_n 1, 1) := dk_27 (dk_at dksJ11_vectorizedHashCode_2 5 rfl rfl)
theorem dJ11_vectorizedHashCode_50 : decode cJ11_vectorizedHashCode 50 = .ok (.iload_n 2, 1) := dk_28 (dk_at dksJ11_vectorizedHashCode_2 6 rfl rfl)
theorem dJ11_vectorizedHashCode_51 : decode cJ11_vectorizedHashCode 51 = .ok (.invokestatic 62, 3) := dk_184 0 62 (dk_at dksJ11_vectorizedHashCode_2 7 rfl rfl)
theorem dJ11_vectorizedHashCode_54 : decode cJ11_vectorizedHashCode 54 = .ok (.goto 103, 3) := dk_167 0 103 (dk_at dksJ11_vectorizedHashCode_2 10 rfl rfl)
theorem dJ11_vectorizedHashCode_57 : decode cJ11_vectorizedHashCode 57 = .ok (.aload_n 0, 1) := dk_42 (dk_at dksJ11_vectorizedHashCode_2 13 rfl rfl)
theorem dJ11_vectorizedHashCode_61 : decode cJ11_vectorizedHashCode 61 = .ok (.ifCond .eq 16, 3) := dk_153 0 16 (dk_at dksJ11_vectorizedHashCode_2 17 rfl rfl)
theorem dJ11_vectorizedHashCode_64 : decode cJ11_vectorizedHashCode 64 = .ok (.iload_n 3, 1) := dk_29 (dk_at dksJ11_vectorizedHashCode_2 20 rfl rfl)
theorem dJ11_vectorizedHashCode_65 : decode cJ11_vectorizedHashCode 65 = .ok (.aload_n 0, 1) := dk_42 (dk_at dksJ11_vectorizedHashCode_2 21 rfl rfl)
theorem dJ11_vectorizedHashCode_66 : decode cJ11_vectorizedHashCode 66 = .ok (.checkcast 60, 3) := dk_192 0 60 (dk_at dksJ11_vectorizedHashCode_3 0 rfl rfl)
theorem dJ11_vectorizedHashCode_69 : decode cJ11_vectorizedHashCode 69 = .ok (.iload_n 1, 1) := dk_27 (dk_at dksJ11_vectorizedHashCode_3 3 rfl rfl)
theorem dJ11_vectorizedHashCode_70 : decode cJ11_vectorizedHashCode 70 = .ok (.iload_n 2, 1) := dk_28 (dk_at dksJ11_vectorizedHashCode_3 4 rfl rfl)
theorem dJ11_vectorizedHashCode_74 : decode cJ11_vectorizedHashCode 74 = .ok (.goto 83, 3) := dk_167 0 83 (dk_at dksJ11_vectorizedHashCode_3 8 rfl rfl)
theorem dJ11_vectorizedHashCode_77 : decode cJ11_vectorizedHashCode 77 = .ok (.iload_n 3, 1) := dk_29 (dk_at dksJ11_vectorizedHashCode_3 11 rfl rfl)
theorem dJ11_vectorizedHashCode_78 : decode cJ11_vectorizedHashCode 78 = .ok (.aload_n 0, 1) := dk_42 (dk_at dksJ11_vectorizedHashCode_3 12 rfl rfl)
theorem dJ11_vectorizedHashCode_82 : decode cJ11_vectorizedHashCode 82 = .ok (.iload_n 1, 1) := dk_27 (dk_at dksJ11_vectorizedHashCode_3 16 rfl rfl)
theorem dJ11_vectorizedHashCode_83 : decode cJ11_vectorizedHashCode 83 = .ok (.iload_n 2, 1) := dk_28 (dk_at dksJ11_vectorizedHashCode_3 17 rfl rfl)
theorem dJ11_vectorizedHashCode_87 : decode cJ11_vectorizedHashCode 87 = .ok (.goto 70, 3) := dk_167 0 70 (dk_at dksJ11_vectorizedHashCode_3 21 rfl rfl)
theorem dJ11_vectorizedHashCode_90 : decode cJ11_vectorizedHashCode 90 = .ok (.iload_n 3, 1) := dk_29 (dk_at dksJ11_vectorizedHashCode_4 0 rfl rfl)
theorem dJ11_vectorizedHashCode_91 : decode cJ11_vectorizedHashCode 91 = .ok (.aload_n 0, 1) := dk_42 (dk_at dksJ11_vectorizedHashCode_4 1 rfl rfl)
theorem dJ11_vectorizedHashCode_92 : decode cJ11_vectorizedHashCode 92 = .ok (.checkcast 60, 3) := dk_192 0 60 (dk_at dksJ11_vectorizedHashCode_4 2 rfl rfl)
theorem dJ11_vectorizedHashCode_95 : decode cJ11_vectorizedHashCode 95 = .ok (.iload_n 1, 1) := dk_27 (dk_at dksJ11_vectorizedHashCode_4 5 rfl rfl)
theorem dJ11_vectorizedHashCode_96 : decode cJ11_vectorizedHashCode 96 = .ok (.iload_n 2, 1) := dk_28 (dk_at dksJ11_vectorizedHashCode_4 6 rfl rfl)
theorem dJ11_vectorizedHashCode_97 : decode cJ11_vectorizedHashCode 97 = .ok (.invokestatic 75, 3) := dk_184 0 75 (dk_at dksJ11_vectorizedHashCode_4 7 rfl rfl)
theorem dJ11_vectorizedHashCode_100 : decode cJ11_vectorizedHashCode 100 = .ok (.goto 57, 3) := dk_167 0 57 (dk_at dksJ11_vectorizedHashCode_4 10 rfl rfl)
theorem dJ11_vectorizedHashCode_103 : decode cJ11_vectorizedHashCode 103 = .ok (.iload_n 3, 1) := dk_29 (dk_at dksJ11_vectorizedHashCode_4 13 rfl rfl)
theorem dJ11_vectorizedHashCode_104 : decode cJ11_vectorizedHashCode 104 = .ok (.aload_n 0, 1) := dk_42 (dk_at dksJ11_vectorizedHashCode_4 14 rfl rfl)
theorem dJ11_vectorizedHashCode_108 : decode cJ11_vectorizedHashCode 108 = .ok (.iload_n 1, 1) := dk_27 (dk_at dksJ11_vectorizedHashCode_4 18 rfl rfl)
theorem dJ11_vectorizedHashCode_109 : decode cJ11_vectorizedHashCode 109 = .ok (.iload_n 2, 1) := dk_28 (dk_at dksJ11_vectorizedHashCode_4 19 rfl rfl)
theorem dJ11_vectorizedHashCode_113 : decode cJ11_vectorizedHashCode 113 = .ok (.goto 44, 3) := dk_167 0 44 (dk_at dksJ11_vectorizedHashCode_5 0 rfl rfl)
theorem dJ11_vectorizedHashCode_116 : decode cJ11_vectorizedHashCode 116 = .ok (.iload_n 3, 1) := dk_29 (dk_at dksJ11_vectorizedHashCode_5 3 rfl rfl)
theorem dJ11_vectorizedHashCode_117 : decode cJ11_vectorizedHashCode 117 = .ok (.aload_n 0, 1) := dk_42 (dk_at dksJ11_vectorizedHashCode_5 4 rfl rfl)
theorem dJ11_vectorizedHashCode_118 : decode cJ11_vectorizedHashCode 118 = .ok (.checkcast 82, 3) := dk_192 0 82 (dk_at dksJ11_vectorizedHashCode_5 5 rfl rfl)
theorem dJ11_vectorizedHashCode_121 : decode cJ11_vectorizedHashCode 121 = .ok (.iload_n 1, 1) := dk_27 (dk_at dksJ11_vectorizedHashCode_5 8 rfl rfl)
theorem dJ11_vectorizedHashCode_122 : decode cJ11_vectorizedHashCode 122 = .ok (.iload_n 2, 1) := dk_28 (dk_at dksJ11_vectorizedHashCode_5 9 rfl rfl)
theorem dJ11_vectorizedHashCode_126 : decode cJ11_vectorizedHashCode 126 = .ok (.goto 31, 3) := dk_167 0 31 (dk_at dksJ11_vectorizedHashCode_5 13 rfl rfl)
theorem dJ11_vectorizedHashCode_132 : decode cJ11_vectorizedHashCode 132 = .ok (.dup, 1) := dk_89 (dk_at dksJ11_vectorizedHashCode_5 19 rfl rfl)
theorem dJ11_vectorizedHashCode_133 : decode cJ11_vectorizedHashCode 133 = .ok (.new 89, 3) := dk_187 0 89 (dk_at dksJ11_vectorizedHashCode_5 20 rfl rfl)
theorem dJ11_vectorizedHashCode_136 : decode cJ11_vectorizedHashCode 136 = .ok (.dup, 1) := dk_89 (dk_at dksJ11_vectorizedHashCode_5 23 rfl rfl)
theorem dJ11_vectorizedHashCode_137 : decode cJ11_vectorizedHashCode 137 = .ok (.invokespecial 91, 3) := dk_183 0 91 (dk_at dksJ11_vectorizedHashCode_6 0 rfl rfl)
theorem dJ11_vectorizedHashCode_145 : decode cJ11_vectorizedHashCode 145 = .ok (.iload 4, 2) := dk_21 4 (dk_at dksJ11_vectorizedHashCode_6 8 rfl rfl)
theorem dJ11_vectorizedHashCode_150 : decode cJ11_vectorizedHashCode 150 = .ok (.invokevirtual 101, 3) := dk_182 0 101 (dk_at dksJ11_vectorizedHashCode_6 13 rfl rfl)
theorem dJ11_vectorizedHashCode_157 : decode cJ11_vectorizedHashCode 157 = .ok (.ireturn, 1) := dk_172 (dk_at dksJ11_vectorizedHashCode_6 20 rfl rfl)
theorem c_3_0 : LkP (OkP 3) [(0, o_iload 4 2), (2, o_sw (swt 4 [44, 57, 129, 129, 90, 103, 116] 129)), (44, o_iload 3 1), (45, o_aload 0 1), (46, o_casta 1), (49, o_iload 1 1), (50, o_iload 2 1), (51, o_cs 4 4 false none), (54, o_goto 157), (57, o_aload 0 1), (61, o_if (fun x => decide (x = 0)) 77)] := lkp_c (P := OkP 3) ⟨(PuOK.ok (ok_iload dJ11_vectorizedHashCode_0)), m_iload⟩ (
  lkp_c (P := OkP 3) ⟨(PuOK.ok (ok_tsw dJ11_vectorizedHashCode_2 (by decide +kernel))), m_sw⟩ (
  lkp_c (P := OkP 3) ⟨(PuOK.ok (ok_iload_n dJ11_vectorizedHashCode_44 rfl)), m_iload⟩ (
  lkp_c (P := OkP 3) ⟨(PuOK.ok (ok_aload_n dJ11_vectorizedHashCode_45 rfl)), m_aload⟩ (
  lkp_c (P := OkP 3) ⟨ok_casta rfl q884 dJ11_vectorizedHashCode_46, m_casta⟩ (
  lkp_c (P := OkP 3) ⟨(PuOK.ok (ok_iload_n dJ11_vectorizedHashCode_49 rfl)), m_iload⟩ (
  lkp_c (P := OkP 3) ⟨(PuOK.ok (ok_iload_n dJ11_vectorizedHashCode_50 rfl)), m_iload⟩ (
  lkp_c (P := OkP 3) ⟨ok_cs (tg_S ⟨rfl, by decide⟩ q885 q886 q129 q887 ⟨cn_2.1, cn_2.2, pd_2⟩ dJ11_vectorizedHashCode_51) hd_no, m_cs⟩ (
  lkp_c (P := OkP 3) ⟨(PuOK.ok (ok_goto dJ11_vectorizedHashCode_54 rfl)), m_goto⟩ (
  lkp_c (P := OkP 3) ⟨(PuOK.ok (ok_aload_n dJ11_vectorizedHashCode_57 rfl)), m_aload⟩ (
  lkp_c (P := OkP 3) ⟨(PuOK.ok (ok_if_eq dJ11_vectorizedHashCode_61 rfl)), m_if⟩ (
  trivial)))))))))))
theorem c_3_1 : LkP (OkP 3) [(64, o_iload 3 1), (65, o_aload 0 1), (66, o_casta 1), (69, o_iload 1 1), (70, o_iload 2 1), (74, o_goto 157), (77, o_iload 3 1), (78, o_aload 0 1), (82, o_iload 1 1), (83, o_iload 2 1), (87, o_goto 157), (90, o_iload 3 1), (91, o_aload 0 1), (92, o_casta 1), (95, o_iload 1 1), (96, o_iload 2 1), (97, o_cs 5 4 false none), (100, o_goto 157), (103, o_iload 3 1), (104, o_aload 0 1), (108, o_iload 1 1), (109, o_iload 2 1), (113, o_goto 157), (116, o_iload 3 1), (117, o_aload 0 1), (118, o_casta 0), (121, o_iload 1 1), (122, o_iload 2 1), (126, o_goto 157)] := lkp_c (P := OkP 3) ⟨(PuOK.ok (ok_iload_n dJ11_vectorizedHashCode_64 rfl)), m_iload⟩ (
  lkp_c (P := OkP 3) ⟨(PuOK.ok (ok_aload_n dJ11_vectorizedHashCode_65 rfl)), m_aload⟩ (
  lkp_c (P := OkP 3) ⟨ok_casta rfl q884 dJ11_vectorizedHashCode_66, m_casta⟩ (
  lkp_c (P := OkP 3) ⟨(PuOK.ok (ok_iload_n dJ11_vectorizedHashCode_69 rfl)), m_iload⟩ (
  lkp_c (P := OkP 3) ⟨(PuOK.ok (ok_iload_n dJ11_vectorizedHashCode_70 rfl)), m_iload⟩ (
  lkp_c (P := OkP 3) ⟨(PuOK.ok (ok_goto dJ11_vectorizedHashCode_74 rfl)), m_goto⟩ (
  lkp_c (P := OkP 3) ⟨(PuOK.ok (ok_iload_n dJ11_vectorizedHashCode_77 rfl)), m_iload⟩ (
  lkp_c (P := OkP 3) ⟨(PuOK.ok (ok_aload_n dJ11_vectorizedHashCode_78 rfl)), m_aload⟩ (
  lkp_c (P := OkP 3) ⟨(PuOK.ok (ok_iload_n dJ11_vectorizedHashCode_82 rfl)), m_iload⟩ (
  lkp_c (P := OkP 3) ⟨(PuOK.ok (ok_iload_n dJ11_vectorizedHashCode_83 rfl)), m_iload⟩ (
  lkp_c (P := OkP 3) ⟨(PuOK.ok (ok_goto dJ11_vectorizedHashCode_87 rfl)), m_goto⟩ (
  lkp_c (P := OkP 3) ⟨(PuOK.ok (ok_iload_n dJ11_vectorizedHashCode_90 rfl)), m_iload⟩ (
  lkp_c (P := OkP 3) ⟨(PuOK.ok (ok_aload_n dJ11_vectorizedHashCode_91 rfl)), m_aload⟩ (
  lkp_c (P := OkP 3) ⟨ok_casta rfl q884 dJ11_vectorizedHashCode_92, m_casta⟩ (
  lkp_c (P := OkP 3) ⟨(PuOK.ok (ok_iload_n dJ11_vectorizedHashCode_95 rfl)), m_iload⟩ (
  lkp_c (P := OkP 3) ⟨(PuOK.ok (ok_iload_n dJ11_vectorizedHashCode_96 rfl)), m_iload⟩ (
  lkp_c (P := OkP 3) ⟨ok_cs (tg_S ⟨rfl, by decide⟩ q908 q909 q129 q910 ⟨cn_2.1, cn_2.2, pd_2⟩ dJ11_vectorizedHashCode_97) hd_no, m_cs⟩ (
  lkp_c (P := OkP 3) ⟨(PuOK.ok (ok_goto dJ11_vectorizedHashCode_100 rfl)), m_goto⟩ (
  lkp_c (P := OkP 3) ⟨(PuOK.ok (ok_iload_n dJ11_vectorizedHashCode_103 rfl)), m_iload⟩ (
  lkp_c (P := OkP 3) ⟨(PuOK.ok (ok_aload_n dJ11_vectorizedHashCode_104 rfl)), m_aload⟩ (
  lkp_c (P := OkP 3) ⟨(PuOK.ok (ok_iload_n dJ11_vectorizedHashCode_108 rfl)), m_iload⟩ (
  lkp_c (P := OkP 3) ⟨(PuOK.ok (ok_iload_n dJ11_vectorizedHashCode_109 rfl)), m_iload⟩ (
  lkp_c (P := OkP 3) ⟨(PuOK.ok (ok_goto dJ11_vectorizedHashCode_113 rfl)), m_goto⟩ (
  lkp_c (P := OkP 3) ⟨(PuOK.ok (ok_iload_n dJ11_vectorizedHashCode_116 rfl)), m_iload⟩ (
  lkp_c (P := OkP 3) ⟨(PuOK.ok (ok_aload_n dJ11_vectorizedHashCode_117 rfl)), m_aload⟩ (
  lkp_c (P := OkP 3) ⟨ok_casta rfl q915 dJ11_vectorizedHashCode_118, m_casta⟩ (
  lkp_c (P := OkP 3) ⟨(PuOK.ok (ok_iload_n dJ11_vectorizedHashCode_121 rfl)), m_iload⟩ (
  lkp_c (P := OkP 3) ⟨(PuOK.ok (ok_iload_n dJ11_vectorizedHashCode_122 rfl)), m_iload⟩ (
  lkp_c (P := OkP 3) ⟨(PuOK.ok (ok_goto dJ11_vectorizedHashCode_126 rfl)), m_goto⟩ (
  trivial)))))))))))))))))))))))))))))
theorem c_3_2 : LkP (OkP 3) [(132, o_dup), (133, o_new 4 4 dv4), (136, o_dup), (137, o_ci 111 0), (145, o_iload 4 2), (150, o_cv [(4, 112)] 0 3 false none), (157, o_ret 1)] := lkp_c (P := OkP 3) ⟨(PuOK.ok (ok_dup dJ11_vectorizedHashCode_132)), m_dup⟩ (
  lkp_c (P := OkP 3) ⟨ok_new (ci := 4) (r := CLr 4) rfl dvok_4 q920 q301 q126 dJ11_vectorizedHashCode_133, m_new⟩ (
  lkp_c (P := OkP 3) ⟨(PuOK.ok (ok_dup dJ11_vectorizedHashCode_136)), m_dup⟩ (
  lkp_c (P := OkP 3) ⟨ok_ci (tg_I (rt := none) ⟨rfl, by decide⟩ rfl q921 q303 q126 q304 ⟨cn_3.1, cn_3.2, pd_0⟩ dJ11_vectorizedHashCode_137) hd_no, m_ci⟩ (
  lkp_c (P := OkP 3) ⟨(PuOK.ok (ok_iload dJ11_vectorizedHashCode_145)), m_iload⟩ (
  lkp_c (P := OkP 3) ⟨ok_cv (List.forall_mem_cons.mpr ⟨tg_V (ci := 4) (r := CLr 4) (y := 112) rfl ⟨rfl, by decide⟩ rfl q925 q479 q480 q126 q481 ⟨cn_3.1, cn_3.2, pd_3⟩ dJ11_vectorizedHashCode_150, (List.forall_mem_nil _)⟩) hd_no, m_cv⟩ (
  lkp_c (P := OkP 3) ⟨ok_iret rfl rfl (by decide) dJ11_vectorizedHashCode_157, m_ret⟩ (
  trivial)))))))
theorem mt_3 : MtOK TB NT IT 3 := ⟨by decide +kernel, rfl, (fun h => by cases h), Or.inl ⟨rfl, rfl⟩, rfl, by decide, lk2_all (P := OkP 3) ⟨c_3_0, c_3_1, c_3_2, trivial⟩⟩
def dkwJ11_signedHashCode_1 : List UInt8 := [17, 0, 255, 126, 96, 59, 132, 5, 1, 167, 255, 232, 26, 172]
abbrev dktJ11_signedHashCode_1 : List UInt8 := dkwJ11_signedHashCode_1 ++ []
def dkwJ11_signedHashCode_0 : List UInt8 := [28, 29, 96, 54, 4, 28, 54, 5, 21, 5, 21, 4, 162, 0, 23, 16, 31, 26, 104, 43, 21, 5, 51]
abbrev dktJ11_signedHashCode_0 : List UInt8 := dkwJ11_signedHashCode_0 ++ dktJ11_signedHashCode_1
theorem dksJ11_signedHashCode_0 : cJ11_signedHashCode.data.toList.drop 0 = dktJ11_signedHashCode_0 := by decide +kernel
theorem dksJ11_signedHashCode_1 : cJ11_signedHashCode.data.toList.drop 23 = dktJ11_signedHashCode_1 := dk_seg dksJ11_signedHashCode_0 23 rfl rfl
theorem dJ11_signedHashCode_0 : decode cJ11_signedHashCode 0 = .ok (.iload_n 2, 1) := dk_28 (dk_at dksJ11_signedHashCode_0 0 rfl rfl)
theorem dJ11_signedHashCode_1 : decode cJ11_signedHashCode 1 = .ok (.iload_n 3, 1) := dk_29 (dk_at dksJ11_signedHashCode_0 1 rfl rfl)
theorem dJ11_signedHashCode_2 : decode cJ11_signedHashCode 2 = .ok (.iadd, 1) := dk_96 (dk_at dksJ11_signedHashCode_0 2 rfl rfl)
theorem dJ11_signedHashCode_3 : decode cJ11_signedHashCode 3 = .ok (.istore 4, 2) := dk_54 4 (dk_at dksJ11_signedHashCode_0 3 rfl rfl)
theorem dJ11_signedHashCode_5 : decode cJ11_signedHashCode 5 = .ok (.iload_n 2, 1) := dk_28 (dk_at dksJ11_signedHashCode_0 5 rfl rfl)
theorem dJ11_signedHashCode_6 : decode cJ11_signedHashCode 6 = .ok (.istore 5, 2) := dk_54 5 (dk_at dksJ11_signedHashCode_0 6 rfl rfl)
theorem dJ11_signedHashCode_8 : decode cJ11_signedHashCode 8 = .ok (.iload 5, 2) := dk_21 5 (dk_at dksJ11_signedHashCode_0 8 rfl rfl)
theorem dJ11_signedHashCode_10 : decode cJ11_signedHashCode 10 = .ok (.iload 4, 2) := dk_21 4 (dk_at dksJ11_signedHashCode_0 10 rfl rfl)
theorem dJ11_signedHashCode_12 : decode cJ11_signedHashCode 12 = .ok (.if_icmp .ge 23, 3) := dk_162 0 23 (dk_at dksJ11_signedHashCode_0 12 rfl rfl)
theorem dJ11_signedHashCode_15 : decode cJ11_signedHashCode 15 = .ok (.bipush 31, 2) := dk_16 31 (dk_at dksJ11_signedHashCode_0 15 rfl rfl)
theorem dJ11_signedHashCode_17 : decode cJ11_signedHashCode 17 = .ok (.iload_n 0, 1) := dk_26 (dk_at dksJ11_signedHashCode_0 17 rfl rfl)
theorem dJ11_signedHashCode_18 : decode cJ11_signedHashCode 18 = .ok (.imul, 1) := dk_104 (dk_at dksJ11_signedHashCode_0 18 rfl rfl)
theorem dJ11_signedHashCode_19 : decode cJ11_signedHashCode 19 = .ok (.aload_n 1, 1) := dk_43 (dk_at dksJ11_signedHashCode_0 19 rfl rfl)
theorem dJ11_signedHashCode_20 : decode cJ11_signedHashCode 20 = .ok (.iload 5, 2) := dk_21 5 (dk_at dksJ11_signedHashCode_0 20 rfl rfl)
theorem dJ11_signedHashCode_22 : decode cJ11_signedHashCode 22 = .ok (.baload, 1) := dk_51 (dk_at dksJ11_signedHashCode_0 22 rfl rfl)
theorem dJ11_signedHashCode_23 : decode cJ11_signedHashCode 23 = .ok (.sipush 255, 3) := dk_17 0 255 (dk_at dksJ11_signedHashCode_1 0 rfl rfl)
theorem dJ11_signedHashCode_26 : decode cJ11_signedHashCode 26 = .ok (.iand, 1) := dk_126 (dk_at dksJ11_signedHashCode_1 3 rfl rfl)
theorem dJ11_signedHashCode_27 : decode cJ11_signedHashCode 27 = .ok (.iadd, 1) := dk_96 (dk_at dksJ11_signedHashCode_1 4 rfl rfl)
theorem dJ11_signedHashCode_28 : decode cJ11_signedHashCode 28 = .ok (.istore_n 0, 1) := dk_59 (dk_at dksJ11_signedHashCode_1 5 rfl rfl)
theorem dJ11_signedHashCode_29 : decode cJ11_signedHashCode 29 = .ok (.iinc 5 1, 3) := dk_132 5 1 (dk_at dksJ11_signedHashCode_1 6 rfl rfl)
theorem dJ11_signedHashCode_32 : decode cJ11_signedHashCode 32 = .ok (.goto (-24), 3) := dk_167 255 232 (dk_at dksJ11_signedHashCode_1 9 rfl rfl)
theorem dJ11_signedHashCode_35 : decode cJ11_signedHashCode 35 = .ok (.iload_n 0, 1) := dk_26 (dk_at dksJ11_signedHashCode_1 12 rfl rfl)
theorem dJ11_signedHashCode_36 : decode cJ11_signedHashCode 36 = .ok (.ireturn, 1) := dk_172 (dk_at dksJ11_signedHashCode_1 13 rfl rfl)
theorem c_4_0 : LkP (OkP 4) [(0, o_iload 2 1), (1, o_iload 3 1), (2, o_iop (fun x y => x + y)), (3, o_istore 4 2), (5, o_iload 2 1), (6, o_istore 5 2), (8, o_iload 5 2), (10, o_iload 4 2), (12, o_icmp (fun x y => decide (y ≤ x)) 35), (15, o_push 2 (.int 31)), (17, o_iload 0 1), (18, o_iop (fun x y => x * y)), (19, o_aload 1 1), (20, o_iload 5 2), (22, o_rdIs 1), (23, o_push 3 (.int 255)), (26, o_iop (fun x y => x &&& y)), (27, o_iop (fun x y => x + y)), (28, o_istore 0 1), (29, o_iinc 5 1), (32, o_goto 8), (35, o_iload 0 1), (36, o_ret 1)] := lkp_c (P := OkP 4) ⟨(PuOK.ok (ok_iload_n dJ11_signedHashCode_0 rfl)), m_iload⟩ (
  lkp_c (P := OkP 4) ⟨(PuOK.ok (ok_iload_n dJ11_signedHashCode_1 rfl)), m_iload⟩ (
  lkp_c (P := OkP 4) ⟨(PuOK.ok (ok_iadd dJ11_signedHashCode_2)), m_iop⟩ (
  lkp_c (P := OkP 4) ⟨(PuOK.ok (ok_istore dJ11_signedHashCode_3)), m_istore⟩ (
  lkp_c (P := OkP 4) ⟨(PuOK.ok (ok_iload_n dJ11_signedHashCode_5 rfl)), m_iload⟩ (
  lkp_c (P := OkP 4) ⟨(PuOK.ok (ok_istore dJ11_signedHashCode_6)), m_istore⟩ (
  lkp_c (P := OkP 4) ⟨(PuOK.ok (ok_iload dJ11_signedHashCode_8)), m_iload⟩ (
  lkp_c (P := OkP 4) ⟨(PuOK.ok (ok_iload dJ11_signedHashCode_10)), m_iload⟩ (
  lkp_c (P := OkP 4) ⟨(PuOK.ok (ok_icmp_ge dJ11_signedHashCode_12 rfl)), m_icmp⟩ (
  lkp_c (P := OkP 4) ⟨(PuOK.ok (ok_bipush dJ11_signedHashCode_15 rfl)), m_push⟩ (
  lkp_c (P := OkP 4) ⟨(PuOK.ok (ok_iload_n dJ11_signedHashCode_17 rfl)), m_iload⟩ (
  lkp_c (P := OkP 4) ⟨(PuOK.ok (ok_imul dJ11_signedHashCode_18)), m_iop⟩ (
  lkp_c (P := OkP 4) ⟨(PuOK.ok (ok_aload_n dJ11_signedHashCode_19 rfl)), m_aload⟩ (
  lkp_c (P := OkP 4) ⟨(PuOK.ok (ok_iload dJ11_signedHashCode_20)), m_iload⟩ (
  lkp_c (P := OkP 4) ⟨ok_balds dJ11_signedHashCode_22, m_rdIs⟩ (
  lkp_c (P := OkP 4) ⟨(PuOK.ok (ok_sipush dJ11_signedHashCode_23 rfl)), m_push⟩ (
  lkp_c (P := OkP 4) ⟨(PuOK.ok (ok_iand dJ11_signedHashCode_26)), m_iop⟩ (
  lkp_c (P := OkP 4) ⟨(PuOK.ok (ok_iadd dJ11_signedHashCode_27)), m_iop⟩ (
  lkp_c (P := OkP 4) ⟨(PuOK.ok (ok_istore_n dJ11_signedHashCode_28 rfl)), m_istore⟩ (
  lkp_c (P := OkP 4) ⟨(PuOK.ok (ok_iinc dJ11_signedHashCode_29 rfl)), m_iinc⟩ (
  lkp_c (P := OkP 4) ⟨(PuOK.ok (ok_goto dJ11_signedHashCode_32 rfl)), m_goto⟩ (
  lkp_c (P := OkP 4) ⟨(PuOK.ok (ok_iload_n dJ11_signedHashCode_35 rfl)), m_iload⟩ (
  lkp_c (P := OkP 4) ⟨ok_iret rfl rfl (by decide) dJ11_signedHashCode_36, m_ret⟩ (
  trivial)))))))))))))))))))))))
theorem mt_4 : MtOK TB NT IT 4 := ⟨by decide +kernel, rfl, (fun h => by cases h), Or.inl ⟨rfl, rfl⟩, rfl, by decide, lk2_all (P := OkP 4) ⟨c_4_0, trivial⟩⟩
def dkwJ11_hashCode_2_1 : List UInt8 := [59, 132, 5, 1, 167, 255, 236, 26, 172]
abbrev dktJ11_hashCode_2_1 : List UInt8 := dkwJ11_hashCode_2_1 ++ []
def dkwJ11_hashCode_2_0 : List UInt8 := [28, 29, 96, 54, 4, 28, 54, 5, 21, 5, 21, 4, 162, 0, 19, 16, 31, 26, 104, 43, 21, 5, 51, 96]
abbrev dktJ11_hashCode_2_0 : List UInt8 := dkwJ11_hashCode_2_0 ++ dktJ11_hashCode_2_1
theorem dksJ11_hashCode_2_0 : cJ11_hashCode_2.data.toList.drop 0 = dktJ11_hashCode_2_0 := by decide +kernel
theorem dksJ11_hashCode_2_1 : cJ11_hashCode_2.data.toList.drop 24 = dktJ11_hashCode_2_1 := dk_seg dksJ11_hashCode_2_0 24 rfl rfl
theorem dJ11_hashCode_2_0 : decode cJ11_hashCode_2 0 = .ok (.iload_n 2, 1) := dk_28 (dk_at dksJ11_hashCode_2_0 0 rfl rfl)
theorem dJ11_hashCode_2_1 : decode cJ11_hashCode_2 1 = .ok (.iload_n 3, 1) := dk_29 (dk_at dksJ11_hashCode_2_0 1 rfl rfl)
theorem dJ11_hashCode_2_2 : decode cJ11_hashCode_2 2 = .ok (.iadd, 1) := dk_96 (dk_at dksJ11_hashCode_2_0 2 rfl rfl)
theorem dJ11_hashCode_2_3 : decode cJ11_hashCode_2 3 = .ok (.istore 4, 2) := dk_54 4 (dk_at dksJ11_hashCode_2_0 3 rfl rfl)
theorem dJ11_hashCode_2_5 : decode cJ11_hashCode_2 5 = .ok (.iload_n 2, 1) := dk_28 (dk_at dksJ11_hashCode_2_0 5 rfl rfl)
theorem dJ11_hashCode_2_6 : decode cJ11_hashCode_2 6 = .ok (.istore 5, 2) := dk_54 5 (dk_at dksJ11_hashCode_2_0 6 rfl rfl)
theorem dJ11_hashCode_2_8 : decode cJ11_hashCode_2 8 = .ok (.iload 5, 2) := dk_21 5 (dk_at dksJ11_hashCode_2_0 8 rfl rfl)
theorem dJ11_hashCode_2_10 : decode cJ11_hashCode_2 10 = .ok (.iload 4, 2) := dk_21 4 (dk_at dksJ11_hashCode_2_0 10 rfl rfl)
theorem dJ11_hashCode_2_12 : decode cJ11_hashCode_2 12 = .ok (.if_icmp .ge 19, 3) := dk_162 0 19 (dk_at dksJ11_hashCode_2_0 12 rfl rfl)
theorem dJ11_hashCode_2_15 : decode cJ11_hashCode_2 15 = .ok (.bipush 31, 2) := dk_16 31 (dk_at dksJ11_hashCode_2_0 15 rfl rfl)
theorem dJ11_hashCode_2_17 : decode cJ11_hashCode_2 17 = .ok (.iload_n 0, 1) := dk_26 (dk_at dksJ11_hashCode_2_0 17 rfl rfl)
theorem dJ11_hashCode_2_18 : decode cJ11_hashCode_2 18 = .ok (.imul, 1) := dk_104 (dk_at dksJ11_hashCode_2_0 18 rfl rfl)
theorem dJ11_hashCode_2_19 : decode cJ11_hashCode_2 19 = .ok (.aload_n 1, 1) := dk_43 (dk_at dksJ11_hashCode_2_0 19 rfl rfl)
theorem dJ11_hashCode_2_20 : decode cJ11_hashCode_2 20 = .ok (.iload 5, 2) := dk_21 5 (dk_at dksJ11_hashCode_2_0 20 rfl rfl)
theorem dJ11_hashCode_2_22 : decode cJ11_hashCode_2 22 = .ok (.baload, 1) := dk_51 (dk_at dksJ11_hashCode_2_0 22 rfl rfl)
theorem dJ11_hashCode_2_23 : decode cJ11_hashCode_2 23 = .ok (.iadd, 1) := dk_96 (dk_at dksJ11_hashCode_2_0 23 rfl rfl)
theorem dJ11_hashCode_2_24 : decode cJ11_hashCode_2 24 = .ok (.istore_n 0, 1) := dk_59 (dk_at dksJ11_hashCode_2_1 0 rfl rfl)
theorem dJ11_hashCode_2_25 : decode cJ11_hashCode_2 25 = .ok (.iinc 5 1, 3) := dk_132 5 1 (dk_at dksJ11_hashCode_2_1 1 rfl rfl)
theorem dJ11_hashCode_2_28 : decode cJ11_hashCode_2 28 = .ok (.goto (-20), 3) := dk_167 255 236 (dk_at dksJ11_hashCode_2_1 4 rfl rfl)
theorem dJ11_hashCode_2_31 : decode cJ11_hashCode_2 31 = .ok (.iload_n 0, 1) := dk_26 (dk_at dksJ11_hashCode_2_1 7 rfl rfl)
theorem dJ11_hashCode_2_32 : decode cJ11_hashCode_2 32 = .ok (.ireturn, 1) := dk_172 (dk_at dksJ11_hashCode_2_1 8 rfl rfl)
theorem c_5_0 : LkP (OkP 5) [(0, o_iload 2 1), (1, o_iload 3 1), (2, o_iop (fun x y => x + y)), (3, o_istore 4 2), (5, o_iload 2 1), (6, o_istore 5 2), (8, o_iload 5 2), (10, o_iload 4 2), (12, o_icmp (fun x y => decide (y ≤ x)) 31), (15, o_push 2 (.int 31)), (17, o_iload 0 1), (18, o_iop (fun x y => x * y)), (19, o_aload 1 1), (20, o_iload 5 2), (22, o_rdIs 1), (23, o_iop (fun x y => x + y)), (24, o_istore 0 1), (25, o_iinc 5 1), (28, o_goto 8), (31, o_iload 0 1), (32, o_ret 1)] := lkp_c (P := OkP 5) ⟨(PuOK.ok (ok_iload_n dJ11_hashCode_2_0 rfl)), m_iload⟩ (
  lkp_c (P := OkP 5) ⟨(PuOK.ok (ok_iload_n dJ11_hashCode_2_1 rfl)), m_iload⟩ (
  lkp_c (P := OkP 5) ⟨(PuOK.ok (ok_iadd dJ11_hashCode_2_2)), m_iop⟩ (
  lkp_c (P := OkP 5) ⟨(PuOK.ok (ok_istore dJ11_hashCode_2_3)), m_istore⟩ (
  lkp_c (P := OkP 5) ⟨(PuOK.ok (ok_iload_n dJ11_hashCode_2_5 rfl)), m_iload⟩ (
  lkp_c (P := OkP 5) ⟨(PuOK.ok (ok_istore dJ11_hashCode_2_6)), m_istore⟩ (
  lkp_c (P := OkP 5) ⟨(PuOK.ok (ok_iload dJ11_hashCode_2_8)), m_iload⟩ (
  lkp_c (P := OkP 5) ⟨(PuOK.ok (ok_iload dJ11_hashCode_2_10)), m_iload⟩ (
  lkp_c (P := OkP 5) ⟨(PuOK.ok (ok_icmp_ge dJ11_hashCode_2_12 rfl)), m_icmp⟩ (
  lkp_c (P := OkP 5) ⟨(PuOK.ok (ok_bipush dJ11_hashCode_2_15 rfl)), m_push⟩ (
  lkp_c (P := OkP 5) ⟨(PuOK.ok (ok_iload_n dJ11_hashCode_2_17 rfl)), m_iload⟩ (
  lkp_c (P := OkP 5) ⟨(PuOK.ok (ok_imul dJ11_hashCode_2_18)), m_iop⟩ (
  lkp_c (P := OkP 5) ⟨(PuOK.ok (ok_aload_n dJ11_hashCode_2_19 rfl)), m_aload⟩ (
  lkp_c (P := OkP 5) ⟨(PuOK.ok (ok_iload dJ11_hashCode_2_20)), m_iload⟩ (
  lkp_c (P := OkP 5) ⟨ok_balds dJ11_hashCode_2_22, m_rdIs⟩ (
  lkp_c (P := OkP 5) ⟨(PuOK.ok (ok_iadd dJ11_hashCode_2_23)), m_iop⟩ (
  lkp_c (P := OkP 5) ⟨(PuOK.ok (ok_istore_n dJ11_hashCode_2_24 rfl)), m_istore⟩ (
  lkp_c (P := OkP 5) ⟨(PuOK.ok (ok_iinc dJ11_hashCode_2_25 rfl)), m_iinc⟩ (
  lkp_c (P := OkP 5) ⟨(PuOK.ok (ok_goto dJ11_hashCode_2_28 rfl)), m_goto⟩ (
  lkp_c (P := OkP 5) ⟨(PuOK.ok (ok_iload_n dJ11_hashCode_2_31 rfl)), m_iload⟩ (
  lkp_c (P := OkP 5) ⟨ok_iret rfl rfl (by decide) dJ11_hashCode_2_32, m_ret⟩ (
  trivial)))))))))))))))))))))
theorem mt_5 : MtOK TB NT IT 5 := ⟨by decide +kernel, rfl, (fun h => by cases h), Or.inl ⟨rfl, rfl⟩, rfl, by decide, lk2_all (P := OkP 5) ⟨c_5_0, trivial⟩⟩
def dkwJ12_max_0 : List UInt8 := [26, 27, 161, 0, 7, 26, 167, 0, 4, 27, 172]
abbrev dktJ12_max_0 : List UInt8 := dkwJ12_max_0 ++ []
theorem dksJ12_max_0 : cJ12_max.data.toList.drop 0 = dktJ12_max_0 := by decide +kernel
theorem dJ12_max_0 : decode cJ12_max 0 = .ok (.iload_n 0, 1) := dk_26 (dk_at dksJ12_max_0 0 rfl rfl)
theorem dJ12_max_1 : decode cJ12_max 1 = .ok (.iload_n 1, 1) := dk_27 (dk_at dksJ12_max_0 1 rfl rfl)
theorem dJ12_max_2 : decode cJ12_max 2 = .ok (.if_icmp .lt 7, 3) := dk_161 0 7 (dk_at dksJ12_max_0 2 rfl rfl)
theorem dJ12_max_5 : decode cJ12_max 5 = .ok (.iload_n 0, 1) := dk_26 (dk_at dksJ12_max_0 5 rfl rfl)
theorem dJ12_max_6 : decode cJ12_max 6 = .ok (.goto 4, 3) := dk_167 0 4 (dk_at dksJ12_max_0 6 rfl rfl)
theorem dJ12_max_9 : decode cJ12_max 9 = .ok (.iload_n 1, 1) := dk_27 (dk_at dksJ12_max_0 9 rfl rfl)
theorem dJ12_max_10 : decode cJ12_max 10 = .ok (.ireturn, 1) := dk_172 (dk_at dksJ12_max_0 10 rfl rfl)
theorem c_6_0 : LkP (OkP 6) [(0, o_iload 0 1), (1, o_iload 1 1), (2, o_icmp (fun x y => decide (x < y)) 9), (5, o_iload 0 1), (6, o_goto 10), (9, o_iload 1 1), (10, o_ret 1)] := lkp_c (P := OkP 6) ⟨(PuOK.ok (ok_iload_n dJ12_max_0 rfl)), m_iload⟩ (
  lkp_c (P := OkP 6) ⟨(PuOK.ok (ok_iload_n dJ12_max_1 rfl)), m_iload⟩ (
  lkp_c (P := OkP 6) ⟨(PuOK.ok (ok_icmp_lt dJ12_max_2 rfl)), m_icmp⟩ (
  lkp_c (P := OkP 6) ⟨(PuOK.ok (ok_iload_n dJ12_max_5 rfl)), m_iload⟩ (
  lkp_c (P := OkP 6) ⟨(PuOK.ok (ok_goto dJ12_max_6 rfl)), m_goto⟩ (
  lkp_c (P := OkP 6) ⟨(PuOK.ok (ok_iload_n dJ12_max_9 rfl)), m_iload⟩ (
  lkp_c (P := OkP 6) ⟨ok_iret rfl rfl (by decide) dJ12_max_10, m_ret⟩ (
  trivial)))))))
theorem mt_6 : MtOK TB NT IT 6 := ⟨by decide +kernel, rfl, (fun h => by cases h), Or.inl ⟨rfl, rfl⟩, rfl, by decide, lk2_all (P := OkP 6) ⟨c_6_0, trivial⟩⟩
def dkwJ12_min_0 : List UInt8 := [26, 27, 163, 0, 7, 26, 167, 0, 4, 27, 172]
abbrev dktJ12_min_0 : List UInt8 := dkwJ12_min_0 ++ []
theorem dksJ12_min_0 : cJ12_min.data.toList.drop 0 = dktJ12_min_0 := by decide +kernel
theorem dJ12_min_0 : decode cJ12_min 0 = .ok (.iload_n 0, 1) := dk_26 (dk_at dksJ12_min_0 0 rfl rfl)
theorem dJ12_min_1 : decode cJ12_min 1 = .ok (.iload_n 1, 1) := dk_27 (dk_at dksJ12_min_0 1 rfl rfl)
theorem dJ12_min_2 : decode cJ12_min 2 = .ok (.if_icmp .gt 7, 3) := dk_163 0 7 (dk_at dksJ12_min_0 2 rfl rfl)
theorem dJ12_min_5 : decode cJ12_min 5 = .ok (.iload_n 0, 1) := dk_26 (dk_at dksJ12_min_0 5 rfl rfl)
theorem dJ12_min_6 : decode cJ12_min 6 = .ok (.goto 4, 3) := dk_167 0 4 (dk_at dksJ12_min_0 6 rfl rfl)
theorem dJ12_min_9 : decode cJ12_min 9 = .ok (.iload_n 1, 1) := dk_27 (dk_at dksJ12_min_0 9 rfl rfl)
theorem dJ12_min_10 : decode cJ12_min 10 = .ok (.ireturn, 1) := dk_172 (dk_at dksJ12_min_0 10 rfl rfl)
theorem c_7_0 : LkP (OkP 7) [(0, o_iload 0 1), (1, o_iload 1 1), (2, o_icmp (fun x y => decide (y < x)) 9), (5, o_iload 0 1), (6, o_goto 10), (9, o_iload 1 1), (10, o_ret 1)] := lkp_c (P := OkP 7) ⟨(PuOK.ok (ok_iload_n dJ12_min_0 rfl)), m_iload⟩ (
  lkp_c (P := OkP 7) ⟨(PuOK.ok (ok_iload_n dJ12_min_1 rfl)), m_iload⟩ (
  lkp_c (P := OkP 7) ⟨(PuOK.ok (ok_icmp_gt dJ12_min_2 rfl)), m_icmp⟩ (
  lkp_c (P := OkP 7) ⟨(PuOK.ok (ok_iload_n dJ12_min_5 rfl)), m_iload⟩ (
  lkp_c (P := OkP 7) ⟨(PuOK.ok (ok_goto dJ12_min_6 rfl)), m_goto⟩ (
  lkp_c (P := OkP 7) ⟨(PuOK.ok (ok_iload_n dJ12_min_9 rfl)), m_iload⟩ (
  lkp_c (P := OkP 7) ⟨ok_iret rfl rfl (by decide) dJ12_min_10, m_ret⟩ (
  trivial)))))))
theorem mt_7 : MtOK TB NT IT 7 := ⟨by decide +kernel, rfl, (fun h => by cases h), Or.inl ⟨rfl, rfl⟩, rfl, by decide, lk2_all (P := OkP 7) ⟨c_7_0, trivial⟩⟩
def dkwJ12_abs_0 : List UInt8 := [26, 156, 0, 8, 26, 116, 167, 0, 4, 26, 172]
abbrev dktJ12_abs_0 : List UInt8 := dkwJ12_abs_0 ++ []
theorem dksJ12_abs_0 : cJ12_abs.data.toList.drop 0 = dktJ12_abs_0 := by decide +kernel
theorem dJ12_abs_0 : decode cJ12_abs 0 = .ok (.iload_n 0, 1) := dk_26 (dk_at dksJ12_abs_0 0 rfl rfl)
theorem dJ12_abs_1 : decode cJ12_abs 1 = .ok (.ifCond .ge 8, 3) := dk_156 0 8 (dk_at dksJ12_abs_0 1 rfl rfl)
theorem dJ12_abs_4 : decode cJ12_abs 4 = .ok (.iload_n 0, 1) := dk_26 (dk_at dksJ12_abs_0 4 rfl rfl)
theorem dJ12_abs_5 : decode cJ12_abs 5 = .ok (.ineg, 1) := dk_116 (dk_at dksJ12_abs_0 5 rfl rfl)
theorem dJ12_abs_6 : decode cJ12_abs 6 = .ok (.goto 4, 3) := dk_167 0 4 (dk_at dksJ12_abs_0 6 rfl rfl)
theorem dJ12_abs_9 : decode cJ12_abs 9 = .ok (.iload_n 0, 1) := dk_26 (dk_at dksJ12_abs_0 9 rfl rfl)
theorem dJ12_abs_10 : decode cJ12_abs 10 = .ok (.ireturn, 1) := dk_172 (dk_at dksJ12_abs_0 10 rfl rfl)
theorem c_8_0 : LkP (OkP 8) [(0, o_iload 0 1), (1, o_if (fun x => decide (0 ≤ x)) 9), (4, o_iload 0 1), (5, o_ii (fun x => -x)), (6, o_goto 10), (9, o_iload 0 1), (10, o_ret 1)] := lkp_c (P := OkP 8) ⟨(PuOK.ok (ok_iload_n dJ12_abs_0 rfl)), m_iload⟩ (
  lkp_c (P := OkP 8) ⟨(PuOK.ok (ok_if_ge dJ12_abs_1 rfl)), m_if⟩ (
  lkp_c (P := OkP 8) ⟨(PuOK.ok (ok_iload_n dJ12_abs_4 rfl)), m_iload⟩ (
  lkp_c (P := OkP 8) ⟨(PuOK.ok (ok_ineg dJ12_abs_5)), m_ii⟩ (
  lkp_c (P := OkP 8) ⟨(PuOK.ok (ok_goto dJ12_abs_6 rfl)), m_goto⟩ (
  lkp_c (P := OkP 8) ⟨(PuOK.ok (ok_iload_n dJ12_abs_9 rfl)), m_iload⟩ (
  lkp_c (P := OkP 8) ⟨ok_iret rfl rfl (by decide) dJ12_abs_10, m_ret⟩ (
  trivial)))))))
theorem mt_8 : MtOK TB NT IT 8 := ⟨by decide +kernel, rfl, (fun h => by cases h), Or.inl ⟨rfl, rfl⟩, rfl, by decide, lk2_all (P := OkP 8) ⟨c_8_0, trivial⟩⟩
def dkwJ13_copyOf_1 : List UInt8 := [27, 184, 1, 48, 184, 0, 150, 44, 176]
abbrev dktJ13_copyOf_1 : List UInt8 := dkwJ13_copyOf_1 ++ []
def dkwJ13_copyOf_0 : List UInt8 := [27, 42, 190, 160, 0, 11, 42, 182, 1, 54, 192, 1, 55, 176, 27, 188, 8, 77, 42, 3, 44, 3, 42, 190]
abbrev dktJ13_copyOf_0 : List UInt8 := dkwJ13_copyOf_0 ++ dktJ13_copyOf_1
theorem dksJ13_copyOf_0 : cJ13_copyOf.data.toList.drop 0 = dktJ13_copyOf_0 := by decide +kernel
theorem dksJ13_copyOf_1 : cJ13_copyOf.data.toList.drop 24 = dktJ13_copyOf_1 := dk_seg dksJ13_copyOf_0 24 rfl rfl
theorem dJ13_copyOf_0 : decode cJ13_copyOf 0 = .ok (.iload_n 1, 1) := dk_27 (dk_at dksJ13_copyOf_0 0 rfl rfl)
theorem dJ13_copyOf_1 : decode cJ13_copyOf 1 = .ok (.aload_n 0, 1) := dk_42 (dk_at dksJ13_copyOf_0 1 rfl rfl)
theorem dJ13_copyOf_2 : decode cJ13_copyOf 2 = .ok (.arraylength, 1) := dk_190 (dk_at dksJ13_copyOf_0 2 rfl rfl)
theorem dJ13_copyOf_3 : decode cJ13_copyOf 3 = .ok (.if_icmp .ne 11, 3) := dk_160 0 11 (dk_at dksJ13_copyOf_0 3 rfl rfl)
theorem dJ13_copyOf_6 : decode cJ13_copyOf 6 = .ok (.aload_n 0, 1) := dk_42 (dk_at dksJ13_copyOf_0 6 rfl rfl)
theorem dJ13_copyOf_7 : decode cJ13_copyOf 7 = .ok (.invokevirtual 310, 3) := dk_182 1 54 (dk_at dksJ13_copyOf_0 7 rfl rfl)
theorem dJ13_copyOf_10 : decode cJ13_copyOf 10 = .ok (.checkcast 311, 3) := dk_192 1 55 (dk_at dksJ13_copyOf_0 10 rfl rfl)
theorem dJ13_copyOf_13 : decode cJ13_copyOf 13 = .ok (.areturn, 1) := dk_176 (dk_at dksJ13_copyOf_0 13 rfl rfl)
theorem dJ13_copyOf_14 : decode cJ13_copyOf 14 = .ok (.iload_n 1, 1) := dk_27 (dk_at dksJ13_copyOf_0 14 rfl rfl)
theorem dJ13_copyOf_15 : decode cJ13_copyOf 15 = .ok (.newarray .byte, 2) := dk_188_8 (dk_at dksJ13_copyOf_0 15 rfl rfl)
theorem dJ13_copyOf_17 : decode cJ13_copyOf 17 = .ok (.astore_n 2, 1) := dk_77 (dk_at dksJ13_copyOf_0 17 rfl rfl)
theorem dJ13_copyOf_18 : decode cJ13_copyOf 18 = .ok (.aload_n 0, 1) := dk_42 (dk_at dksJ13_copyOf_0 18 rfl rfl)
theorem dJ13_copyOf_19 : decode cJ13_copyOf 19 = .ok (.iconst 0, 1) := dk_3 (dk_at dksJ13_copyOf_0 19 rfl rfl)
theorem dJ13_copyOf_20 : decode cJ13_copyOf 20 = .ok (.aload_n 2, 1) := dk_44 (dk_at dksJ13_copyOf_0 20 rfl rfl)
theorem dJ13_copyOf_21 : decode cJ13_copyOf 21 = .ok (.iconst 0, 1) := dk_3 (dk_at dksJ13_copyOf_0 21 rfl rfl)
theorem dJ13_copyOf_22 : decode cJ13_copyOf 22 = .ok (.aload_n 0, 1) := dk_42 (dk_at dksJ13_copyOf_0 22 rfl rfl)
theorem dJ13_copyOf_23 : decode cJ13_copyOf 23 = .ok (.arraylength, 1) := dk_190 (dk_at dksJ13_copyOf_0 23 rfl rfl)
theorem dJ13_copyOf_24 : decode cJ13_copyOf 24 = .ok (.iload_n 1, 1) := dk_27 (dk_at dksJ13_copyOf_1 0 rfl rfl)
theorem dJ13_copyOf_25 : decode cJ13_copyOf 25 = .ok (.invokestatic 304, 3) := dk_184 1 48 (dk_at dksJ13_copyOf_1 1 rfl rfl)
theorem dJ13_copyOf_28 : decode cJ13_copyOf 28 = .ok (.invokestatic 150, 3) := dk_184 0 150 (dk_at dksJ13_copyOf_1 4 rfl rfl)
theorem dJ13_copyOf_31 : decode cJ13_copyOf 31 = .ok (.aload_n 2, 1) := dk_44 (dk_at dksJ13_copyOf_1 7 rfl rfl)
theorem dJ13_copyOf_32 : decode cJ13_copyOf 32 = .ok (.areturn, 1) := dk_176 (dk_at dksJ13_copyOf_1 8 rfl rfl)
theorem c_9_0 : LkP (OkP 9) [(0, o_iload 1 1), (1, o_aload 0 1), (2, o_alen), (3, o_icmp (fun x y => decide (¬ x = y)) 14), (6, o_aload 0 1), (7, o_clnb), (10, o_casta 1), (13, o_ret 0), (14, o_iload 1 1), (15, o_newa 1 2), (17, o_astore 2 1), (18, o_aload 0 1), (19, o_push 1 (.int 0)), (20, o_aload 2 1), (21, o_push 1 (.int 0)), (22, o_aload 0 1), (23, o_alen), (24, o_iload 1 1), (25, o_cs 7 2 false none), (28, o_cpI 1), (31, o_aload 2 1), (32, o_ret 0)] := lkp_c (P := OkP 9) ⟨(PuOK.ok (ok_iload_n dJ13_copyOf_0 rfl)), m_iload⟩ (
  lkp_c (P := OkP 9) ⟨(PuOK.ok (ok_aload_n dJ13_copyOf_1 rfl)), m_aload⟩ (
  lkp_c (P := OkP 9) ⟨ok_alen dJ13_copyOf_2, m_alen⟩ (
  lkp_c (P := OkP 9) ⟨(PuOK.ok (ok_icmp_ne dJ13_copyOf_3 rfl)), m_icmp⟩ (
  lkp_c (P := OkP 9) ⟨(PuOK.ok (ok_aload_n dJ13_copyOf_6 rfl)), m_aload⟩ (
  lkp_c (P := OkP 9) ⟨ok_clnb rfl q366 q367 q368 q369 q370 q371 dJ13_copyOf_7, m_clnb⟩ (
  lkp_c (P := OkP 9) ⟨ok_casta rfl q372 dJ13_copyOf_10, m_casta⟩ (
  lkp_c (P := OkP 9) ⟨ok_aret rfl (Or.inr ⟨_, rfl⟩) dJ13_copyOf_13, m_ret⟩ (
  lkp_c (P := OkP 9) ⟨(PuOK.ok (ok_iload_n dJ13_copyOf_14 rfl)), m_iload⟩ (
  lkp_c (P := OkP 9) ⟨ok_newa (by decide) rfl q331 dJ13_copyOf_15, m_newa⟩ (
  lkp_c (P := OkP 9) ⟨(PuOK.ok (ok_astore_n dJ13_copyOf_17 rfl)), m_astore⟩ (
  lkp_c (P := OkP 9) ⟨(PuOK.ok (ok_aload_n dJ13_copyOf_18 rfl)), m_aload⟩ (
  lkp_c (P := OkP 9) ⟨(PuOK.ok (ok_iconst dJ13_copyOf_19 rfl)), m_push⟩ (
  lkp_c (P := OkP 9) ⟨(PuOK.ok (ok_aload_n dJ13_copyOf_20 rfl)), m_aload⟩ (
  lkp_c (P := OkP 9) ⟨(PuOK.ok (ok_iconst dJ13_copyOf_21 rfl)), m_push⟩ (
  lkp_c (P := OkP 9) ⟨(PuOK.ok (ok_aload_n dJ13_copyOf_22 rfl)), m_aload⟩ (
  lkp_c (P := OkP 9) ⟨ok_alen dJ13_copyOf_23, m_alen⟩ (
  lkp_c (P := OkP 9) ⟨(PuOK.ok (ok_iload_n dJ13_copyOf_24 rfl)), m_iload⟩ (
  lkp_c (P := OkP 9) ⟨ok_cs (tg_S ⟨rfl, by decide⟩ q373 q374 q130 q375 ⟨cn_1.1, cn_1.2, pd_1⟩ dJ13_copyOf_25) hd_no, m_cs⟩ (
  lkp_c (P := OkP 9) ⟨ok_cpI (by decide) q376 q378 q377 q132 dJ13_copyOf_28, m_cpI⟩ (
  lkp_c (P := OkP 9) ⟨(PuOK.ok (ok_aload_n dJ13_copyOf_31 rfl)), m_aload⟩ (
  lkp_c (P := OkP 9) ⟨ok_aret rfl (Or.inr ⟨_, rfl⟩) dJ13_copyOf_32, m_ret⟩ (
  trivial))))))))))))))))))))))
theorem mt_9 : MtOK TB NT IT 9 := ⟨by decide +kernel, rfl, (fun h => by cases h), Or.inl ⟨rfl, rfl⟩, rfl, by decide, lk2_all (P := OkP 9) ⟨c_9_0, trivial⟩⟩
def dkwJ13_copyOfRange_1 : List UInt8 := [176]
abbrev dktJ13_copyOfRange_1 : List UInt8 := dkwJ13_copyOfRange_1 ++ []
def dkwJ13_copyOfRange_0 : List UInt8 := [27, 154, 0, 9, 28, 42, 190, 159, 0, 10, 42, 27, 28, 184, 1, 83, 176, 42, 182, 1, 54, 192, 1, 55]
abbrev dktJ13_copyOfRange_0 : List UInt8 := dkwJ13_copyOfRange_0 ++ dktJ13_copyOfRange_1
theorem dksJ13_copyOfRange_0 : cJ13_copyOfRange.data.toList.drop 0 = dktJ13_copyOfRange_0 := by decide +kernel
theorem dksJ13_copyOfRange_1 : cJ13_copyOfRange.data.toList.drop 24 = dktJ13_copyOfRange_1 := dk_seg dksJ13_copyOfRange_0 24 rfl rfl
theorem dJ13_copyOfRange_0 : decode cJ13_copyOfRange 0 = .ok (.iload_n 1, 1) := dk_27 (dk_at dksJ13_copyOfRange_0 0 rfl rfl)
theorem dJ13_copyOfRange_1 : decode cJ13_copyOfRange 1 = .ok (.ifCond .ne 9, 3) := dk_154 0 9 (dk_at dksJ13_copyOfRange_0 1 rfl rfl)
theorem dJ13_copyOfRange_4 : decode cJ13_copyOfRange 4 = .ok (.iload_n 2, 1) := dk_28 (dk_at dksJ13_copyOfRange_0 4 rfl rfl)
theorem dJ13_copyOfRange_5 : decode cJ13_copyOfRange 5 = .ok (.aload_n 0, 1) := dk_42 (dk_at dksJ13_copyOfRange_0 5 rfl rfl)
theorem dJ13_copyOfRange_6 : decode cJ13_copyOfRange 6 = .ok (.arraylength, 1) := dk_190 (dk_at dksJ13_copyOfRange_0 6 rfl rfl)
theorem dJ13_copyOfRange_7 : decode cJ13_copyOfRange 7 = .ok (.if_icmp .eq 10, 3) := dk_159 0 10 (dk_at dksJ13_copyOfRange_0 7 rfl rfl)
theorem dJ13_copyOfRange_10 : decode cJ13_copyOfRange 10 = .ok (.aload_n 0, 1) := dk_42 (dk_at dksJ13_copyOfRange_0 10 rfl rfl)
theorem dJ13_copyOfRange_11 : decode cJ13_copyOfRange 11 = .ok (.iload_n 1, 1) := dk_27 (dk_at dksJ13_copyOfRange_0 11 rfl rfl)
theorem dJ13_copyOfRange_12 : decode cJ13_copyOfRange 12 = .ok (.iload_n 2, 1) := dk_28 (dk_at dksJ13_copyOfRange_0 12 rfl rfl)
theorem dJ13_copyOfRange_13 : decode cJ13_copyOfRange 13 = .ok (.invokestatic 339, 3) := dk_184 1 83 (dk_at dksJ13_copyOfRange_0 13 rfl rfl)
theorem dJ13_copyOfRange_16 : decode cJ13_copyOfRange 16 = .ok (.areturn, 1) := dk_176 (dk_at dksJ13_copyOfRange_0 16 rfl rfl)
theorem dJ13_copyOfRange_17 : decode cJ13_copyOfRange 17 = .ok (.aload_n 0, 1) := dk_42 (dk_at dksJ13_copyOfRange_0 17 rfl rfl)
theorem dJ13_copyOfRange_18 : decode cJ13_copyOfRange 18 = .ok (.invokevirtual 310, 3) := dk_182 1 54 (dk_at dksJ13_copyOfRange_0 18 rfl rfl)
theorem dJ13_copyOfRange_21 : decode cJ13_copyOfRange 21 = .ok (.checkcast 311, 3) := dk_192 1 55 (dk_at dksJ13_copyOfRange_0 21 rfl rfl)
theorem dJ13_copyOfRange_24 : decode cJ13_copyOfRange 24 = .ok (.areturn, 1) := dk_176 (dk_at dksJ13_copyOfRange_1 0 rfl rfl)
theorem c_10_0 : LkP (OkP 10) [(0, o_iload 1 1), (1, o_if (fun x => decide (¬ x = 0)) 10), (4, o_iload 2 1), (5, o_aload 0 1), (6, o_alen), (7, o_icmp (fun x y => decide (x = y)) 17), (10, o_aload 0 1), (11, o_iload 1 1), (12, o_iload 2 1), (13, o_cs 11 3 false none), (16, o_ret 0), (17, o_aload 0 1), (18, o_clnb), (21, o_casta 1), (24, o_ret 0)] := lkp_c (P := OkP 10) ⟨(PuOK.ok (ok_iload_n dJ13_copyOfRange_0 rfl)), m_iload⟩ (
  lkp_c (P := OkP 10) ⟨(PuOK.ok (ok_if_ne dJ13_copyOfRange_1 rfl)), m_if⟩ (
  lkp_c (P := OkP 10) ⟨(PuOK.ok (ok_iload_n dJ13_copyOfRange_4 rfl)), m_iload⟩ (
  lkp_c (P := OkP 10) ⟨(PuOK.ok (ok_aload_n dJ13_copyOfRange_5 rfl)), m_aload⟩ (
  lkp_c (P := OkP 10) ⟨ok_alen dJ13_copyOfRange_6, m_alen⟩ (
  lkp_c (P := OkP 10) ⟨(PuOK.ok (ok_icmp_eq dJ13_copyOfRange_7 rfl)), m_icmp⟩ (
  lkp_c (P := OkP 10) ⟨(PuOK.ok (ok_aload_n dJ13_copyOfRange_10 rfl)), m_aload⟩ (
  lkp_c (P := OkP 10) ⟨(PuOK.ok (ok_iload_n dJ13_copyOfRange_11 rfl)), m_iload⟩ (
  lkp_c (P := OkP 10) ⟨(PuOK.ok (ok_iload_n dJ13_copyOfRange_12 rfl)), m_iload⟩ (
  lkp_c (P := OkP 10) ⟨ok_cs (tg_S ⟨rfl, by decide⟩ q508 q509 q131 q510 ⟨cn_4.1, cn_4.2, pd_4⟩ dJ13_copyOfRange_13) hd_no, m_cs⟩ (
  lkp_c (P := OkP 10) ⟨ok_aret rfl (Or.inr ⟨_, rfl⟩) dJ13_copyOfRange_16, m_ret⟩ (
  lkp_c (P := OkP 10) ⟨(PuOK.ok (ok_aload_n dJ13_copyOfRange_17 rfl)), m_aload⟩ (
  lkp_c (P := OkP 10) ⟨ok_clnb rfl q366 q367 q368 q369 q370 q371 dJ13_copyOfRange_18, m_clnb⟩ (
  lkp_c (P := OkP 10) ⟨ok_casta rfl q372 dJ13_copyOfRange_21, m_casta⟩ (
  lkp_c (P := OkP 10) ⟨ok_aret rfl (Or.inr ⟨_, rfl⟩) dJ13_copyOfRange_24, m_ret⟩ (
  trivial)))))))))))))))
theorem mt_10 : MtOK TB NT IT 10 := ⟨by decide +kernel, rfl, (fun h => by cases h), Or.inl ⟨rfl, rfl⟩, rfl, by decide, lk2_all (P := OkP 10) ⟨c_10_0, trivial⟩⟩
def dkwJ13_copyOfRangeByte_1 : List UInt8 := [184, 1, 48, 184, 0, 150, 25, 4, 176]
abbrev dktJ13_copyOfRangeByte_1 : List UInt8 := dkwJ13_copyOfRangeByte_1 ++ []
def dkwJ13_copyOfRangeByte_0 : List UInt8 := [27, 28, 184, 1, 87, 28, 27, 100, 62, 29, 188, 8, 58, 4, 42, 27, 25, 4, 3, 42, 190, 27, 100, 29]
abbrev dktJ13_copyOfRangeByte_0 : List UInt8 := dkwJ13_copyOfRangeByte_0 ++ dktJ13_copyOfRangeByte_1
theorem dksJ13_copyOfRangeByte_0 : cJ13_copyOfRangeByte.data.toList.drop 0 = dktJ13_copyOfRangeByte_0 := by decide +kernel
theorem dksJ13_copyOfRangeByte_1 : cJ13_copyOfRangeByte.data.toList.drop 24 = dktJ13_copyOfRangeByte_1 := dk_seg dksJ13_copyOfRangeByte_0 24 rfl rfl
theorem dJ13_copyOfRangeByte_0 : decode cJ13_copyOfRangeByte 0 = .ok (.iload_n 1, 1) := dk_27 (dk_at dksJ13_copyOfRangeByte_0 0 rfl rfl)
theorem dJ13_copyOfRangeByte_1 : decode cJ13_copyOfRangeByte 1 = .ok (.iload_n 2, 1) := dk_28 (dk_at dksJ13_copyOfRangeByte_0 1 rfl rfl)
theorem dJ13_copyOfRangeByte_2 : decode cJ13_copyOfRangeByte 2 = .ok (.invokestatic 343, 3) := dk_184 1 87 (dk_at dksJ13_copyOfRangeByte_0 2 rfl rfl)
theorem dJ13_copyOfRangeByte_5 : decode cJ13_copyOfRangeByte 5 = .ok (.iload_n 2, 1) := dk_28 (dk_at dksJ13_copyOfRangeByte_0 5 rfl rfl)
theorem dJ13_copyOfRangeByte_6 : decode cJ13_copyOfRangeByte 6 = .ok (.iload_n 1, 1) := dk_27 (dk_at dksJ13_copyOfRangeByte_0 6 rfl rfl)
theorem dJ13_copyOfRangeByte_7 : decode cJ13_copyOfRangeByte 7 = .ok (.isub, 1) := dk_100 (dk_at dksJ13_copyOfRangeByte_0 7 rfl rfl)
theorem dJ13_copyOfRangeByte_8 : decode cJ13_copyOfRangeByte 8 = .ok (.istore_n 3, 1) := dk_62 (dk_at dksJ13_copyOfRangeByte_0 8 rfl rfl)
theorem dJ13_copyOfRangeByte_9 : decode cJ13_copyOfRangeByte 9 = .ok (.iload_n 3, 1) := dk_29 (dk_at dksJ13_copyOfRangeByte_0 9 rfl rfl)
theorem dJ13_copyOfRangeByte_10 : decode cJ13_copyOfRangeByte 10 = .ok (.newarray .byte, 2) := dk_188_8 (dk_at dksJ13_copyOfRangeByte_0 10 rfl rfl)
theorem dJ13_copyOfRangeByte_12 : decode cJ13_copyOfRangeByte 12 = .ok (.astore 4, 2) := dk_58 4 (dk_at dksJ13_copyOfRangeByte_0 12 rfl rfl)
theorem dJ13_copyOfRangeByte_14 : decode cJ13_copyOfRangeByte 14 = .ok (.aload_n 0, 1) := dk_42 (dk_at dksJ13_copyOfRangeByte_0 14 rfl rfl)
theorem dJ13_copyOfRangeByte_15 : decode cJ13_copyOfRangeByte 15 = .ok (.iload_n 1, 1) := dk_27 (dk_at dksJ13_copyOfRangeByte_0 15 rfl rfl)
theorem dJ13_copyOfRangeByte_16 : decode cJ13_copyOfRangeByte 16 = .ok (.aload 4, 2) := dk_25 4 (dk_at dksJ13_copyOfRangeByte_0 16 rfl rfl)
theorem dJ13_copyOfRangeByte_18 : decode cJ13_copyOfRangeByte 18 = .ok (.iconst 0, 1) := dk_3 (dk_at dksJ13_copyOfRangeByte_0 18 rfl rfl)
theorem dJ13_copyOfRangeByte_19 : decode cJ13_copyOfRangeByte 19 = .ok (.aload_n 0, 1) := dk_42 (dk_at dksJ13_copyOfRangeByte_0 19 rfl rfl)
theorem dJ13_copyOfRangeByte_20 : decode cJ13_copyOfRangeByte 20 = .ok (.arraylength, 1) := dk_190 (dk_at dksJ13_copyOfRangeByte_0 20 rfl rfl)
theorem dJ13_copyOfRangeByte_21 : decode cJ13_copyOfRangeByte 21 = .ok (.iload_n 1, 1) := dk_27 (dk_at dksJ13_copyOfRangeByte_0 21 rfl rfl)
theorem dJ13_copyOfRangeByte_22 : decode cJ13_copyOfRangeByte 22 = .ok (.isub, 1) := dk_100 (dk_at dksJ13_copyOfRangeByte_0 22 rfl rfl)
theorem dJ13_copyOfRangeByte_23 : decode cJ13_copyOfRangeByte 23 = .ok (.iload_n 3, 1) := dk_29 (dk_at dksJ13_copyOfRangeByte_0 23 rfl rfl)
theorem dJ13_copyOfRangeByte_24 : decode cJ13_copyOfRangeByte 24 = .ok (.invokestatic 304, 3) := dk_184 1 48 (dk_at dksJ13_copyOfRangeByte_1 0 rfl rfl)
theorem dJ13_copyOfRangeByte_27 : decode cJ13_copyOfRangeByte 27 = .ok (.invokestatic 150, 3) := dk_184 0 150 (dk_at dksJ13_copyOfRangeByte_1 3 rfl rfl)
theorem dJ13_copyOfRangeByte_30 : decode cJ13_copyOfRangeByte 30 = .ok (.aload 4, 2) := dk_25 4 (dk_at dksJ13_copyOfRangeByte_1 6 rfl rfl)
theorem dJ13_copyOfRangeByte_32 : decode cJ13_copyOfRangeByte 32 = .ok (.areturn, 1) := dk_176 (dk_at dksJ13_copyOfRangeByte_1 8 rfl rfl)
theorem c_11_0 : LkP (OkP 11) [(0, o_iload 1 1), (1, o_iload 2 1), (2, o_cs 12 2 true none), (5, o_iload 2 1), (6, o_iload 1 1), (7, o_iop (fun x y => x - y)), (8, o_istore 3 1), (9, o_iload 3 1), (10, o_newa 1 2), (12, o_astore 4 2), (14, o_aload 0 1), (15, o_iload 1 1), (16, o_aload 4 2), (18, o_push 1 (.int 0)), (19, o_aload 0 1), (20, o_alen), (21, o_iload 1 1), (22, o_iop (fun x y => x - y)), (23, o_iload 3 1), (24, o_cs 7 2 false none), (27, o_cpI 1), (30, o_aload 4 2), (32, o_ret 0)] := lkp_c (P := OkP 11) ⟨(PuOK.ok (ok_iload_n dJ13_copyOfRangeByte_0 rfl)), m_iload⟩ (
  lkp_c (P := OkP 11) ⟨(PuOK.ok (ok_iload_n dJ13_copyOfRangeByte_1 rfl)), m_iload⟩ (
  lkp_c (P := OkP 11) ⟨ok_cs (tg_S ⟨rfl, by decide⟩ q511 q512 q131 q513 ⟨cn_4.1, cn_4.2, pd_5⟩ dJ13_copyOfRangeByte_2) hd_no, m_cs⟩ (
  lkp_c (P := OkP 11) ⟨(PuOK.ok (ok_iload_n dJ13_copyOfRangeByte_5 rfl)), m_iload⟩ (
  lkp_c (P := OkP 11) ⟨(PuOK.ok (ok_iload_n dJ13_copyOfRangeByte_6 rfl)), m_iload⟩ (
  lkp_c (P := OkP 11) ⟨(PuOK.ok (ok_isub dJ13_copyOfRangeByte_7)), m_iop⟩ (
  lkp_c (P := OkP 11) ⟨(PuOK.ok (ok_istore_n dJ13_copyOfRangeByte_8 rfl)), m_istore⟩ (
  lkp_c (P := OkP 11) ⟨(PuOK.ok (ok_iload_n dJ13_copyOfRangeByte_9 rfl)), m_iload⟩ (
  lkp_c (P := OkP 11) ⟨ok_newa (by decide) rfl q331 dJ13_copyOfRangeByte_10, m_newa⟩ (
  lkp_c (P := OkP 11) ⟨(PuOK.ok (ok_astore dJ13_copyOfRangeByte_12)), m_astore⟩ (
  lkp_c (P := OkP 11) ⟨(PuOK.ok (ok_aload_n dJ13_copyOfRangeByte_14 rfl)), m_aload⟩ (
  lkp_c (P := OkP 11) ⟨(PuOK.ok (ok_iload_n dJ13_copyOfRangeByte_15 rfl)), m_iload⟩ (
  lkp_c (P := OkP 11) ⟨(PuOK.ok (ok_aload dJ13_copyOfRangeByte_16)), m_aload⟩ (
  lkp_c (P := OkP 11) ⟨(PuOK.ok (ok_iconst dJ13_copyOfRangeByte_18 rfl)), m_push⟩ (
  lkp_c (P := OkP 11) ⟨(PuOK.ok (ok_aload_n dJ13_copyOfRangeByte_19 rfl)), m_aload⟩ (
  lkp_c (P := OkP 11) ⟨ok_alen dJ13_copyOfRangeByte_20, m_alen⟩ (
  lkp_c (P := OkP 11) ⟨(PuOK.ok (ok_iload_n dJ13_copyOfRangeByte_21 rfl)), m_iload⟩ (
  lkp_c (P := OkP 11) ⟨(PuOK.ok (ok_isub dJ13_copyOfRangeByte_22)), m_iop⟩ (
  lkp_c (P := OkP 11) ⟨(PuOK.ok (ok_iload_n dJ13_copyOfRangeByte_23 rfl)), m_iload⟩ (
  lkp_c (P := OkP 11) ⟨ok_cs (tg_S ⟨rfl, by decide⟩ q373 q374 q130 q375 ⟨cn_1.1, cn_1.2, pd_1⟩ dJ13_copyOfRangeByte_24) hd_no, m_cs⟩ (
  lkp_c (P := OkP 11) ⟨ok_cpI (by decide) q376 q378 q377 q132 dJ13_copyOfRangeByte_27, m_cpI⟩ (
  lkp_c (P := OkP 11) ⟨(PuOK.ok (ok_aload dJ13_copyOfRangeByte_30)), m_aload⟩ (
  lkp_c (P := OkP 11) ⟨ok_aret rfl (Or.inr ⟨_, rfl⟩) dJ13_copyOfRangeByte_32, m_ret⟩ (
  trivial)))))))))))))))))))))))
theorem mt_11 : MtOK TB NT IT 11 := ⟨by decide +kernel, rfl, (fun h => by cases h), Or.inl ⟨rfl, rfl⟩, rfl, by decide, lk2_all (P := OkP 11) ⟨c_11_0, trivial⟩⟩
def dkwJ13_checkLength_1 : List UInt8 := [182, 0, 50, 27, 182, 0, 54, 182, 0, 61, 183, 0, 65, 191, 177]
abbrev dktJ13_checkLength_1 : List UInt8 := dkwJ13_checkLength_1 ++ []
def dkwJ13_checkLength_0 : List UInt8 := [27, 26, 162, 0, 35, 187, 0, 43, 89, 187, 0, 45, 89, 183, 0, 47, 26, 182, 0, 54, 19, 1, 81]
abbrev dktJ13_checkLength_0 : List UInt8 := dkwJ13_checkLength_0 ++ dktJ13_checkLength_1
theorem dksJ13_checkLength_0 : cJ13_checkLength.data.toList.drop 0 = dktJ13_checkLength_0 := by decide +kernel
theorem dksJ13_checkLength_1 : cJ13_checkLength.data.toList.drop 23 = dktJ13_checkLength_1 := dk_seg dksJ13_checkLength_0 23 rfl rfl
theorem dJ13_checkLength_0 : decode cJ13_checkLength 0 = .ok (.iload_n 1, 1) := dk_27 (dk_at dksJ13_checkLength_0 0 rfl rfl)
theorem dJ13_checkLength_1 : decode cJ13_checkLength 1 = .ok (.iload_n 0, 1) := dk_26 (dk_at dksJ13_checkLength_0 1 rfl rfl)
theorem dJ13_checkLength_2 : decode cJ13_checkLength 2 = .ok (.if_icmp .ge 35, 3) := dk_162 0 35 (dk_at dksJ13_checkLength_0 2 rfl rfl)
theorem dJ13_checkLength_8 : decode cJ13_checkLength 8 = .ok (.dup, 1) := dk_89 (dk_at dksJ13_checkLength_0 8 rfl rfl)
theorem dJ13_checkLength_9 : decode cJ13_checkLength 9 = .ok (.new 45, 3) := dk_187 0 45 (dk_at dksJ13_checkLength_0 9 rfl rfl)
theorem dJ13_checkLength_12 : decode cJ13_checkLength 12 = .ok (.dup, 1) := dk_89 (dk_at dksJ13_checkLength_0 12 rfl rfl)
theorem dJ13_checkLength_13 : decode cJ13_checkLength 13 = .ok (.invokespecial 47, 3) := dk_183 0 47 (dk_at dksJ13_checkLength_0 13 rfl rfl)
theorem dJ13_checkLength_16 : decode cJ13_checkLength 16 = .ok (.iload_n 0, 1) := dk_26 (dk_at dksJ13_checkLength_0 16 rfl rfl)
theorem dJ13_checkLength_26 : decode cJ13_checkLength 26 = .ok (.iload_n 1, 1) := dk_27 (dk_at dksJ13_checkLength_1 3 rfl rfl)
theorem dJ13_checkLength_30 : decode cJ13_checkLength 30 = .ok (.invokevirtual 61, 3) := dk_182 0 61 (dk_at dksJ13_checkLength_1 7 rfl rfl)
theorem dJ13_checkLength_37 : decode cJ13_checkLength 37 = .ok (.return_, 1) := dk_177 (dk_at dksJ13_checkLength_1 14 rfl rfl)
theorem c_12_0 : LkP (OkP 12) [(0, o_iload 1 1), (1, o_iload 0 1), (2, o_icmp (fun x y => decide (y ≤ x)) 37), (8, o_dup), (9, o_new 4 4 dv4), (12, o_dup), (13, o_ci 111 0), (16, o_iload 0 1), (26, o_iload 1 1), (30, o_cv [(4, 112)] 0 3 false none), (37, o_vret)] := lkp_c (P := OkP 12) ⟨(PuOK.ok (ok_iload_n dJ13_checkLength_0 rfl)), m_iload⟩ (
  lkp_c (P := OkP 12) ⟨(PuOK.ok (ok_iload_n dJ13_checkLength_1 rfl)), m_iload⟩ (
  lkp_c (P := OkP 12) ⟨(PuOK.ok (ok_icmp_ge dJ13_checkLength_2 rfl)), m_icmp⟩ (
  lkp_c (P := OkP 12) ⟨(PuOK.ok (ok_dup dJ13_checkLength_8)), m_dup⟩ (
  lkp_c (P := OkP 12) ⟨ok_new (ci := 4) (r := CLr 4) rfl dvok_4 q515 q301 q126 dJ13_checkLength_9, m_new⟩ (
  lkp_c (P := OkP 12) ⟨(PuOK.ok (ok_dup dJ13_checkLength_12)), m_dup⟩ (
  lkp_c (P := OkP 12) ⟨ok_ci (tg_I (rt := none) ⟨rfl, by decide⟩ rfl q516 q303 q126 q304 ⟨cn_3.1, cn_3.2, pd_0⟩ dJ13_checkLength_13) hd_no, m_ci⟩ (
  lkp_c (P := OkP 12) ⟨(PuOK.ok (ok_iload_n dJ13_checkLength_16 rfl)), m_iload⟩ (
  lkp_c (P := OkP 12) ⟨(PuOK.ok (ok_iload_n dJ13_checkLength_26 rfl)), m_iload⟩ (
  lkp_c (P := OkP 12) ⟨ok_cv (List.forall_mem_cons.mpr ⟨tg_V (ci := 4) (r := CLr 4) (y := 112) rfl ⟨rfl, by decide⟩ rfl q520 q479 q480 q126 q481 ⟨cn_3.1, cn_3.2, pd_3⟩ dJ13_checkLength_30, (List.forall_mem_nil _)⟩) hd_no, m_cv⟩ (
  lkp_c (P := OkP 12) ⟨ok_vret rfl dJ13_checkLength_37, m_vret⟩ (
  trivial)))))))))))
theorem mt_12 : MtOK TB NT IT 12 := ⟨by decide +kernel, rfl, (fun h => by cases h), Or.inl ⟨rfl, rfl⟩, rfl, by decide, lk2_all (P := OkP 12) ⟨c_12_0, trivial⟩⟩
def dkwJ13_copyOf_2_0 : List UInt8 := [42, 27, 42, 182, 0, 86, 184, 1, 44, 176]
abbrev dktJ13_copyOf_2_0 : List UInt8 := dkwJ13_copyOf_2_0 ++ []
theorem dksJ13_copyOf_2_0 : cJ13_copyOf_2.data.toList.drop 0 = dktJ13_copyOf_2_0 := by decide +kernel
theorem dJ13_copyOf_2_0 : decode cJ13_copyOf_2 0 = .ok (.aload_n 0, 1) := dk_42 (dk_at dksJ13_copyOf_2_0 0 rfl rfl)
theorem dJ13_copyOf_2_1 : decode cJ13_copyOf_2 1 = .ok (.iload_n 1, 1) := dk_27 (dk_at dksJ13_copyOf_2_0 1 rfl rfl)
theorem dJ13_copyOf_2_2 : decode cJ13_copyOf_2 2 = .ok (.aload_n 0, 1) := dk_42 (dk_at dksJ13_copyOf_2_0 2 rfl rfl)
theorem dJ13_copyOf_2_3 : decode cJ13_copyOf_2 3 = .ok (.invokevirtual 86, 3) := dk_182 0 86 (dk_at dksJ13_copyOf_2_0 3 rfl rfl)
theorem dJ13_copyOf_2_6 : decode cJ13_copyOf_2 6 = .ok (.invokestatic 300, 3) := dk_184 1 44 (dk_at dksJ13_copyOf_2_0 6 rfl rfl)
theorem dJ13_copyOf_2_9 : decode cJ13_copyOf_2 9 = .ok (.areturn, 1) := dk_176 (dk_at dksJ13_copyOf_2_0 9 rfl rfl)
theorem c_13_0 : LkP (OkP 13) [(0, o_aload 0 1), (1, o_iload 1 1), (2, o_aload 0 1), (3, o_gcl 5 0), (6, o_cs 14 3 false none), (9, o_ret 0)] := lkp_c (P := OkP 13) ⟨(PuOK.ok (ok_aload_n dJ13_copyOf_2_0 rfl)), m_aload⟩ (
  lkp_c (P := OkP 13) ⟨(PuOK.ok (ok_iload_n dJ13_copyOf_2_1 rfl)), m_iload⟩ (
  lkp_c (P := OkP 13) ⟨(PuOK.ok (ok_aload_n dJ13_copyOf_2_2 rfl)), m_aload⟩ (
  lkp_c (P := OkP 13) ⟨ok_gcl q1552 q3758 q3757 q1002 q1044 dJ13_copyOf_2_3, m_gcl⟩ (
  lkp_c (P := OkP 13) ⟨ok_cs (tg_S ⟨rfl, by decide⟩ q1553 q1554 q131 q1555 ⟨cn_4.1, cn_4.2, pd_6⟩ dJ13_copyOf_2_6) hd_no, m_cs⟩ (
  lkp_c (P := OkP 13) ⟨ok_aret rfl (Or.inr ⟨_, rfl⟩) dJ13_copyOf_2_9, m_ret⟩ (
  trivial))))))
theorem mt_13 : MtOK TB NT IT 13 := ⟨by decide +kernel, rfl, (fun h => by cases h), Or.inl ⟨rfl, rfl⟩, rfl, by decide, lk2_all (P := OkP 13) ⟨c_13_0, trivial⟩⟩
def dkwJ13_copyOf_3_1 : List UInt8 := [78, 42, 3, 45, 3, 42, 190, 27, 184, 1, 48, 184, 0, 150, 45, 176]
abbrev dktJ13_copyOf_3_1 : List UInt8 := dkwJ13_copyOf_3_1 ++ []
def dkwJ13_copyOf_3_0 : List UInt8 := [44, 18, 110, 166, 0, 10, 27, 189, 0, 2, 167, 0, 14, 44, 182, 0, 90, 27, 184, 0, 95, 192, 0, 110]
abbrev dktJ13_copyOf_3_0 : List UInt8 := dkwJ13_copyOf_3_0 ++ dktJ13_copyOf_3_1
theorem dksJ13_copyOf_3_0 : cJ13_copyOf_3.data.toList.drop 0 = dktJ13_copyOf_3_0 := by decide +kernel
theorem dksJ13_copyOf_3_1 : cJ13_copyOf_3.data.toList.drop 24 = dktJ13_copyOf_3_1 := dk_seg dksJ13_copyOf_3_0 24 rfl rfl
theorem dJ13_copyOf_3_0 : decode cJ13_copyOf_3 0 = .ok (.aload_n 2, 1) := dk_44 (dk_at dksJ13_copyOf_3_0 0 rfl rfl)
theorem dJ13_copyOf_3_1 : decode cJ13_copyOf_3 1 = .ok (.ldc 110, 2) := dk_18 110 (dk_at dksJ13_copyOf_3_0 1 rfl rfl)
theorem dJ13_copyOf_3_3 : decode cJ13_copyOf_3 3 = .ok (.if_acmp .ne 10, 3) := dk_166 0 10 (dk_at dksJ13_copyOf_3_0 3 rfl rfl)
theorem dJ13_copyOf_3_6 : decode cJ13_copyOf_3 6 = .ok (.iload_n 1, 1) := dk_27 (dk_at dksJ13_copyOf_3_0 6 rfl rfl)
theorem dJ13_copyOf_3_7 : decode cJ13_copyOf_3 7 = .ok (.anewarray 2, 3) := dk_189 0 2 (dk_at dksJ13_copyOf_3_0 7 rfl rfl)
theorem dJ13_copyOf_3_10 : decode cJ13_copyOf_3 10 = .ok (.goto 14, 3) := dk_167 0 14 (dk_at dksJ13_copyOf_3_0 10 rfl rfl)
theorem dJ13_copyOf_3_13 : decode cJ13_copyOf_3 13 = .ok (.aload_n 2, 1) := dk_44 (dk_at dksJ13_copyOf_3_0 13 rfl rfl)
theorem dJ13_copyOf_3_24 : decode cJ13_copyOf_3 24 = .ok (.astore_n 3, 1) := dk_78 (dk_at dksJ13_copyOf_3_1 0 rfl rfl)
theorem dJ13_copyOf_3_25 : decode cJ13_copyOf_3 25 = .ok (.aload_n 0, 1) := dk_42 (dk_at dksJ13_copyOf_3_1 1 rfl rfl)
theorem dJ13_copyOf_3_26 : decode cJ13_copyOf_3 26 = .ok (.iconst 0, 1) := dk_3 (dk_at dksJ13_copyOf_3_1 2 rfl rfl)
theorem dJ13_copyOf_3_27 : decode cJ13_copyOf_3 27 = .ok (.aload_n 3, 1) := dk_45 (dk_at dksJ13_copyOf_3_1 3 rfl rfl)
theorem dJ13_copyOf_3_28 : decode cJ13_copyOf_3 28 = .ok (.iconst 0, 1) := dk_3 (dk_at dksJ13_copyOf_3_1 4 rfl rfl)
theorem dJ13_copyOf_3_29 : decode cJ13_copyOf_3 29 = .ok (.aload_n 0, 1) := dk_42 (dk_at dksJ13_copyOf_3_1 5 rfl rfl)
theorem dJ13_copyOf_3_30 : decode cJ13_copyOf_3 30 = .ok (.arraylength, 1) := dk_190 (dk_at dksJ13_copyOf_3_1 6 rfl rfl)
theorem dJ13_copyOf_3_31 : decode cJ13_copyOf_3 31 = .ok (.iload_n 1, 1) := dk_27 (dk_at dksJ13_copyOf_3_1 7 rfl rfl)
theorem dJ13_copyOf_3_32 : decode cJ13_copyOf_3 32 = .ok (.invokestatic 304, 3) := dk_184 1 48 (dk_at dksJ13_copyOf_3_1 8 rfl rfl)
theorem dJ13_copyOf_3_35 : decode cJ13_copyOf_3 35 = .ok (.invokestatic 150, 3) := dk_184 0 150 (dk_at dksJ13_copyOf_3_1 11 rfl rfl)
theorem dJ13_copyOf_3_38 : decode cJ13_copyOf_3 38 = .ok (.aload_n 3, 1) := dk_45 (dk_at dksJ13_copyOf_3_1 14 rfl rfl)
theorem dJ13_copyOf_3_39 : decode cJ13_copyOf_3 39 = .ok (.areturn, 1) := dk_176 (dk_at dksJ13_copyOf_3_1 15 rfl rfl)
theorem c_14_0 : LkP (OkP 14) [(0, o_aload 2 1), (1, o_pushA 2 0), (3, o_acmp false 13), (6, o_iload 1 1), (7, o_newa 5 3), (10, o_goto 24), (13, o_aload 2 1), (24, o_astore 3 1), (25, o_aload 0 1), (26, o_push 1 (.int 0)), (27, o_aload 3 1), (28, o_push 1 (.int 0)), (29, o_aload 0 1), (30, o_alen), (31, o_iload 1 1), (32, o_cs 7 2 false none), (35, o_cpQ 5 [0, 1, 2, 3, 4, 5, 6, 7, 8, 9, 10, 11, 12, 13, 14, 15, 16, 17, 18, 19, 20, 21, 22, 23, 24, 25, 26, 27, 28, 29, 30, 31, 32, 33, 34]), (38, o_aload 3 1), (39, o_ret 0)] := lkp_c (P := OkP 14) ⟨(PuOK.ok (ok_aload_n dJ13_copyOf_3_0 rfl)), m_aload⟩ (
  lkp_c (P := OkP 14) ⟨ok_ldcM q1556 dJ13_copyOf_3_1, m_pushA⟩ (
  lkp_c (P := OkP 14) ⟨(PuOK.ok (ok_acmp_ne dJ13_copyOf_3_3 rfl)), m_acmp⟩ (
  lkp_c (P := OkP 14) ⟨(PuOK.ok (ok_iload_n dJ13_copyOf_3_6 rfl)), m_iload⟩ (
  lkp_c (P := OkP 14) ⟨ok_anew (by decide) (by decide) rfl q1557 q240 dJ13_copyOf_3_7, m_newa⟩ (
  lkp_c (P := OkP 14) ⟨(PuOK.ok (ok_goto dJ13_copyOf_3_10 rfl)), m_goto⟩ (
  lkp_c (P := OkP 14) ⟨(PuOK.ok (ok_aload_n dJ13_copyOf_3_13 rfl)), m_aload⟩ (
  lkp_c (P := OkP 14) ⟨(PuOK.ok (ok_astore_n dJ13_copyOf_3_24 rfl)), m_astore⟩ (
  lkp_c (P := OkP 14) ⟨(PuOK.ok (ok_aload_n dJ13_copyOf_3_25 rfl)), m_aload⟩ (
  lkp_c (P := OkP 14) ⟨(PuOK.ok (ok_iconst dJ13_copyOf_3_26 rfl)), m_push⟩ (
  lkp_c (P := OkP 14) ⟨(PuOK.ok (ok_aload_n dJ13_copyOf_3_27 rfl)), m_aload⟩ (
  lkp_c (P := OkP 14) ⟨(PuOK.ok (ok_iconst dJ13_copyOf_3_28 rfl)), m_push⟩ (
  lkp_c (P := OkP 14) ⟨(PuOK.ok (ok_aload_n dJ13_copyOf_3_29 rfl)), m_aload⟩ (
  lkp_c (P := OkP 14) ⟨ok_alen dJ13_copyOf_3_30, m_alen⟩ (
  lkp_c (P := OkP 14) ⟨(PuOK.ok (ok_iload_n dJ13_copyOf_3_31 rfl)), m_iload⟩ (
  lkp_c (P := OkP 14) ⟨ok_cs (tg_S ⟨rfl, by decide⟩ q373 q374 q130 q375 ⟨cn_1.1, cn_1.2, pd_1⟩ dJ13_copyOf_3_32) hd_no, m_cs⟩ (
  lkp_c (P := OkP 14) ⟨ok_cpQ rfl cst_0 q376 q378 q377 q132 dJ13_copyOf_3_35, m_cpQ⟩ (
  lkp_c (P := OkP 14) ⟨(PuOK.ok (ok_aload_n dJ13_copyOf_3_38 rfl)), m_aload⟩ (
  lkp_c (P := OkP 14) ⟨ok_aret rfl (Or.inr ⟨_, rfl⟩) dJ13_copyOf_3_39, m_ret⟩ (
  trivial)))))))))))))))))))
theorem mt_14 : MtOK TB NT IT 14 := ⟨by decide +kernel, rfl, (fun h => by cases h), Or.inl ⟨rfl, rfl⟩, rfl, by decide, lk2_all (P := OkP 14) ⟨c_14_0, trivial⟩⟩
def dkwJ14_checkIndex_0 : List UInt8 := [26, 155, 0, 8, 26, 27, 161, 0, 10, 44, 26, 27, 184, 0, 95, 191, 26, 172]
abbrev dktJ14_checkIndex_0 : List UInt8 := dkwJ14_checkIndex_0 ++ []
theorem dksJ14_checkIndex_0 : cJ14_checkIndex.data.toList.drop 0 = dktJ14_checkIndex_0 := by decide +kernel
theorem dJ14_checkIndex_0 : decode cJ14_checkIndex 0 = .ok (.iload_n 0, 1) := dk_26 (dk_at dksJ14_checkIndex_0 0 rfl rfl)
theorem dJ14_checkIndex_1 : decode cJ14_checkIndex 1 = .ok (.ifCond .lt 8, 3) := dk_155 0 8 (dk_at dksJ14_checkIndex_0 1 rfl rfl)
theorem dJ14_checkIndex_4 : decode cJ14_checkIndex 4 = .ok (.iload_n 0, 1) := dk_26 (dk_at dksJ14_checkIndex_0 4 rfl rfl)
theorem dJ14_checkIndex_5 : decode cJ14_checkIndex 5 = .ok (.iload_n 1, 1) := dk_27 (dk_at dksJ14_checkIndex_0 5 rfl rfl)
theorem dJ14_checkIndex_6 : decode cJ14_checkIndex 6 = .ok (.if_icmp .lt 10, 3) := dk_161 0 10 (dk_at dksJ14_checkIndex_0 6 rfl rfl)
theorem dJ14_checkIndex_9 : decode cJ14_checkIndex 9 = .ok (.aload_n 2, 1) := dk_44 (dk_at dksJ14_checkIndex_0 9 rfl rfl)
theorem dJ14_checkIndex_10 : decode cJ14_checkIndex 10 = .ok (.iload_n 0, 1) := dk_26 (dk_at dksJ14_checkIndex_0 10 rfl rfl)
theorem dJ14_checkIndex_11 : decode cJ14_checkIndex 11 = .ok (.iload_n 1, 1) := dk_27 (dk_at dksJ14_checkIndex_0 11 rfl rfl)
theorem dJ14_checkIndex_16 : decode cJ14_checkIndex 16 = .ok (.iload_n 0, 1) := dk_26 (dk_at dksJ14_checkIndex_0 16 rfl rfl)
theorem dJ14_checkIndex_17 : decode cJ14_checkIndex 17 = .ok (.ireturn, 1) := dk_172 (dk_at dksJ14_checkIndex_0 17 rfl rfl)
theorem c_15_0 : LkP (OkP 15) [(0, o_iload 0 1), (1, o_if (fun x => decide (x < 0)) 9), (4, o_iload 0 1), (5, o_iload 1 1), (6, o_icmp (fun x y => decide (x < y)) 16), (9, o_aload 2 1), (10, o_iload 0 1), (11, o_iload 1 1), (16, o_iload 0 1), (17, o_ret 1)] := lkp_c (P := OkP 15) ⟨(PuOK.ok (ok_iload_n dJ14_checkIndex_0 rfl)), m_iload⟩ (
  lkp_c (P := OkP 15) ⟨(PuOK.ok (ok_if_lt dJ14_checkIndex_1 rfl)), m_if⟩ (
  lkp_c (P := OkP 15) ⟨(PuOK.ok (ok_iload_n dJ14_checkIndex_4 rfl)), m_iload⟩ (
  lkp_c (P := OkP 15) ⟨(PuOK.ok (ok_iload_n dJ14_checkIndex_5 rfl)), m_iload⟩ (
  lkp_c (P := OkP 15) ⟨(PuOK.ok (ok_icmp_lt dJ14_checkIndex_6 rfl)), m_icmp⟩ (
  lkp_c (P := OkP 15) ⟨(PuOK.ok (ok_aload_n dJ14_checkIndex_9 rfl)), m_aload⟩ (
  lkp_c (P := OkP 15) ⟨(PuOK.ok (ok_iload_n dJ14_checkIndex_10 rfl)), m_iload⟩ (
  lkp_c (P := OkP 15) ⟨(PuOK.ok (ok_iload_n dJ14_checkIndex_11 rfl)), m_iload⟩ (
  lkp_c (P := OkP 15) ⟨(PuOK.ok (ok_iload_n dJ14_checkIndex_16 rfl)), m_iload⟩ (
  lkp_c (P := OkP 15) ⟨ok_iret rfl rfl (by decide) dJ14_checkIndex_17, m_ret⟩ (
  trivial))))))))))
theorem mt_15 : MtOK TB NT IT 15 := ⟨by decide +kernel, rfl, (fun h => by cases h), Or.inl ⟨rfl, rfl⟩, rfl, by decide, lk2_all (P := OkP 15) ⟨c_15_0, trivial⟩⟩
def dkwJ15_hashCode_2 : List UInt8 := [3, 167, 0, 22, 42, 3, 51, 17, 0, 255, 126, 167, 0, 12, 42, 3, 42, 190, 3, 7, 184, 0, 84, 172]
abbrev dktJ15_hashCode_2 : List UInt8 := dkwJ15_hashCode_2 ++ []
def dkwJ15_hashCode_1 : List UInt8 := [171, 0, 0, 0, 0, 40, 0, 0, 0, 2, 0, 0, 0, 0, 0, 0, 0, 26, 0, 0, 0, 1, 0, 0, 0, 30]
abbrev dktJ15_hashCode_1 : List UInt8 := dkwJ15_hashCode_1 ++ dktJ15_hashCode_2
def dkwJ15_hashCode_0 : List UInt8 := [42, 190]
abbrev dktJ15_hashCode_0 : List UInt8 := dkwJ15_hashCode_0 ++ dktJ15_hashCode_1
theorem dksJ15_hashCode_0 : cJ15_hashCode.data.toList.drop 0 = dktJ15_hashCode_0 := by decide +kernel
theorem dksJ15_hashCode_1 : cJ15_hashCode.data.toList.drop 2 = dktJ15_hashCode_1 := dk_seg dksJ15_hashCode_0 2 rfl rfl
theorem dksJ15_hashCode_2 : cJ15_hashCode.data.toList.drop 28 = dktJ15_hashCode_2 := dk_seg dksJ15_hashCode_1 26 rfl rfl
theorem dJ15_hashCode_0 : decode cJ15_hashCode 0 = .ok (.aload_n 0, 1) := dk_42 (dk_at dksJ15_hashCode_0 0 rfl rfl)
theorem dJ15_hashCode_1 : decode cJ15_hashCode 1 = .ok (.arraylength, 1) := dk_190 (dk_at dksJ15_hashCode_0 1 rfl rfl)
theorem dJ15_hashCode_2 : decode cJ15_hashCode 2 = .ok (.lookupswitch 40 #[(0, 26), (1, 30)], 26) := by decide +kernel
theorem dJ15_hashCode_28 : decode cJ15_hashCode 28 = .ok (.iconst 0, 1) := dk_3 (dk_at dksJ15_hashCode_2 0 rfl rfl)
theorem dJ15_hashCode_29 : decode cJ15_hashCode 29 = .ok (.goto 22, 3) := dk_167 0 22 (dk_at dksJ15_hashCode_2 1 rfl rfl)
theorem dJ15_hashCode_32 : decode cJ15_hashCode 32 = .ok (.aload_n 0, 1) := dk_42 (dk_at dksJ15_hashCode_2 4 rfl rfl)
theorem dJ15_hashCode_33 : decode cJ15_hashCode 33 = .ok (.iconst 0, 1) := dk_3 (dk_at dksJ15_hashCode_2 5 rfl rfl)
theorem dJ15_hashCode_34 : decode cJ15_hashCode 34 = .ok (.baload, 1) := dk_51 (dk_at dksJ15_hashCode_2 6 rfl rfl)
theorem dJ15_hashCode_35 : decode cJ15_hashCode 35 = .ok (.sipush 255, 3) := dk_17 0 255 (dk_at dksJ15_hashCode_2 7 rfl rfl)
theorem dJ15_hashCode_38 : decode cJ15_hashCode 38 = .ok (.iand, 1) := dk_126 (dk_at dksJ15_hashCode_2 10 rfl rfl)
theorem dJ15_hashCode_39 : decode cJ15_hashCode 39 = .ok (.goto 12, 3) := dk_167 0 12 (dk_at dksJ15_hashCode_2 11 rfl rfl)
theorem dJ15_hashCode_42 : decode cJ15_hashCode 42 = .ok (.aload_n 0, 1) := dk_42 (dk_at dksJ15_hashCode_2 14 rfl rfl)
theorem dJ15_hashCode_43 : decode cJ15_hashCode 43 = .ok (.iconst 0, 1) := dk_3 (dk_at dksJ15_hashCode_2 15 rfl rfl)
theorem dJ15_hashCode_44 : decode cJ15_hashCode 44 = .ok (.aload_n 0, 1) := dk_42 (dk_at dksJ15_hashCode_2 16 rfl rfl)
theorem dJ15_hashCode_45 : decode cJ15_hashCode 45 = .ok (.arraylength, 1) := dk_190 (dk_at dksJ15_hashCode_2 17 rfl rfl)
theorem dJ15_hashCode_46 : decode cJ15_hashCode 46 = .ok (.iconst 0, 1) := dk_3 (dk_at dksJ15_hashCode_2 18 rfl rfl)
theorem dJ15_hashCode_47 : decode cJ15_hashCode 47 = .ok (.iconst 4, 1) := dk_7 (dk_at dksJ15_hashCode_2 19 rfl rfl)
theorem dJ15_hashCode_48 : decode cJ15_hashCode 48 = .ok (.invokestatic 84, 3) := dk_184 0 84 (dk_at dksJ15_hashCode_2 20 rfl rfl)
theorem dJ15_hashCode_51 : decode cJ15_hashCode 51 = .ok (.ireturn, 1) := dk_172 (dk_at dksJ15_hashCode_2 23 rfl rfl)
theorem c_16_0 : LkP (OkP 16) [(0, o_aload 0 1), (1, o_alens), (2, o_sw (lsw [(0, 28), (1, 32)] 42)), (28, o_push 1 (.int 0)), (29, o_goto 51), (32, o_aload 0 1), (33, o_push 1 (.int 0)), (34, o_rdIs 1), (35, o_push 3 (.int 255)), (38, o_iop (fun x y => x &&& y)), (39, o_goto 51), (42, o_aload 0 1), (43, o_push 1 (.int 0)), (44, o_aload 0 1), (45, o_alens), (46, o_push 1 (.int 0)), (47, o_push 1 (.int 4)), (48, o_cs 3 5 false none), (51, o_ret 1)] := lkp_c (P := OkP 16) ⟨(PuOK.ok (ok_aload_n dJ15_hashCode_0 rfl)), m_aload⟩ (
  lkp_c (P := OkP 16) ⟨ok_alens dJ15_hashCode_1, m_alens⟩ (
  lkp_c (P := OkP 16) ⟨(PuOK.ok (ok_lsw (lsw_ok_16_2) (by decide +kernel) dJ15_hashCode_2)), m_sw⟩ (
  lkp_c (P := OkP 16) ⟨(PuOK.ok (ok_iconst dJ15_hashCode_28 rfl)), m_push⟩ (
  lkp_c (P := OkP 16) ⟨(PuOK.ok (ok_goto dJ15_hashCode_29 rfl)), m_goto⟩ (
  lkp_c (P := OkP 16) ⟨(PuOK.ok (ok_aload_n dJ15_hashCode_32 rfl)), m_aload⟩ (
  lkp_c (P := OkP 16) ⟨(PuOK.ok (ok_iconst dJ15_hashCode_33 rfl)), m_push⟩ (
  lkp_c (P := OkP 16) ⟨ok_balds dJ15_hashCode_34, m_rdIs⟩ (
  lkp_c (P := OkP 16) ⟨(PuOK.ok (ok_sipush dJ15_hashCode_35 rfl)), m_push⟩ (
  lkp_c (P := OkP 16) ⟨(PuOK.ok (ok_iand dJ15_hashCode_38)), m_iop⟩ (
  lkp_c (P := OkP 16) ⟨(PuOK.ok (ok_goto dJ15_hashCode_39 rfl)), m_goto⟩ (
  lkp_c (P := OkP 16) ⟨(PuOK.ok (ok_aload_n dJ15_hashCode_42 rfl)), m_aload⟩ (
  lkp_c (P := OkP 16) ⟨(PuOK.ok (ok_iconst dJ15_hashCode_43 rfl)), m_push⟩ (
  lkp_c (P := OkP 16) ⟨(PuOK.ok (ok_aload_n dJ15_hashCode_44 rfl)), m_aload⟩ (
  lkp_c (P := OkP 16) ⟨ok_alens dJ15_hashCode_45, m_alens⟩ (
  lkp_c (P := OkP 16) ⟨(PuOK.ok (ok_iconst dJ15_hashCode_46 rfl)), m_push⟩ (
  lkp_c (P := OkP 16) ⟨(PuOK.ok (ok_iconst dJ15_hashCode_47 rfl)), m_push⟩ (
  lkp_c (P := OkP 16) ⟨ok_cs (tg_S ⟨rfl, by decide⟩ q881 q882 q129 q883 ⟨cn_2.1, cn_2.2, pd_7⟩ dJ15_hashCode_48) hd_no, m_cs⟩ (
  lkp_c (P := OkP 16) ⟨ok_iret rfl rfl (by decide) dJ15_hashCode_51, m_ret⟩ (
  trivial)))))))))))))))))))
theorem mt_16 : MtOK TB NT IT 16 := ⟨by decide +kernel, rfl, (fun h => by cases h), Or.inl ⟨rfl, rfl⟩, rfl, by decide, lk2_all (P := OkP 16) ⟨c_16_0, trivial⟩⟩
def dkwJ15_equals_1 : List UInt8 := [3, 172, 132, 2, 1, 167, 255, 236, 4, 172, 3, 172]
abbrev dktJ15_equals_1 : List UInt8 := dkwJ15_equals_1 ++ []
def dkwJ15_equals_0 : List UInt8 := [42, 190, 43, 190, 160, 0, 30, 3, 61, 28, 42, 190, 162, 0, 20, 42, 28, 51, 43, 28, 51, 159, 0, 5]
abbrev dktJ15_equals_0 : List UInt8 := dkwJ15_equals_0 ++ dktJ15_equals_1
theorem dksJ15_equals_0 : cJ15_equals.data.toList.drop 0 = dktJ15_equals_0 := by decide +kernel
theorem dksJ15_equals_1 : cJ15_equals.data.toList.drop 24 = dktJ15_equals_1 := dk_seg dksJ15_equals_0 24 rfl rfl
theorem dJ15_equals_0 : decode cJ15_equals 0 = .ok (.aload_n 0, 1) := dk_42 (dk_at dksJ15_equals_0 0 rfl rfl)
theorem dJ15_equals_1 : decode cJ15_equals 1 = .ok (.arraylength, 1) := dk_190 (dk_at dksJ15_equals_0 1 rfl rfl)
theorem dJ15_equals_2 : decode cJ15_equals 2 = .ok (.aload_n 1, 1) := dk_43 (dk_at dksJ15_equals_0 2 rfl rfl)
theorem dJ15_equals_3 : decode cJ15_equals 3 = .ok (.arraylength, 1) := dk_190 (dk_at dksJ15_equals_0 3 rfl rfl)
theorem dJ15_equals_4 : decode cJ15_equals 4 = .ok (.if_icmp .ne 30, 3) := dk_160 0 30 (dk_at dksJ15_equals_0 4 rfl rfl)
theorem dJ15_equals_7 : decode cJ15_equals 7 = .ok (.iconst 0, 1) := dk_3 (dk_at dksJ15_equals_0 7 rfl rfl)
theorem dJ15_equals_8 : decode cJ15_equals 8 = .ok (.istore_n 2, 1) := dk_61 (dk_at dksJ15_equals_0 8 rfl rfl)
theorem dJ15_equals_9 : decode cJ15_equals 9 = .ok (.iload_n 2, 1) := dk_28 (dk_at dksJ15_equals_0 9 rfl rfl)
theorem dJ15_equals_10 : decode cJ15_equals 10 = .ok (.aload_n 0, 1) := dk_42 (dk_at dksJ15_equals_0 10 rfl rfl)
theorem dJ15_equals_11 : decode cJ15_equals 11 = .ok (.arraylength, 1) := dk_190 (dk_at dksJ15_equals_0 11 rfl rfl)
theorem dJ15_equals_12 : decode cJ15_equals 12 = .ok (.if_icmp .ge 20, 3) := dk_162 0 20 (dk_at dksJ15_equals_0 12 rfl rfl)
theorem dJ15_equals_15 : decode cJ15_equals 15 = .ok (.aload_n 0, 1) := dk_42 (dk_at dksJ15_equals_0 15 rfl rfl)
theorem dJ15_equals_16 : decode cJ15_equals 16 = .ok (.iload_n 2, 1) := dk_28 (dk_at dksJ15_equals_0 16 rfl rfl)
theorem dJ15_equals_17 : decode cJ15_equals 17 = .ok (.baload, 1) := dk_51 (dk_at dksJ15_equals_0 17 rfl rfl)
theorem dJ15_equals_18 : decode cJ15_equals 18 = .ok (.aload_n 1, 1) := dk_43 (dk_at dksJ15_equals_0 18 rfl rfl)
theorem dJ15_equals_19 : decode cJ15_equals 19 = .ok (.iload_n 2, 1) := dk_28 (dk_at dksJ15_equals_0 19 rfl rfl)
theorem dJ15_equals_20 : decode cJ15_equals 20 = .ok (.baload, 1) := dk_51 (dk_at dksJ15_equals_0 20 rfl rfl)
theorem dJ15_equals_21 : decode cJ15_equals 21 = .ok (.if_icmp .eq 5, 3) := dk_159 0 5 (dk_at dksJ15_equals_0 21 rfl rfl)
theorem dJ15_equals_24 : decode cJ15_equals 24 = .ok (.iconst 0, 1) := dk_3 (dk_at dksJ15_equals_1 0 rfl rfl)
theorem dJ15_equals_25 : decode cJ15_equals 25 = .ok (.ireturn, 1) := dk_172 (dk_at dksJ15_equals_1 1 rfl rfl)
theorem dJ15_equals_26 : decode cJ15_equals 26 = .ok (.iinc 2 1, 3) := dk_132 2 1 (dk_at dksJ15_equals_1 2 rfl rfl)
theorem dJ15_equals_29 : decode cJ15_equals 29 = .ok (.goto (-20), 3) := dk_167 255 236 (dk_at dksJ15_equals_1 5 rfl rfl)
theorem dJ15_equals_32 : decode cJ15_equals 32 = .ok (.iconst 1, 1) := dk_4 (dk_at dksJ15_equals_1 8 rfl rfl)
theorem dJ15_equals_33 : decode cJ15_equals 33 = .ok (.ireturn, 1) := dk_172 (dk_at dksJ15_equals_1 9 rfl rfl)
theorem dJ15_equals_34 : decode cJ15_equals 34 = .ok (.iconst 0, 1) := dk_3 (dk_at dksJ15_equals_1 10 rfl rfl)
theorem dJ15_equals_35 : decode cJ15_equals 35 = .ok (.ireturn, 1) := dk_172 (dk_at dksJ15_equals_1 11 rfl rfl)
theorem c_17_0 : LkP (OkP 17) [(0, o_aload 0 1), (1, o_alens), (2, o_aload 1 1), (3, o_alens), (4, o_icmp (fun x y => decide (¬ x = y)) 34), (7, o_push 1 (.int 0)), (8, o_istore 2 1), (9, o_iload 2 1), (10, o_aload 0 1), (11, o_alens), (12, o_icmp (fun x y => decide (y ≤ x)) 32), (15, o_aload 0 1), (16, o_iload 2 1), (17, o_rdIs 1), (18, o_aload 1 1), (19, o_iload 2 1), (20, o_rdIs 1), (21, o_icmp (fun x y => decide (x = y)) 26), (24, o_push 1 (.int 0)), (25, o_ret 5), (26, o_iinc 2 1), (29, o_goto 9), (32, o_push 1 (.int 1)), (33, o_ret 5), (34, o_push 1 (.int 0)), (35, o_ret 5)] := lkp_c (P := OkP 17) ⟨(PuOK.ok (ok_aload_n dJ15_equals_0 rfl)), m_aload⟩ (
  lkp_c (P := OkP 17) ⟨ok_alens dJ15_equals_1, m_alens⟩ (
  lkp_c (P := OkP 17) ⟨(PuOK.ok (ok_aload_n dJ15_equals_2 rfl)), m_aload⟩ (
  lkp_c (P := OkP 17) ⟨ok_alens dJ15_equals_3, m_alens⟩ (
  lkp_c (P := OkP 17) ⟨(PuOK.ok (ok_icmp_ne dJ15_equals_4 rfl)), m_icmp⟩ (
  lkp_c (P := OkP 17) ⟨(PuOK.ok (ok_iconst dJ15_equals_7 rfl)), m_push⟩ (
  lkp_c (P := OkP 17) ⟨(PuOK.ok (ok_istore_n dJ15_equals_8 rfl)), m_istore⟩ (
  lkp_c (P := OkP 17) ⟨(PuOK.ok (ok_iload_n dJ15_equals_9 rfl)), m_iload⟩ (
  lkp_c (P := OkP 17) ⟨(PuOK.ok (ok_aload_n dJ15_equals_10 rfl)), m_aload⟩ (
  lkp_c (P := OkP 17) ⟨ok_alens dJ15_equals_11, m_alens⟩ (
  lkp_c (P := OkP 17) ⟨(PuOK.ok (ok_icmp_ge dJ15_equals_12 rfl)), m_icmp⟩ (
  lkp_c (P := OkP 17) ⟨(PuOK.ok (ok_aload_n dJ15_equals_15 rfl)), m_aload⟩ (
  lkp_c (P := OkP 17) ⟨(PuOK.ok (ok_iload_n dJ15_equals_16 rfl)), m_iload⟩ (
  lkp_c (P := OkP 17) ⟨ok_balds dJ15_equals_17, m_rdIs⟩ (
  lkp_c (P := OkP 17) ⟨(PuOK.ok (ok_aload_n dJ15_equals_18 rfl)), m_aload⟩ (
  lkp_c (P := OkP 17) ⟨(PuOK.ok (ok_iload_n dJ15_equals_19 rfl)), m_iload⟩ (
  lkp_c (P := OkP 17) ⟨ok_balds dJ15_equals_20, m_rdIs⟩ (
  lkp_c (P := OkP 17) ⟨(PuOK.ok (ok_icmp_eq dJ15_equals_21 rfl)), m_icmp⟩ (
  lkp_c (P := OkP 17) ⟨(PuOK.ok (ok_iconst dJ15_equals_24 rfl)), m_push⟩ (
  lkp_c (P := OkP 17) ⟨ok_iret rfl rfl (by decide) dJ15_equals_25, m_ret⟩ (
  lkp_c (P := OkP 17) ⟨(PuOK.ok (ok_iinc dJ15_equals_26 rfl)), m_iinc⟩ (
  lkp_c (P := OkP 17) ⟨(PuOK.ok (ok_goto dJ15_equals_29 rfl)), m_goto⟩ (
  lkp_c (P := OkP 17) ⟨(PuOK.ok (ok_iconst dJ15_equals_32 rfl)), m_push⟩ (
  lkp_c (P := OkP 17) ⟨ok_iret rfl rfl (by decide) dJ15_equals_33, m_ret⟩ (
  lkp_c (P := OkP 17) ⟨(PuOK.ok (ok_iconst dJ15_equals_34 rfl)), m_push⟩ (
  lkp_c (P := OkP 17) ⟨ok_iret rfl rfl (by decide) dJ15_equals_35, m_ret⟩ (
  trivial))))))))))))))))))))))))))
theorem mt_17 : MtOK TB NT IT 17 := ⟨by decide +kernel, rfl, (fun h => by cases h), Or.inl ⟨rfl, rfl⟩, rfl, by decide, lk2_all (P := OkP 17) ⟨c_17_0, trivial⟩⟩
def dkwJ15_canEncode_0 : List UInt8 := [26, 17, 0, 255, 163, 0, 7, 4, 167, 0, 4, 3, 172]
abbrev dktJ15_canEncode_0 : List UInt8 := dkwJ15_canEncode_0 ++ []
theorem dksJ15_canEncode_0 : cJ15_canEncode.data.toList.drop 0 = dktJ15_canEncode_0 := by decide +kernel
theorem dJ15_canEncode_0 : decode cJ15_canEncode 0 = .ok (.iload_n 0, 1) := dk_26 (dk_at dksJ15_canEncode_0 0 rfl rfl)
theorem dJ15_canEncode_1 : decode cJ15_canEncode 1 = .ok (.sipush 255, 3) := dk_17 0 255 (dk_at dksJ15_canEncode_0 1 rfl rfl)
theorem dJ15_canEncode_4 : decode cJ15_canEncode 4 = .ok (.if_icmp .gt 7, 3) := dk_163 0 7 (dk_at dksJ15_canEncode_0 4 rfl rfl)
theorem dJ15_canEncode_7 : decode cJ15_canEncode 7 = .ok (.iconst 1, 1) := dk_4 (dk_at dksJ15_canEncode_0 7 rfl rfl)
theorem dJ15_canEncode_8 : decode cJ15_canEncode 8 = .ok (.goto 4, 3) := dk_167 0 4 (dk_at dksJ15_canEncode_0 8 rfl rfl)
theorem dJ15_canEncode_11 : decode cJ15_canEncode 11 = .ok (.iconst 0, 1) := dk_3 (dk_at dksJ15_canEncode_0 11 rfl rfl)
theorem dJ15_canEncode_12 : decode cJ15_canEncode 12 = .ok (.ireturn, 1) := dk_172 (dk_at dksJ15_canEncode_0 12 rfl rfl)
theorem c_18_0 : LkP (OkP 18) [(0, o_iload 0 1), (1, o_push 3 (.int 255)), (4, o_icmp (fun x y => decide (y < x)) 11), (7, o_push 1 (.int 1)), (8, o_goto 12), (11, o_push 1 (.int 0)), (12, o_ret 5)] := lkp_c (P := OkP 18) ⟨(PuOK.ok (ok_iload_n dJ15_canEncode_0 rfl)), m_iload⟩ (
  lkp_c (P := OkP 18) ⟨(PuOK.ok (ok_sipush dJ15_canEncode_1 rfl)), m_push⟩ (
  lkp_c (P := OkP 18) ⟨(PuOK.ok (ok_icmp_gt dJ15_canEncode_4 rfl)), m_icmp⟩ (
  lkp_c (P := OkP 18) ⟨(PuOK.ok (ok_iconst dJ15_canEncode_7 rfl)), m_push⟩ (
  lkp_c (P := OkP 18) ⟨(PuOK.ok (ok_goto dJ15_canEncode_8 rfl)), m_goto⟩ (
  lkp_c (P := OkP 18) ⟨(PuOK.ok (ok_iconst dJ15_canEncode_11 rfl)), m_push⟩ (
  lkp_c (P := OkP 18) ⟨ok_iret rfl rfl (by decide) dJ15_canEncode_12, m_ret⟩ (
  trivial)))))))
theorem mt_18 : MtOK TB NT IT 18 := ⟨by decide +kernel, rfl, (fun h => by cases h), Or.inl ⟨rfl, rfl⟩, rfl, by decide, lk2_all (P := OkP 18) ⟨c_18_0, trivial⟩⟩
def dkwJ15_charAt_0 : List UInt8 := [27, 42, 190, 184, 0, 9, 42, 27, 51, 17, 0, 255, 126, 146, 172]
abbrev dktJ15_charAt_0 : List UInt8 := dkwJ15_charAt_0 ++ []
theorem dksJ15_charAt_0 : cJ15_charAt.data.toList.drop 0 = dktJ15_charAt_0 := by decide +kernel
theorem dJ15_charAt_0 : decode cJ15_charAt 0 = .ok (.iload_n 1, 1) := dk_27 (dk_at dksJ15_charAt_0 0 rfl rfl)
theorem dJ15_charAt_1 : decode cJ15_charAt 1 = .ok (.aload_n 0, 1) := dk_42 (dk_at dksJ15_charAt_0 1 rfl rfl)
theorem dJ15_charAt_2 : decode cJ15_charAt 2 = .ok (.arraylength, 1) := dk_190 (dk_at dksJ15_charAt_0 2 rfl rfl)
theorem dJ15_charAt_3 : decode cJ15_charAt 3 = .ok (.invokestatic 9, 3) := dk_184 0 9 (dk_at dksJ15_charAt_0 3 rfl rfl)
theorem dJ15_charAt_6 : decode cJ15_charAt 6 = .ok (.aload_n 0, 1) := dk_42 (dk_at dksJ15_charAt_0 6 rfl rfl)
theorem dJ15_charAt_7 : decode cJ15_charAt 7 = .ok (.iload_n 1, 1) := dk_27 (dk_at dksJ15_charAt_0 7 rfl rfl)
theorem dJ15_charAt_8 : decode cJ15_charAt 8 = .ok (.baload, 1) := dk_51 (dk_at dksJ15_charAt_0 8 rfl rfl)
theorem dJ15_charAt_9 : decode cJ15_charAt 9 = .ok (.sipush 255, 3) := dk_17 0 255 (dk_at dksJ15_charAt_0 9 rfl rfl)
theorem dJ15_charAt_12 : decode cJ15_charAt 12 = .ok (.iand, 1) := dk_126 (dk_at dksJ15_charAt_0 12 rfl rfl)
theorem dJ15_charAt_13 : decode cJ15_charAt 13 = .ok (.i2c, 1) := dk_146 (dk_at dksJ15_charAt_0 13 rfl rfl)
theorem dJ15_charAt_14 : decode cJ15_charAt 14 = .ok (.ireturn, 1) := dk_172 (dk_at dksJ15_charAt_0 14 rfl rfl)
theorem c_19_0 : LkP (OkP 19) [(0, o_iload 1 1), (1, o_aload 0 1), (2, o_alens), (3, o_cs 122 2 true none), (6, o_aload 0 1), (7, o_iload 1 1), (8, o_rdIs 1), (9, o_push 3 (.int 255)), (12, o_iop (fun x y => x &&& y)), (13, o_ii (fun x => (x.toUInt32 % 65536).toInt32)), (14, o_ret 7)] := lkp_c (P := OkP 19) ⟨(PuOK.ok (ok_iload_n dJ15_charAt_0 rfl)), m_iload⟩ (
  lkp_c (P := OkP 19) ⟨(PuOK.ok (ok_aload_n dJ15_charAt_1 rfl)), m_aload⟩ (
  lkp_c (P := OkP 19) ⟨ok_alens dJ15_charAt_2, m_alens⟩ (
  lkp_c (P := OkP 19) ⟨ok_cs (tg_S ⟨rfl, by decide⟩ q3262 q1309 q127 q1310 ⟨cn_5.1, cn_5.2, pd_5⟩ dJ15_charAt_3) hd_no, m_cs⟩ (
  lkp_c (P := OkP 19) ⟨(PuOK.ok (ok_aload_n dJ15_charAt_6 rfl)), m_aload⟩ (
  lkp_c (P := OkP 19) ⟨(PuOK.ok (ok_iload_n dJ15_charAt_7 rfl)), m_iload⟩ (
  lkp_c (P := OkP 19) ⟨ok_balds dJ15_charAt_8, m_rdIs⟩ (
  lkp_c (P := OkP 19) ⟨(PuOK.ok (ok_sipush dJ15_charAt_9 rfl)), m_push⟩ (
  lkp_c (P := OkP 19) ⟨(PuOK.ok (ok_iand dJ15_charAt_12)), m_iop⟩ (
  lkp_c (P := OkP 19) ⟨(PuOK.ok (ok_i2c dJ15_charAt_13)), m_ii⟩ (
  lkp_c (P := OkP 19) ⟨ok_iret rfl rfl (by decide) dJ15_charAt_14, m_ret⟩ (
  trivial)))))))))))
theorem mt_19 : MtOK TB NT IT 19 := ⟨by decide +kernel, rfl, (fun h => by cases h), Or.inl ⟨rfl, rfl⟩, rfl, by decide, lk2_all (P := OkP 19) ⟨c_19_0, trivial⟩⟩
theorem dJ16_init_0 : decode cJ16_init 0 = .ok (.aload_n 0, 1) := by decide +kernel
theorem dJ16_init_1 : decode cJ16_init 1 = .ok (.invokespecial 1, 3) := by decide +kernel
theorem dJ16_init_4 : decode cJ16_init 4 = .ok (.return_, 1) := by decide +kernel
theorem c_20_0 : LkP (OkP 20) [(0, o_aload 0 1), (1, o_oi), (4, o_vret)] := lkp_c (P := OkP 20) ⟨(PuOK.ok (ok_aload_n dJ16_init_0 rfl)), m_aload⟩ (
  lkp_c (P := OkP 20) ⟨ok_oi q2266 q188 q_oi dJ16_init_1, m_oi⟩ (
  lkp_c (P := OkP 20) ⟨ok_vret rfl dJ16_init_4, m_vret⟩ (
  trivial)))
theorem mt_20 : MtOK TB NT IT 20 := ⟨by decide +kernel, rfl, fun _ => rfl, Or.inl ⟨rfl, rfl⟩, rfl, by decide, lk2_all (P := OkP 20) ⟨c_20_0, trivial⟩⟩
theorem dJ17_intValue_0 : decode cJ17_intValue 0 = .ok (.aload_n 0, 1) := by decide +kernel
theorem dJ17_intValue_1 : decode cJ17_intValue 1 = .ok (.getfield 205, 3) := by decide +kernel
theorem dJ17_intValue_4 : decode cJ17_intValue 4 = .ok (.ireturn, 1) := by decide +kernel
theorem c_21_0 : LkP (OkP 21) [(0, o_aload 0 1), (1, o_gets 109), (4, o_ret 1)] := lkp_c (P := OkP 21) ⟨(PuOK.ok (ok_aload_n dJ17_intValue_0 rfl)), m_aload⟩ (
  lkp_c (P := OkP 21) ⟨ok_gets ⟨"java/lang/Integer", q2267, Or.inl rfl⟩ dJ17_intValue_1, m_gets⟩ (
  lkp_c (P := OkP 21) ⟨ok_iret rfl rfl (by decide) dJ17_intValue_4, m_ret⟩ (
  trivial)))
theorem mt_21 : MtOK TB NT IT 21 := ⟨by decide +kernel, rfl, (fun h => by cases h), Or.inl ⟨rfl, rfl⟩, rfl, by decide, lk2_all (P := OkP 21) ⟨c_21_0, trivial⟩⟩
def dkwJ17_compareTo_0 : List UInt8 := [42, 43, 192, 0, 1, 182, 1, 28, 172]
abbrev dktJ17_compareTo_0 : List UInt8 := dkwJ17_compareTo_0 ++ []
theorem dksJ17_compareTo_0 : cJ17_compareTo.data.toList.drop 0 = dktJ17_compareTo_0 := by decide +kernel
theorem dJ17_compareTo_0 : decode cJ17_compareTo 0 = .ok (.aload_n 0, 1) := dk_42 (dk_at dksJ17_compareTo_0 0 rfl rfl)
theorem dJ17_compareTo_1 : decode cJ17_compareTo 1 = .ok (.aload_n 1, 1) := dk_43 (dk_at dksJ17_compareTo_0 1 rfl rfl)
theorem dJ17_compareTo_2 : decode cJ17_compareTo 2 = .ok (.checkcast 1, 3) := dk_192 0 1 (dk_at dksJ17_compareTo_0 2 rfl rfl)
theorem dJ17_compareTo_5 : decode cJ17_compareTo 5 = .ok (.invokevirtual 284, 3) := dk_182 1 28 (dk_at dksJ17_compareTo_0 5 rfl rfl)
theorem dJ17_compareTo_8 : decode cJ17_compareTo 8 = .ok (.ireturn, 1) := dk_172 (dk_at dksJ17_compareTo_0 8 rfl rfl)
theorem c_22_0 : LkP (OkP 22) [(0, o_aload 0 1), (1, o_aload 1 1), (2, o_cast [21]), (5, o_cvs [(21, 23)] 1 3 false), (8, o_ret 1)] := lkp_c (P := OkP 22) ⟨(PuOK.ok (ok_aload_n dJ17_compareTo_0 rfl)), m_aload⟩ (
  lkp_c (P := OkP 22) ⟨(PuOK.ok (ok_aload_n dJ17_compareTo_1 rfl)), m_aload⟩ (
  lkp_c (P := OkP 22) ⟨ok_cast q966 cst_1 dJ17_compareTo_2, m_cast⟩ (
  lkp_c (P := OkP 22) ⟨ok_cvs (List.forall_mem_cons.mpr ⟨tg_V (ci := 21) (r := CLr 21) (y := 23) rfl ⟨rfl, by decide⟩ rfl q1059 q1060 q1061 q136 q1062 ⟨cn_6.1, cn_6.2, pd_8⟩ dJ17_compareTo_5, (List.forall_mem_nil _)⟩) hd_no, m_cvs⟩ (
  lkp_c (P := OkP 22) ⟨ok_iret rfl rfl (by decide) dJ17_compareTo_8, m_ret⟩ (
  trivial)))))
theorem mt_22 : MtOK TB NT IT 22 := ⟨by decide +kernel, rfl, (fun h => by cases h), Or.inl ⟨rfl, rfl⟩, rfl, by decide, lk2_all (P := OkP 22) ⟨c_22_0, trivial⟩⟩
def dkwJ17_compareTo_2_0 : List UInt8 := [42, 180, 0, 205, 43, 180, 0, 205, 184, 1, 3, 172]
abbrev dktJ17_compareTo_2_0 : List UInt8 := dkwJ17_compareTo_2_0 ++ []
theorem dksJ17_compareTo_2_0 : cJ17_compareTo_2.data.toList.drop 0 = dktJ17_compareTo_2_0 := by decide +kernel
theorem dJ17_compareTo_2_0 : decode cJ17_compareTo_2 0 = .ok (.aload_n 0, 1) := dk_42 (dk_at dksJ17_compareTo_2_0 0 rfl rfl)
theorem dJ17_compareTo_2_1 : decode cJ17_compareTo_2 1 = .ok (.getfield 205, 3) := dk_180 0 205 (dk_at dksJ17_compareTo_2_0 1 rfl rfl)
theorem dJ17_compareTo_2_4 : decode cJ17_compareTo_2 4 = .ok (.aload_n 1, 1) := dk_43 (dk_at dksJ17_compareTo_2_0 4 rfl rfl)
theorem dJ17_compareTo_2_5 : decode cJ17_compareTo_2 5 = .ok (.getfield 205, 3) := dk_180 0 205 (dk_at dksJ17_compareTo_2_0 5 rfl rfl)
theorem dJ17_compareTo_2_8 : decode cJ17_compareTo_2 8 = .ok (.invokestatic 259, 3) := dk_184 1 3 (dk_at dksJ17_compareTo_2_0 8 rfl rfl)
theorem dJ17_compareTo_2_11 : decode cJ17_compareTo_2 11 = .ok (.ireturn, 1) := dk_172 (dk_at dksJ17_compareTo_2_0 11 rfl rfl)
theorem c_23_0 : LkP (OkP 23) [(0, o_aload 0 1), (1, o_gets 109), (4, o_aload 1 1), (5, o_gets 109), (8, o_cs 24 2 false none), (11, o_ret 1)] := lkp_c (P := OkP 23) ⟨(PuOK.ok (ok_aload_n dJ17_compareTo_2_0 rfl)), m_aload⟩ (
  lkp_c (P := OkP 23) ⟨ok_gets ⟨"java/lang/Integer", q2267, Or.inl rfl⟩ dJ17_compareTo_2_1, m_gets⟩ (
  lkp_c (P := OkP 23) ⟨(PuOK.ok (ok_aload_n dJ17_compareTo_2_4 rfl)), m_aload⟩ (
  lkp_c (P := OkP 23) ⟨ok_gets ⟨"java/lang/Integer", q2267, Or.inl rfl⟩ dJ17_compareTo_2_5, m_gets⟩ (
  lkp_c (P := OkP 23) ⟨ok_cs (tg_S ⟨rfl, by decide⟩ q1063 q1064 q136 q1065 ⟨cn_6.1, cn_6.2, pd_1⟩ dJ17_compareTo_2_8) hd_no, m_cs⟩ (
  lkp_c (P := OkP 23) ⟨ok_iret rfl rfl (by decide) dJ17_compareTo_2_11, m_ret⟩ (
  trivial))))))
theorem mt_23 : MtOK TB NT IT 23 := ⟨by decide +kernel, rfl, (fun h => by cases h), Or.inl ⟨rfl, rfl⟩, rfl, by decide, lk2_all (P := OkP 23) ⟨c_23_0, trivial⟩⟩
def dkwJ17_compare_0 : List UInt8 := [26, 27, 162, 0, 7, 2, 167, 0, 13, 26, 27, 160, 0, 7, 3, 167, 0, 4, 4, 172]
abbrev dktJ17_compare_0 : List UInt8 := dkwJ17_compare_0 ++ []
theorem dksJ17_compare_0 : cJ17_compare.data.toList.drop 0 = dktJ17_compare_0 := by decide +kernel
theorem dJ17_compare_0 : decode cJ17_compare 0 = .ok (.iload_n 0, 1) := dk_26 (dk_at dksJ17_compare_0 0 rfl rfl)
theorem dJ17_compare_1 : decode cJ17_compare 1 = .ok (.iload_n 1, 1) := dk_27 (dk_at dksJ17_compare_0 1 rfl rfl)
theorem dJ17_compare_2 : decode cJ17_compare 2 = .ok (.if_icmp .ge 7, 3) := dk_162 0 7 (dk_at dksJ17_compare_0 2 rfl rfl)
theorem dJ17_compare_5 : decode cJ17_compare 5 = .ok (.iconst (-1), 1) := dk_2 (dk_at dksJ17_compare_0 5 rfl rfl)
theorem dJ17_compare_6 : decode cJ17_compare 6 = .ok (.goto 13, 3) := dk_167 0 13 (dk_at dksJ17_compare_0 6 rfl rfl)
theorem dJ17_compare_9 : decode cJ17_compare 9 = .ok (.iload_n 0, 1) := dk_26 (dk_at dksJ17_compare_0 9 rfl rfl)
theorem dJ17_compare_10 : decode cJ17_compare 10 = .ok (.iload_n 1, 1) := dk_27 (dk_at dksJ17_compare_0 10 rfl rfl)
theorem dJ17_compare_11 : decode cJ17_compare 11 = .ok (.if_icmp .ne 7, 3) := dk_160 0 7 (dk_at dksJ17_compare_0 11 rfl rfl)
theorem dJ17_compare_14 : decode cJ17_compare 14 = .ok (.iconst 0, 1) := dk_3 (dk_at dksJ17_compare_0 14 rfl rfl)
theorem dJ17_compare_15 : decode cJ17_compare 15 = .ok (.goto 4, 3) := dk_167 0 4 (dk_at dksJ17_compare_0 15 rfl rfl)
theorem dJ17_compare_18 : decode cJ17_compare 18 = .ok (.iconst 1, 1) := dk_4 (dk_at dksJ17_compare_0 18 rfl rfl)
theorem dJ17_compare_19 : decode cJ17_compare 19 = .ok (.ireturn, 1) := dk_172 (dk_at dksJ17_compare_0 19 rfl rfl)
theorem c_24_0 : LkP (OkP 24) [(0, o_iload 0 1), (1, o_iload 1 1), (2, o_icmp (fun x y => decide (y ≤ x)) 9), (5, o_push 1 (.int (-1))), (6, o_goto 19), (9, o_iload 0 1), (10, o_iload 1 1), (11, o_icmp (fun x y => decide (¬ x = y)) 18), (14, o_push 1 (.int 0)), (15, o_goto 19), (18, o_push 1 (.int 1)), (19, o_ret 1)] := lkp_c (P := OkP 24) ⟨(PuOK.ok (ok_iload_n dJ17_compare_0 rfl)), m_iload⟩ (
  lkp_c (P := OkP 24) ⟨(PuOK.ok (ok_iload_n dJ17_compare_1 rfl)), m_iload⟩ (
  lkp_c (P := OkP 24) ⟨(PuOK.ok (ok_icmp_ge dJ17_compare_2 rfl)), m_icmp⟩ (
  lkp_c (P := OkP 24) ⟨(PuOK.ok (ok_iconst dJ17_compare_5 rfl)), m_push⟩ (
  lkp_c (P := OkP 24) ⟨(PuOK.ok (ok_goto dJ17_compare_6 rfl)), m_goto⟩ (
  lkp_c (P := OkP 24) ⟨(PuOK.ok (ok_iload_n dJ17_compare_9 rfl)), m_iload⟩ (
  lkp_c (P := OkP 24) ⟨(PuOK.ok (ok_iload_n dJ17_compare_10 rfl)), m_iload⟩ (
  lkp_c (P := OkP 24) ⟨(PuOK.ok (ok_icmp_ne dJ17_compare_11 rfl)), m_icmp⟩ (
  lkp_c (P := OkP 24) ⟨(PuOK.ok (ok_iconst dJ17_compare_14 rfl)), m_push⟩ (
  lkp_c (P := OkP 24) ⟨(PuOK.ok (ok_goto dJ17_compare_15 rfl)), m_goto⟩ (
  lkp_c (P := OkP 24) ⟨(PuOK.ok (ok_iconst dJ17_compare_18 rfl)), m_push⟩ (
  lkp_c (P := OkP 24) ⟨ok_iret rfl rfl (by decide) dJ17_compare_19, m_ret⟩ (
  trivial))))))))))))
theorem mt_24 : MtOK TB NT IT 24 := ⟨by decide +kernel, rfl, (fun h => by cases h), Or.inl ⟨rfl, rfl⟩, rfl, by decide, lk2_all (P := OkP 24) ⟨c_24_0, trivial⟩⟩
def dkwJ17_valueOf_1 : List UInt8 := [187, 0, 1, 89, 26, 183, 0, 199, 176]
abbrev dktJ17_valueOf_1 : List UInt8 := dkwJ17_valueOf_1 ++ []
def dkwJ17_valueOf_0 : List UInt8 := [26, 16, 128, 161, 0, 20, 26, 178, 0, 191, 163, 0, 13, 178, 0, 195, 26, 17, 0, 128, 96, 50, 176]
abbrev dktJ17_valueOf_0 : List UInt8 := dkwJ17_valueOf_0 ++ dktJ17_valueOf_1
theorem dksJ17_valueOf_0 : cJ17_valueOf.data.toList.drop 0 = dktJ17_valueOf_0 := by decide +kernel
theorem dksJ17_valueOf_1 : cJ17_valueOf.data.toList.drop 23 = dktJ17_valueOf_1 := dk_seg dksJ17_valueOf_0 23 rfl rfl
theorem dJ17_valueOf_0 : decode cJ17_valueOf 0 = .ok (.iload_n 0, 1) := dk_26 (dk_at dksJ17_valueOf_0 0 rfl rfl)
theorem dJ17_valueOf_1 : decode cJ17_valueOf 1 = .ok (.bipush (-128), 2) := dk_16 128 (dk_at dksJ17_valueOf_0 1 rfl rfl)
theorem dJ17_valueOf_3 : decode cJ17_valueOf 3 = .ok (.if_icmp .lt 20, 3) := dk_161 0 20 (dk_at dksJ17_valueOf_0 3 rfl rfl)
theorem dJ17_valueOf_6 : decode cJ17_valueOf 6 = .ok (.iload_n 0, 1) := dk_26 (dk_at dksJ17_valueOf_0 6 rfl rfl)
theorem dJ17_valueOf_7 : decode cJ17_valueOf 7 = .ok (.getstatic 191, 3) := dk_178 0 191 (dk_at dksJ17_valueOf_0 7 rfl rfl)
theorem dJ17_valueOf_10 : decode cJ17_valueOf 10 = .ok (.if_icmp .gt 13, 3) := dk_163 0 13 (dk_at dksJ17_valueOf_0 10 rfl rfl)
theorem dJ17_valueOf_13 : decode cJ17_valueOf 13 = .ok (.getstatic 195, 3) := dk_178 0 195 (dk_at dksJ17_valueOf_0 13 rfl rfl)
theorem dJ17_valueOf_16 : decode cJ17_valueOf 16 = .ok (.iload_n 0, 1) := dk_26 (dk_at dksJ17_valueOf_0 16 rfl rfl)
theorem dJ17_valueOf_17 : decode cJ17_valueOf 17 = .ok (.sipush 128, 3) := dk_17 0 128 (dk_at dksJ17_valueOf_0 17 rfl rfl)
theorem dJ17_valueOf_20 : decode cJ17_valueOf 20 = .ok (.iadd, 1) := dk_96 (dk_at dksJ17_valueOf_0 20 rfl rfl)
theorem dJ17_valueOf_21 : decode cJ17_valueOf 21 = .ok (.aaload, 1) := dk_50 (dk_at dksJ17_valueOf_0 21 rfl rfl)
theorem dJ17_valueOf_22 : decode cJ17_valueOf 22 = .ok (.areturn, 1) := dk_176 (dk_at dksJ17_valueOf_0 22 rfl rfl)
theorem dJ17_valueOf_23 : decode cJ17_valueOf 23 = .ok (.new 1, 3) := dk_187 0 1 (dk_at dksJ17_valueOf_1 0 rfl rfl)
theorem dJ17_valueOf_26 : decode cJ17_valueOf 26 = .ok (.dup, 1) := dk_89 (dk_at dksJ17_valueOf_1 3 rfl rfl)
theorem dJ17_valueOf_27 : decode cJ17_valueOf 27 = .ok (.iload_n 0, 1) := dk_26 (dk_at dksJ17_valueOf_1 4 rfl rfl)
theorem dJ17_valueOf_28 : decode cJ17_valueOf 28 = .ok (.invokespecial 199, 3) := dk_183 0 199 (dk_at dksJ17_valueOf_1 5 rfl rfl)
theorem dJ17_valueOf_31 : decode cJ17_valueOf 31 = .ok (.areturn, 1) := dk_176 (dk_at dksJ17_valueOf_1 8 rfl rfl)
theorem c_25_0 : LkP (OkP 25) [(0, o_iload 0 1), (1, o_push 2 (.int (-128))), (3, o_icmp (fun x y => decide (x < y)) 23), (6, o_iload 0 1), (7, o_push 3 (.int 127)), (10, o_icmp (fun x y => decide (y < x)) 23), (13, o_pushA 3 1), (16, o_iload 0 1), (17, o_push 3 (.int 128)), (20, o_iop (fun x y => x + y)), (21, o_rdQs), (22, o_ret 0), (23, o_new 21 1 dv21), (26, o_dup), (27, o_iload 0 1), (28, o_ci 26 1), (31, o_ret 0)] := lkp_c (P := OkP 25) ⟨(PuOK.ok (ok_iload_n dJ17_valueOf_0 rfl)), m_iload⟩ (
  lkp_c (P := OkP 25) ⟨(PuOK.ok (ok_bipush dJ17_valueOf_1 rfl)), m_push⟩ (
  lkp_c (P := OkP 25) ⟨(PuOK.ok (ok_icmp_lt dJ17_valueOf_3 rfl)), m_icmp⟩ (
  lkp_c (P := OkP 25) ⟨(PuOK.ok (ok_iload_n dJ17_valueOf_6 rfl)), m_iload⟩ (
  lkp_c (P := OkP 25) ⟨ok_gsi (q := ("java/lang/Integer$IntegerCache", "high", "I", 127)) (by decide +kernel) q2255 dJ17_valueOf_7, m_push⟩ (
  lkp_c (P := OkP 25) ⟨(PuOK.ok (ok_icmp_gt dJ17_valueOf_10 rfl)), m_icmp⟩ (
  lkp_c (P := OkP 25) ⟨ok_gsr (q := ("java/lang/Integer$IntegerCache", "cache", "[Ljava/lang/Integer;", 1)) (by decide +kernel) q2257 dJ17_valueOf_13, m_pushA⟩ (
  lkp_c (P := OkP 25) ⟨(PuOK.ok (ok_iload_n dJ17_valueOf_16 rfl)), m_iload⟩ (
  lkp_c (P := OkP 25) ⟨(PuOK.ok (ok_sipush dJ17_valueOf_17 rfl)), m_push⟩ (
  lkp_c (P := OkP 25) ⟨(PuOK.ok (ok_iadd dJ17_valueOf_20)), m_iop⟩ (
  lkp_c (P := OkP 25) ⟨ok_aalds dJ17_valueOf_21, m_rdQs⟩ (
  lkp_c (P := OkP 25) ⟨ok_aret rfl (Or.inl ⟨_, rfl⟩) dJ17_valueOf_22, m_ret⟩ (
  lkp_c (P := OkP 25) ⟨ok_new (ci := 21) (r := CLr 21) rfl dvok_21 q966 q2259 q136 dJ17_valueOf_23, m_new⟩ (
  lkp_c (P := OkP 25) ⟨(PuOK.ok (ok_dup dJ17_valueOf_26)), m_dup⟩ (
  lkp_c (P := OkP 25) ⟨(PuOK.ok (ok_iload_n dJ17_valueOf_27 rfl)), m_iload⟩ (
  lkp_c (P := OkP 25) ⟨ok_ci (tg_I (rt := none) ⟨rfl, by decide⟩ rfl q2260 q2261 q136 q2262 ⟨cn_6.1, cn_6.2, pd_9⟩ dJ17_valueOf_28) hd_no, m_ci⟩ (
  lkp_c (P := OkP 25) ⟨ok_aret rfl (Or.inl ⟨_, rfl⟩) dJ17_valueOf_31, m_ret⟩ (
  trivial)))))))))))))))))
theorem mt_25 : MtOK TB NT IT 25 := ⟨by decide +kernel, rfl, (fun h => by cases h), Or.inl ⟨rfl, rfl⟩, rfl, by decide, lk2_all (P := OkP 25) ⟨c_25_0, trivial⟩⟩
def dkwJ17_init_0 : List UInt8 := [42, 183, 0, 202, 42, 27, 181, 0, 205, 177]
abbrev dktJ17_init_0 : List UInt8 := dkwJ17_init_0 ++ []
theorem dksJ17_init_0 : cJ17_init.data.toList.drop 0 = dktJ17_init_0 := by decide +kernel
theorem dJ17_init_0 : decode cJ17_init 0 = .ok (.aload_n 0, 1) := dk_42 (dk_at dksJ17_init_0 0 rfl rfl)
theorem dJ17_init_1 : decode cJ17_init 1 = .ok (.invokespecial 202, 3) := dk_183 0 202 (dk_at dksJ17_init_0 1 rfl rfl)
theorem dJ17_init_4 : decode cJ17_init 4 = .ok (.aload_n 0, 1) := dk_42 (dk_at dksJ17_init_0 4 rfl rfl)
theorem dJ17_init_5 : decode cJ17_init 5 = .ok (.iload_n 1, 1) := dk_27 (dk_at dksJ17_init_0 5 rfl rfl)
theorem dJ17_init_6 : decode cJ17_init 6 = .ok (.putfield 205, 3) := dk_181 0 205 (dk_at dksJ17_init_0 6 rfl rfl)
theorem dJ17_init_9 : decode cJ17_init 9 = .ok (.return_, 1) := dk_177 (dk_at dksJ17_init_0 9 rfl rfl)
theorem c_26_0 : LkP (OkP 26) [(0, o_aload 0 1), (1, o_ci 20 0), (4, o_aload 0 1), (5, o_iload 1 1), (6, o_put 109 1), (9, o_vret)] := lkp_c (P := OkP 26) ⟨(PuOK.ok (ok_aload_n dJ17_init_0 rfl)), m_aload⟩ (
  lkp_c (P := OkP 26) ⟨ok_ci (tg_I (rt := none) ⟨rfl, by decide⟩ rfl q2263 q2264 q135 q2265 ⟨cn_7.1, cn_7.2, pd_0⟩ dJ17_init_1) hd_no, m_ci⟩ (
  lkp_c (P := OkP 26) ⟨(PuOK.ok (ok_aload_n dJ17_init_4 rfl)), m_aload⟩ (
  lkp_c (P := OkP 26) ⟨(PuOK.ok (ok_iload_n dJ17_init_5 rfl)), m_iload⟩ (
  lkp_c (P := OkP 26) ⟨ok_putF q2267 rfl rfl rfl fd_109 rfl dJ17_init_6, m_put⟩ (
  lkp_c (P := OkP 26) ⟨ok_vret rfl dJ17_init_9, m_vret⟩ (
  trivial))))))
theorem mt_26 : MtOK TB NT IT 26 := ⟨by decide +kernel, rfl, fun _ => rfl, Or.inl ⟨rfl, rfl⟩, rfl, by decide, lk2_all (P := OkP 26) ⟨c_26_0, trivial⟩⟩
theorem dJ18_init_0 : decode cJ18_init 0 = .ok (.aload_n 0, 1) := by decide +kernel
theorem dJ18_init_1 : decode cJ18_init 1 = .ok (.invokespecial 1, 3) := by decide +kernel
theorem dJ18_init_4 : decode cJ18_init 4 = .ok (.return_, 1) := by decide +kernel
theorem c_27_0 : LkP (OkP 27) [(0, o_aload 0 1), (1, o_oi), (4, o_vret)] := lkp_c (P := OkP 27) ⟨(PuOK.ok (ok_aload_n dJ18_init_0 rfl)), m_aload⟩ (
  lkp_c (P := OkP 27) ⟨ok_oi q596 q188 q_oi dJ18_init_1, m_oi⟩ (
  lkp_c (P := OkP 27) ⟨ok_vret rfl dJ18_init_4, m_vret⟩ (
  trivial)))
theorem mt_27 : MtOK TB NT IT 27 := ⟨by decide +kernel, rfl, fun _ => rfl, Or.inl ⟨rfl, rfl⟩, rfl, by decide, lk2_all (P := OkP 27) ⟨c_27_0, trivial⟩⟩
def dkwJ19_init_0 : List UInt8 := [42, 183, 0, 43, 42, 18, 92, 181, 0, 81, 177]
abbrev dktJ19_init_0 : List UInt8 := dkwJ19_init_0 ++ []
theorem dksJ19_init_0 : cJ19_init.data.toList.drop 0 = dktJ19_init_0 := by decide +kernel
theorem dJ19_init_0 : decode cJ19_init 0 = .ok (.aload_n 0, 1) := dk_42 (dk_at dksJ19_init_0 0 rfl rfl)
theorem dJ19_init_1 : decode cJ19_init 1 = .ok (.invokespecial 43, 3) := dk_183 0 43 (dk_at dksJ19_init_0 1 rfl rfl)
theorem dJ19_init_4 : decode cJ19_init 4 = .ok (.aload_n 0, 1) := dk_42 (dk_at dksJ19_init_0 4 rfl rfl)
theorem dJ19_init_5 : decode cJ19_init 5 = .ok (.ldc 92, 2) := dk_18 92 (dk_at dksJ19_init_0 5 rfl rfl)
theorem dJ19_init_7 : decode cJ19_init 7 = .ok (.putfield 81, 3) := dk_181 0 81 (dk_at dksJ19_init_0 7 rfl rfl)
theorem dJ19_init_10 : decode cJ19_init 10 = .ok (.return_, 1) := dk_177 (dk_at dksJ19_init_0 10 rfl rfl)
theorem c_28_0 : LkP (OkP 28) [(0, o_aload 0 1), (1, o_ci 27 0), (4, o_aload 0 1), (5, o_push 2 (.float 1061158912)), (7, o_put 36 3), (10, o_vret)] := lkp_c (P := OkP 28) ⟨(PuOK.ok (ok_aload_n dJ19_init_0 rfl)), m_aload⟩ (
  lkp_c (P := OkP 28) ⟨ok_ci (tg_I (rt := none) ⟨rfl, by decide⟩ rfl q593 q594 q137 q595 ⟨cn_8.1, cn_8.2, pd_0⟩ dJ19_init_1) hd_no, m_ci⟩ (
  lkp_c (P := OkP 28) ⟨(PuOK.ok (ok_aload_n dJ19_init_4 rfl)), m_aload⟩ (
  lkp_c (P := OkP 28) ⟨(PuOK.ok (ok_ldcf q597 dJ19_init_5)), m_push⟩ (
  lkp_c (P := OkP 28) ⟨ok_putF q606 rfl rfl rfl fd_36 rfl dJ19_init_7, m_put⟩ (
  lkp_c (P := OkP 28) ⟨ok_vret rfl dJ19_init_10, m_vret⟩ (
  trivial))))))
theorem mt_28 : MtOK TB NT IT 28 := ⟨by decide +kernel, rfl, fun _ => rfl, Or.inl ⟨rfl, rfl⟩, rfl, by decide, lk2_all (P := OkP 28) ⟨c_28_0, trivial⟩⟩
def dkwJ19_get_0 : List UInt8 := [42, 43, 182, 0, 158, 89, 77, 199, 0, 7, 1, 167, 0, 7, 44, 180, 0, 162, 176]
abbrev dktJ19_get_0 : List UInt8 := dkwJ19_get_0 ++ []
theorem dksJ19_get_0 : cJ19_get.data.toList.drop 0 = dktJ19_get_0 := by decide +kernel
theorem dJ19_get_0 : decode cJ19_get 0 = .ok (.aload_n 0, 1) := dk_42 (dk_at dksJ19_get_0 0 rfl rfl)
theorem dJ19_get_1 : decode cJ19_get 1 = .ok (.aload_n 1, 1) := dk_43 (dk_at dksJ19_get_0 1 rfl rfl)
theorem dJ19_get_2 : decode cJ19_get 2 = .ok (.invokevirtual 158, 3) := dk_182 0 158 (dk_at dksJ19_get_0 2 rfl rfl)
theorem dJ19_get_5 : decode cJ19_get 5 = .ok (.dup, 1) := dk_89 (dk_at dksJ19_get_0 5 rfl rfl)
theorem dJ19_get_6 : decode cJ19_get 6 = .ok (.astore_n 2, 1) := dk_77 (dk_at dksJ19_get_0 6 rfl rfl)
theorem dJ19_get_7 : decode cJ19_get 7 = .ok (.ifnonnull 7, 3) := dk_199 0 7 (dk_at dksJ19_get_0 7 rfl rfl)
theorem dJ19_get_10 : decode cJ19_get 10 = .ok (.aconst_null, 1) := dk_1 (dk_at dksJ19_get_0 10 rfl rfl)
theorem dJ19_get_11 : decode cJ19_get 11 = .ok (.goto 7, 3) := dk_167 0 7 (dk_at dksJ19_get_0 11 rfl rfl)
theorem dJ19_get_14 : decode cJ19_get 14 = .ok (.aload_n 2, 1) := dk_44 (dk_at dksJ19_get_0 14 rfl rfl)
theorem dJ19_get_15 : decode cJ19_get 15 = .ok (.getfield 162, 3) := dk_180 0 162 (dk_at dksJ19_get_0 15 rfl rfl)
theorem dJ19_get_18 : decode cJ19_get 18 = .ok (.areturn, 1) := dk_176 (dk_at dksJ19_get_0 18 rfl rfl)
theorem c_29_0 : LkP (OkP 29) [(0, o_aload 0 1), (1, o_aload 1 1), (2, o_cv [(6, 30)] 1 3 false none), (5, o_dup), (6, o_astore 2 1), (7, o_ifnonnull 14), (10, o_push 1 .null), (11, o_goto 18), (14, o_aload 2 1), (15, o_get 145), (18, o_ret 0)] := lkp_c (P := OkP 29) ⟨(PuOK.ok (ok_aload_n dJ19_get_0 rfl)), m_aload⟩ (
  lkp_c (P := OkP 29) ⟨(PuOK.ok (ok_aload_n dJ19_get_1 rfl)), m_aload⟩ (
  lkp_c (P := OkP 29) ⟨ok_cv (List.forall_mem_cons.mpr ⟨tg_V (ci := 6) (r := CLr 6) (y := 30) rfl ⟨rfl, by decide⟩ rfl q830 q831 q832 q138 q833 ⟨cn_9.1, cn_9.2, pd_10⟩ dJ19_get_2, (List.forall_mem_nil _)⟩) hd_no, m_cv⟩ (
  lkp_c (P := OkP 29) ⟨(PuOK.ok (ok_dup dJ19_get_5)), m_dup⟩ (
  lkp_c (P := OkP 29) ⟨(PuOK.ok (ok_astore_n dJ19_get_6 rfl)), m_astore⟩ (
  lkp_c (P := OkP 29) ⟨(PuOK.ok (ok_ifnonnull dJ19_get_7 rfl)), m_ifnonnull⟩ (
  lkp_c (P := OkP 29) ⟨(PuOK.ok (ok_null dJ19_get_10)), m_push⟩ (
  lkp_c (P := OkP 29) ⟨(PuOK.ok (ok_goto dJ19_get_11 rfl)), m_goto⟩ (
  lkp_c (P := OkP 29) ⟨(PuOK.ok (ok_aload_n dJ19_get_14 rfl)), m_aload⟩ (
  lkp_c (P := OkP 29) ⟨ok_get ⟨"java/util/HashMap$Node", q2738, Or.inl rfl⟩ dJ19_get_15, m_get⟩ (
  lkp_c (P := OkP 29) ⟨ok_aret rfl (Or.inl ⟨_, rfl⟩) dJ19_get_18, m_ret⟩ (
  trivial)))))))))))
theorem mt_29 : MtOK TB NT IT 29 := ⟨by decide +kernel, rfl, (fun h => by cases h), Or.inl ⟨rfl, rfl⟩, rfl, by decide, lk2_all (P := OkP 29) ⟨c_29_0, trivial⟩⟩
def dkwJ19_getNode_6 : List UInt8 := [89, 58, 4, 199, 255, 210, 1, 176]
abbrev dktJ19_getNode_6 : List UInt8 := dkwJ19_getNode_6 ++ []
def dkwJ19_getNode_5 : List UInt8 := [165, 0, 16, 43, 198, 0, 15, 43, 25, 7, 182, 0, 173, 153, 0, 6, 25, 4, 176, 25, 4, 180, 0, 177]
abbrev dktJ19_getNode_5 : List UInt8 := dkwJ19_getNode_5 ++ dktJ19_getNode_6
def dkwJ19_getNode_4 : List UInt8 := [43, 182, 0, 182, 176, 25, 4, 180, 0, 168, 21, 6, 160, 0, 31, 25, 4, 180, 0, 170, 89, 58, 7, 43]
abbrev dktJ19_getNode_4 : List UInt8 := dkwJ19_getNode_4 ++ dktJ19_getNode_5
def dkwJ19_getNode_3 : List UInt8 := [176, 45, 180, 0, 177, 89, 58, 4, 198, 0, 70, 45, 193, 0, 180, 153, 0, 14, 45, 192, 0, 180, 21, 6]
abbrev dktJ19_getNode_3 : List UInt8 := dkwJ19_getNode_3 ++ dktJ19_getNode_4
def dkwJ19_getNode_2 : List UInt8 := [180, 0, 170, 89, 58, 7, 43, 165, 0, 16, 43, 198, 0, 14, 43, 25, 7, 182, 0, 173, 153, 0, 5, 45]
abbrev dktJ19_getNode_2 : List UInt8 := dkwJ19_getNode_2 ++ dktJ19_getNode_3
def dkwJ19_getNode_1 : List UInt8 := [184, 0, 149, 89, 54, 6, 126, 50, 89, 78, 198, 0, 115, 45, 180, 0, 168, 21, 6, 160, 0, 29, 45]
abbrev dktJ19_getNode_1 : List UInt8 := dkwJ19_getNode_1 ++ dktJ19_getNode_2
def dkwJ19_getNode_0 : List UInt8 := [42, 180, 0, 105, 89, 77, 198, 0, 142, 44, 190, 89, 54, 5, 158, 0, 134, 44, 21, 5, 4, 100, 43]
abbrev dktJ19_getNode_0 : List UInt8 := dkwJ19_getNode_0 ++ dktJ19_getNode_1
theorem dksJ19_getNode_0 : cJ19_getNode.data.toList.drop 0 = dktJ19_getNode_0 := by decide +kernel
theorem dksJ19_getNode_1 : cJ19_getNode.data.toList.drop 23 = dktJ19_getNode_1 := dk_seg dksJ19_getNode_0 23 rfl rfl
theorem dksJ19_getNode_2 : cJ19_getNode.data.toList.drop 46 = dktJ19_getNode_2 := dk_seg dksJ19_getNode_1 23 rfl rfl
theorem dksJ19_getNode_3 : cJ19_getNode.data.toList.drop 70 = dktJ19_getNode_3 := dk_seg dksJ19_getNode_2 24 rfl rfl
theorem dksJ19_getNode_4 : cJ19_getNode.data.toList.drop 94 = dktJ19_getNode_4 := dk_seg dksJ19_getNode_3 24 rfl rfl
theorem dksJ19_getNode_5 : cJ19_getNode.data.toList.drop 118 = dktJ19_getNode_5 := dk_seg dksJ19_getNode_4 24 rfl rfl
theorem dksJ19_getNode_6 : cJ19_getNode.data.toList.drop 142 = dktJ19_getNode_6 := dk_seg dksJ19_getNode_5 24 rfl rfl
theorem dJ19_getNode_0 : decode cJ19_getNode 0 = .ok (.aload_n 0, 1) := dk_42 (dk_at dksJ19_getNode_0 0 rfl rfl)
theorem dJ19_getNode_1 : decode cJ19_getNode 1 = .ok (.getfield 105, 3) := dk_180 0 105 (dk_at dksJ19_getNode_0 1 rfl rfl)
theorem dJ19_getNode_4 : decode cJ19_getNode 4 = .ok (.dup, 1) := dk_89 (dk_at dksJ19_getNode_0 4 rfl rfl)
theorem dJ19_getNode_5 : decode cJ19_getNode 5 = .ok (.astore_n 2, 1) := dk_77 (dk_at dksJ19_getNode_0 5 rfl rfl)
theorem dJ19_getNode_6 : decode cJ19_getNode 6 = .ok (.ifnull 142, 3) := dk_198 0 142 (dk_at dksJ19_getNode_0 6 rfl rfl)
theorem dJ19_getNode_9 : decode cJ19_getNode 9 = .ok (.aload_n 2, 1) := dk_44 (dk_at dksJ19_getNode_0 9 rfl rfl)
theorem dJ19_getNode_10 : decode cJ19_getNode 10 = .ok (.arraylength, 1) := dk_190 (dk_at dksJ19_getNode_0 10 rfl rfl)
theorem dJ19_getNode_11 : decode cJ19_getNode 11 = .ok (.dup, 1) := dk_89 (dk_at dksJ19_getNode_0 11 rfl rfl)
theorem dJ19_getNode_12 : decode cJ19_getNode 12 = .ok (.istore 5, 2) := dk_54 5 (dk_at dksJ19_getNode_0 12 rfl rfl)
theorem dJ19_getNode_14 : decode cJ19_getNode 14 = .ok (.ifCond .le 134, 3) := dk_158 0 134 (dk_at dksJ19_getNode_0 14 rfl rfl)
theorem dJ19_getNode_17 : decode cJ19_getNode 17 = .ok (.aload_n 2, 1) := dk_44 (dk_at dksJ19_getNode_0 17 rfl rfl)
theorem dJ19_getNode_18 : decode cJ19_getNode 18 = .ok (.iload 5, 2) := dk_21 5 (dk_at dksJ19_getNode_0 18 rfl rfl)
theorem dJ19_getNode_20 : decode cJ19_getNode 20 = .ok (.iconst 1, 1) := dk_4 (dk_at dksJ19_getNode_0 20 rfl rfl)
theorem dJ19_getNode_21 : decode cJ19_getNode 21 = .ok (.isub, 1) := dk_100 (dk_at dksJ19_getNode_0 21 rfl rfl)
theorem dJ19_getNode_22 : decode cJ19_getNode 22 = .ok (.aload_n 1, 1) := dk_43 (dk_at dksJ19_getNode_0 22 rfl rfl)
theorem dJ19_getNode_23 : decode cJ19_getNode 23 = .ok (.invokestatic 149, 3) := dk_184 0 149 (dk_at dksJ19_getNode_1 0 rfl rfl)
theorem dJ19_getNode_26 : decode cJ19_getNode 26 = .ok (.dup, 1) := dk_89 (dk_at dksJ19_getNode_1 3 rfl rfl)
theorem dJ19_getNode_27 : decode cJ19_getNode 27 = .ok (.istore 6, 2) := dk_54 6 (dk_at dksJ19_getNode_1 4 rfl rfl)
theorem dJ19_getNode_29 : decode cJ19_getNode 29 = .ok (.iand, 1) := dk_126 (dk_at dksJ19_getNode_1 6 rfl rfl)
theorem dJ19_getNode_30 : decode cJ19_getNode 30 = .ok (.aaload, 1) := dk_50 (dk_at dksJ19_getNode_1 7 rfl rfl)
theorem dJ19_getNode_31 : decode cJ19_getNode 31 = .ok (.dup, 1) := dk_89 (dk_at dksJ19_getNode_1 8 rfl rfl)
theorem dJ19_getNode_32 : decode cJ19_getNode 32 = .ok (.astore_n 3, 1) := dk_78 (dk_at dksJ19_getNode_1 9 rfl rfl)
theorem dJ19_getNode_33 : decode cJ19_getNode 33 = .ok (.ifnull 115, 3) := dk_198 0 115 (dk_at dksJ19_getNode_1 10 rfl rfl)
theorem dJ19_getNode_36 : decode cJ19_getNode 36 = .ok (.aload_n 3, 1) := dk_45 (dk_at dksJ19_getNode_1 13 rfl rfl)
theorem dJ19_getNode_37 : decode cJ19_getNode 37 = .ok (.getfield 168, 3) := dk_180 0 168 (dk_at dksJ19_getNode_1 14 rfl rfl)
theorem dJ19_getNode_40 : decode cJ19_getNode 40 = .ok (.iload 6, 2) := dk_21 6 (dk_at dksJ19_getNode_1 17 rfl rfl)
theorem dJ19_getNode_42 : decode cJ19_getNode 42 = .ok (.if_icmp .ne 29, 3) := dk_160 0 29 (dk_at dksJ19_getNode_1 19 rfl rfl)
theorem dJ19_getNode_45 : decode cJ19_getNode 45 = .ok (.aload_n 3, 1) := dk_45 (dk_at dksJ19_getNode_1 22 rfl rfl)
theorem dJ19_getNode_46 : decode cJ19_getNode 46 = .ok (.getfield 170, 3) := dk_180 0 170 (dk_at dksJ19_getNode_2 0 rfl rfl)
theorem dJ19_getNode_49 : decode cJ19_getNode 49 = .ok (.dup, 1) := dk_89 (dk_at dksJ19_getNode_2 3 rfl rfl)
theorem dJ19_getNode_50 : decode cJ19_getNode 50 = .ok (.astore 7, 2) := dk_58 7 (dk_at dksJ19_getNode_2 4 rfl rfl)
theorem dJ19_getNode_52 : decode cJ19_getNode 52 = .ok (.aload_n 1, 1) := dk_43 (dk_at dksJ19_getNode_2 6 rfl rfl)
theorem dJ19_getNode_53 : decode cJ19_getNode 53 = .ok (.if_acmp .eq 16, 3) := dk_165 0 16 (dk_at dksJ19_getNode_2 7 rfl rfl)
theorem dJ19_getNode_56 : decode cJ19_getNode 56 = .ok (.aload_n 1, 1) := dk_43 (dk_at dksJ19_getNode_2 10 rfl rfl)
theorem dJ19_getNode_57 : decode cJ19_getNode 57 = .ok (.ifnull 14, 3) := dk_198 0 14 (dk_at dksJ19_getNode_2 11 rfl rfl)
theorem dJ19_getNode_60 : decode cJ19_getNode 60 = .ok (.aload_n 1, 1) := dk_43 (dk_at dksJ19_getNode_2 14 rfl rfl)
theorem dJ19_getNode_61 : decode cJ19_getNode 61 = .ok (.aload 7, 2) := dk_25 7 (dk_at dksJ19_getNode_2 15 rfl rfl)
theorem dJ19_getNode_63 : decode cJ19_getNode 63 = .ok (.invokevirtual 173, 3) := dk_182 0 173 (dk_at dksJ19_getNode_2 17 rfl rfl)
theorem dJ19_getNode_66 : decode cJ19_getNode 66 = .ok (.ifCond .eq 5, 3) := dk_153 0 5 (dk_at dksJ19_getNode_2 20 rfl rfl)
theorem dJ19_getNode_69 : decode cJ19_getNode 69 = .ok (.aload_n 3, 1) := dk_45 (dk_at dksJ19_getNode_2 23 rfl rfl)
theorem dJ19_getNode_70 : decode cJ19_getNode 70 = .ok (.areturn, 1) := dk_176 (dk_at dksJ19_getNode_3 0 rfl rfl)
theorem dJ19_getNode_71 : decode cJ19_getNode 71 = .ok (.aload_n 3, 1) := dk_45 (dk_at dksJ19_getNode_3 1 rfl rfl)
theorem dJ19_getNode_72 : decode cJ19_getNode 72 = .ok (.getfield 177, 3) := dk_180 0 177 (dk_at dksJ19_getNode_3 2 rfl rfl)
theorem dJ19_getNode_75 : decode cJ19_getNode 75 = .ok (.dup, 1) := dk_89 (dk_at dksJ19_getNode_3 5 rfl rfl)
theorem dJ19_getNode_76 : decode cJ19_getNode 76 = .ok (.astore 4, 2) := dk_58 4 (dk_at dksJ19_getNode_3 6 rfl rfl)
theorem dJ19_getNode_78 : decode cJ19_getNode 78 = .ok (.ifnull 70, 3) := dk_198 0 70 (dk_at dksJ19_getNode_3 8 rfl rfl)
theorem dJ19_getNode_81 : decode cJ19_getNode 81 = .ok (.aload_n 3, 1) := dk_45 (dk_at dksJ19_getNode_3 11 rfl rfl)
theorem dJ19_getNode_82 : decode cJ19_getNode 82 = .ok (.instanceof 180, 3) := dk_193 0 180 (dk_at dksJ19_getNode_3 12 rfl rfl)
theorem dJ19_getNode_85 : decode cJ19_getNode 85 = .ok (.ifCond .eq 14, 3) := dk_153 0 14 (dk_at dksJ19_getNode_3 15 rfl rfl)
theorem dJ19_getNode_88 : decode cJ19_getNode 88 = .ok (.aload_n 3, 1) := dk_45 (dk_at dksJ19_getNode_3 18 rfl rfl)
theorem dJ19_getNode_92 : decode cJ19_getNode 92 = .ok (.iload 6, 2) := dk_21 6 (dk_at dksJ19_getNode_3 22 rfl rfl)
theorem dJ19_getNode_94 : decode cJ19_getNode 94 = .ok (.aload_n 1, 1) := dk_43 (dk_at dksJ19_getNode_4 0 rfl rfl)
theorem dJ19_getNode_98 : decode cJ19_getNode 98 = .ok (.areturn, 1) := dk_176 (dk_at dksJ19_getNode_4 4 rfl rfl)
theorem dJ19_getNode_99 : decode cJ19_getNode 99 = .ok (.aload 4, 2) := dk_25 4 (dk_at dksJ19_getNode_4 5 rfl rfl)
theorem dJ19_getNode_101 : decode cJ19_getNode 101 = .ok (.getfield 168, 3) := dk_180 0 168 (dk_at dksJ19_getNode_4 7 rfl rfl)
theorem dJ19_getNode_104 : decode cJ19_getNode 104 = .ok (.iload 6, 2) := dk_21 6 (dk_at dksJ19_getNode_4 10 rfl rfl)
theorem dJ19_getNode_106 : decode cJ19_getNode 106 = .ok (.if_icmp .ne 31, 3) := dk_160 0 31 (dk_at dksJ19_getNode_4 12 rfl rfl)
theorem dJ19_getNode_109 : decode cJ19_getNode 109 = .ok (.aload 4, 2) := dk_25 4 (dk_at dksJ19_getNode_4 15 rfl rfl)
theorem dJ19_getNode_111 : decode cJ19_getNode 111 = .ok (.getfield 170, 3) := dk_180 0 170 (dk_at dksJ19_getNode_4 17 rfl rfl)
theorem dJ19_getNode_114 : decode cJ19_getNode 114 = .ok (.dup, 1) := dk_89 (dk_at dksJ19_getNode_4 20 rfl rfl)
theorem dJ19_getNode_115 : decode cJ19_getNode 115 = .ok (.astore 7, 2) := dk_58 7 (dk_at dksJ19_getNode_4 21 rfl rfl)
theorem dJ19_getNode_117 : decode cJ19_getNode 117 = .ok (.aload_n 1, 1) := dk_43 (dk_at dksJ19_getNode_4 23 rfl rfl)
theorem dJ19_getNode_118 : decode cJ19_getNode 118 = .ok (.if_acmp .eq 16, 3) := dk_165 0 16 (dk_at dksJ19_getNode_5 0 rfl rfl)
theorem dJ19_getNode_121 : decode cJ19_getNode 121 = .ok (.aload_n 1, 1) := dk_43 (dk_at dksJ19_getNode_5 3 rfl rfl)
theorem dJ19_getNode_122 : decode cJ19_getNode 122 = .ok (.ifnull 15, 3) := dk_198 0 15 (dk_at dksJ19_getNode_5 4 rfl rfl)
theorem dJ19_getNode_125 : decode cJ19_getNode 125 = .ok (.aload_n 1, 1) := dk_43 (dk_at dksJ19_getNode_5 7 rfl rfl)
theorem dJ19_getNode_126 : decode cJ19_getNode 126 = .ok (.aload 7, 2) := dk_25 7 (dk_at dksJ19_getNode_5 8 rfl rfl)
theorem dJ19_getNode_128 : decode cJ19_getNode 128 = .ok (.invokevirtual 173, 3) := dk_182 0 173 (dk_at dksJ19_getNode_5 10 rfl rfl)
theorem dJ19_getNode_131 : decode cJ19_getNode 131 = .ok (.ifCond .eq 6, 3) := dk_153 0 6 (dk_at dksJ19_getNode_5 13 rfl rfl)
theorem dJ19_getNode_134 : decode cJ19_getNode 134 = .ok (.aload 4, 2) := dk_25 4 (dk_at dksJ19_getNode_5 16 rfl rfl)
theorem dJ19_getNode_136 : decode cJ19_getNode 136 = .ok (.areturn, 1) := dk_176 (dk_at dksJ19_getNode_5 18 rfl rfl)
theorem dJ19_getNode_137 : decode cJ19_getNode 137 = .ok (.aload 4, 2) := dk_25 4 (dk_at dksJ19_getNode_5 19 rfl rfl)
theorem dJ19_getNode_139 : decode cJ19_getNode 139 = .ok (.getfield 177, 3) := dk_180 0 177 (dk_at dksJ19_getNode_5 21 rfl rfl)
theorem dJ19_getNode_142 : decode cJ19_getNode 142 = .ok (.dup, 1) := dk_89 (dk_at dksJ19_getNode_6 0 rfl rfl)
theorem dJ19_getNode_143 : decode cJ19_getNode 143 = .ok (.astore 4, 2) := dk_58 4 (dk_at dksJ19_getNode_6 1 rfl rfl)
theorem dJ19_getNode_145 : decode cJ19_getNode 145 = .ok (.ifnonnull (-46), 3) := dk_199 255 210 (dk_at dksJ19_getNode_6 3 rfl rfl)
theorem dJ19_getNode_148 : decode cJ19_getNode 148 = .ok (.aconst_null, 1) := dk_1 (dk_at dksJ19_getNode_6 6 rfl rfl)
theorem dJ19_getNode_149 : decode cJ19_getNode 149 = .ok (.areturn, 1) := dk_176 (dk_at dksJ19_getNode_6 7 rfl rfl)
theorem c_30_0 : LkP (OkP 30) [(0, o_aload 0 1), (1, o_get 31), (4, o_dup), (5, o_astore 2 1), (6, o_ifnull 148), (9, o_aload 2 1), (10, o_alen), (11, o_dup), (12, o_istore 5 2), (14, o_if (fun x => decide (x ≤ 0)) 148), (17, o_aload 2 1), (18, o_iload 5 2), (20, o_push 1 (.int 1)), (21, o_iop (fun x y => x - y)), (22, o_aload 1 1), (23, o_cs 31 1 false none), (26, o_dup), (27, o_istore 6 2), (29, o_iop (fun x y => x &&& y)), (30, o_rdQ), (31, o_dup), (32, o_astore 3 1), (33, o_ifnull 148), (36, o_aload 3 1), (37, o_get 143), (40, o_iload 6 2), (42, o_icmp (fun x y => decide (¬ x = y)) 71), (45, o_aload 3 1), (46, o_get 144), (49, o_dup), (50, o_astore 7 2), (52, o_aload 1 1), (53, o_acmp true 69), (56, o_aload 1 1), (57, o_ifnull 71), (60, o_aload 1 1), (61, o_aload 7 2), (63, o_cv [(8, 281)] 1 3 false none)] := lkp_c (P := OkP 30) ⟨(PuOK.ok (ok_aload_n dJ19_getNode_0 rfl)), m_aload⟩ (
  lkp_c (P := OkP 30) ⟨ok_get ⟨"java/util/HashMap", q599, Or.inl rfl⟩ dJ19_getNode_1, m_get⟩ (
  lkp_c (P := OkP 30) ⟨(PuOK.ok (ok_dup dJ19_getNode_4)), m_dup⟩ (
  lkp_c (P := OkP 30) ⟨(PuOK.ok (ok_astore_n dJ19_getNode_5 rfl)), m_astore⟩ (
  lkp_c (P := OkP 30) ⟨(PuOK.ok (ok_ifnull dJ19_getNode_6 rfl)), m_ifnull⟩ (
  lkp_c (P := OkP 30) ⟨(PuOK.ok (ok_aload_n dJ19_getNode_9 rfl)), m_aload⟩ (
  lkp_c (P := OkP 30) ⟨ok_alen dJ19_getNode_10, m_alen⟩ (
  lkp_c (P := OkP 30) ⟨(PuOK.ok (ok_dup dJ19_getNode_11)), m_dup⟩ (
  lkp_c (P := OkP 30) ⟨(PuOK.ok (ok_istore dJ19_getNode_12)), m_istore⟩ (
  lkp_c (P := OkP 30) ⟨(PuOK.ok (ok_if_le dJ19_getNode_14 rfl)), m_if⟩ (
  lkp_c (P := OkP 30) ⟨(PuOK.ok (ok_aload_n dJ19_getNode_17 rfl)), m_aload⟩ (
  lkp_c (P := OkP 30) ⟨(PuOK.ok (ok_iload dJ19_getNode_18)), m_iload⟩ (
  lkp_c (P := OkP 30) ⟨(PuOK.ok (ok_iconst dJ19_getNode_20 rfl)), m_push⟩ (
  lkp_c (P := OkP 30) ⟨(PuOK.ok (ok_isub dJ19_getNode_21)), m_iop⟩ (
  lkp_c (P := OkP 30) ⟨(PuOK.ok (ok_aload_n dJ19_getNode_22 rfl)), m_aload⟩ (
  lkp_c (P := OkP 30) ⟨ok_cs (tg_S ⟨rfl, by decide⟩ q834 q835 q138 q836 ⟨cn_9.1, cn_9.2, pd_11⟩ dJ19_getNode_23) hd_no, m_cs⟩ (
  lkp_c (P := OkP 30) ⟨(PuOK.ok (ok_dup dJ19_getNode_26)), m_dup⟩ (
  lkp_c (P := OkP 30) ⟨(PuOK.ok (ok_istore dJ19_getNode_27)), m_istore⟩ (
  lkp_c (P := OkP 30) ⟨(PuOK.ok (ok_iand dJ19_getNode_29)), m_iop⟩ (
  lkp_c (P := OkP 30) ⟨ok_aald dJ19_getNode_30, m_rdQ⟩ (
  lkp_c (P := OkP 30) ⟨(PuOK.ok (ok_dup dJ19_getNode_31)), m_dup⟩ (
  lkp_c (P := OkP 30) ⟨(PuOK.ok (ok_astore_n dJ19_getNode_32 rfl)), m_astore⟩ (
  lkp_c (P := OkP 30) ⟨(PuOK.ok (ok_ifnull dJ19_getNode_33 rfl)), m_ifnull⟩ (
  lkp_c (P := OkP 30) ⟨(PuOK.ok (ok_aload_n dJ19_getNode_36 rfl)), m_aload⟩ (
  lkp_c (P := OkP 30) ⟨ok_get ⟨"java/util/HashMap$Node", q2732, Or.inl rfl⟩ dJ19_getNode_37, m_get⟩ (
  lkp_c (P := OkP 30) ⟨(PuOK.ok (ok_iload dJ19_getNode_40)), m_iload⟩ (
  lkp_c (P := OkP 30) ⟨(PuOK.ok (ok_icmp_ne dJ19_getNode_42 rfl)), m_icmp⟩ (
  lkp_c (P := OkP 30) ⟨(PuOK.ok (ok_aload_n dJ19_getNode_45 rfl)), m_aload⟩ (
  lkp_c (P := OkP 30) ⟨ok_get ⟨"java/util/HashMap$Node", q2736, Or.inl rfl⟩ dJ19_getNode_46, m_get⟩ (
  lkp_c (P := OkP 30) ⟨(PuOK.ok (ok_dup dJ19_getNode_49)), m_dup⟩ (
  lkp_c (P := OkP 30) ⟨(PuOK.ok (ok_astore dJ19_getNode_50)), m_astore⟩ (
  lkp_c (P := OkP 30) ⟨(PuOK.ok (ok_aload_n dJ19_getNode_52 rfl)), m_aload⟩ (
  lkp_c (P := OkP 30) ⟨(PuOK.ok (ok_acmp_eq dJ19_getNode_53 rfl)), m_acmp⟩ (
  lkp_c (P := OkP 30) ⟨(PuOK.ok (ok_aload_n dJ19_getNode_56 rfl)), m_aload⟩ (
  lkp_c (P := OkP 30) ⟨(PuOK.ok (ok_ifnull dJ19_getNode_57 rfl)), m_ifnull⟩ (
  lkp_c (P := OkP 30) ⟨(PuOK.ok (ok_aload_n dJ19_getNode_60 rfl)), m_aload⟩ (
  lkp_c (P := OkP 30) ⟨(PuOK.ok (ok_aload dJ19_getNode_61)), m_aload⟩ (
  lkp_c (P := OkP 30) ⟨ok_cv (List.forall_mem_cons.mpr ⟨tg_A (ci := 8) (r := CLr 8) (y := 281) rfl (owner := "java/lang/Object") ⟨rfl, by decide⟩ q936 q938 q944 q945 q176 q946 ⟨cn_10.1, cn_10.2, pd_12⟩ q935 dJ19_getNode_63, (List.forall_mem_nil _)⟩) hd_no, m_cv⟩ (
  trivial))))))))))))))))))))))))))))))))))))))
theorem c_30_1 : LkP (OkP 30) [(66, o_if (fun x => decide (x = 0)) 71), (69, o_aload 3 1), (70, o_ret 0), (71, o_aload 3 1), (72, o_get 146), (75, o_dup), (76, o_astore 4 2), (78, o_ifnull 148), (81, o_aload 3 1), (82, o_inst [] [28]), (85, o_if (fun x => decide (x = 0)) 99), (88, o_aload 3 1), (92, o_iload 6 2), (94, o_aload 1 1), (98, o_ret 0), (99, o_aload 4 2), (101, o_get 143), (104, o_iload 6 2), (106, o_icmp (fun x y => decide (¬ x = y)) 137), (109, o_aload 4 2), (111, o_get 144), (114, o_dup), (115, o_astore 7 2), (117, o_aload 1 1), (118, o_acmp true 134), (121, o_aload 1 1), (122, o_ifnull 137), (125, o_aload 1 1), (126, o_aload 7 2)] := lkp_c (P := OkP 30) ⟨(PuOK.ok (ok_if_eq dJ19_getNode_66 rfl)), m_if⟩ (
  lkp_c (P := OkP 30) ⟨(PuOK.ok (ok_aload_n dJ19_getNode_69 rfl)), m_aload⟩ (
  lkp_c (P := OkP 30) ⟨ok_aret rfl (Or.inl ⟨_, rfl⟩) dJ19_getNode_70, m_ret⟩ (
  lkp_c (P := OkP 30) ⟨(PuOK.ok (ok_aload_n dJ19_getNode_71 rfl)), m_aload⟩ (
  lkp_c (P := OkP 30) ⟨ok_get ⟨"java/util/HashMap$Node", q2744, Or.inl rfl⟩ dJ19_getNode_72, m_get⟩ (
  lkp_c (P := OkP 30) ⟨(PuOK.ok (ok_dup dJ19_getNode_75)), m_dup⟩ (
  lkp_c (P := OkP 30) ⟨(PuOK.ok (ok_astore dJ19_getNode_76)), m_astore⟩ (
  lkp_c (P := OkP 30) ⟨(PuOK.ok (ok_ifnull dJ19_getNode_78 rfl)), m_ifnull⟩ (
  lkp_c (P := OkP 30) ⟨(PuOK.ok (ok_aload_n dJ19_getNode_81 rfl)), m_aload⟩ (
  lkp_c (P := OkP 30) ⟨ok_inst q983 castL_nil notL_node dJ19_getNode_82, m_inst⟩ (
  lkp_c (P := OkP 30) ⟨(PuOK.ok (ok_if_eq dJ19_getNode_85 rfl)), m_if⟩ (
  lkp_c (P := OkP 30) ⟨(PuOK.ok (ok_aload_n dJ19_getNode_88 rfl)), m_aload⟩ (
  lkp_c (P := OkP 30) ⟨(PuOK.ok (ok_iload dJ19_getNode_92)), m_iload⟩ (
  lkp_c (P := OkP 30) ⟨(PuOK.ok (ok_aload_n dJ19_getNode_94 rfl)), m_aload⟩ (
  lkp_c (P := OkP 30) ⟨ok_aret rfl (Or.inl ⟨_, rfl⟩) dJ19_getNode_98, m_ret⟩ (
  lkp_c (P := OkP 30) ⟨(PuOK.ok (ok_aload dJ19_getNode_99)), m_aload⟩ (
  lkp_c (P := OkP 30) ⟨ok_get ⟨"java/util/HashMap$Node", q2732, Or.inl rfl⟩ dJ19_getNode_101, m_get⟩ (
  lkp_c (P := OkP 30) ⟨(PuOK.ok (ok_iload dJ19_getNode_104)), m_iload⟩ (
  lkp_c (P := OkP 30) ⟨(PuOK.ok (ok_icmp_ne dJ19_getNode_106 rfl)), m_icmp⟩ (
  lkp_c (P := OkP 30) ⟨(PuOK.ok (ok_aload dJ19_getNode_109)), m_aload⟩ (
  lkp_c (P := OkP 30) ⟨ok_get ⟨"java/util/HashMap$Node", q2736, Or.inl rfl⟩ dJ19_getNode_111, m_get⟩ (
  lkp_c (P := OkP 30) ⟨(PuOK.ok (ok_dup dJ19_getNode_114)), m_dup⟩ (
  lkp_c (P := OkP 30) ⟨(PuOK.ok (ok_astore dJ19_getNode_115)), m_astore⟩ (
  lkp_c (P := OkP 30) ⟨(PuOK.ok (ok_aload_n dJ19_getNode_117 rfl)), m_aload⟩ (
  lkp_c (P := OkP 30) ⟨(PuOK.ok (ok_acmp_eq dJ19_getNode_118 rfl)), m_acmp⟩ (
  lkp_c (P := OkP 30) ⟨(PuOK.ok (ok_aload_n dJ19_getNode_121 rfl)), m_aload⟩ (
  lkp_c (P := OkP 30) ⟨(PuOK.ok (ok_ifnull dJ19_getNode_122 rfl)), m_ifnull⟩ (
  lkp_c (P := OkP 30) ⟨(PuOK.ok (ok_aload_n dJ19_getNode_125 rfl)), m_aload⟩ (
  lkp_c (P := OkP 30) ⟨(PuOK.ok (ok_aload dJ19_getNode_126)), m_aload⟩ (
  trivial)))))))))))))))))))))))))))))
theorem c_30_2 : LkP (OkP 30) [(128, o_cv [(8, 281)] 1 3 false none), (131, o_if (fun x => decide (x = 0)) 137), (134, o_aload 4 2), (136, o_ret 0), (137, o_aload 4 2), (139, o_get 146), (142, o_dup), (143, o_astore 4 2), (145, o_ifnonnull 99), (148, o_push 1 .null), (149, o_ret 0)] := lkp_c (P := OkP 30) ⟨ok_cv (List.forall_mem_cons.mpr ⟨tg_A (ci := 8) (r := CLr 8) (y := 281) rfl (owner := "java/lang/Object") ⟨rfl, by decide⟩ q936 q938 q944 q945 q176 q946 ⟨cn_10.1, cn_10.2, pd_12⟩ q935 dJ19_getNode_128, (List.forall_mem_nil _)⟩) hd_no, m_cv⟩ (
  lkp_c (P := OkP 30) ⟨(PuOK.ok (ok_if_eq dJ19_getNode_131 rfl)), m_if⟩ (
  lkp_c (P := OkP 30) ⟨(PuOK.ok (ok_aload dJ19_getNode_134)), m_aload⟩ (
  lkp_c (P := OkP 30) ⟨ok_aret rfl (Or.inl ⟨_, rfl⟩) dJ19_getNode_136, m_ret⟩ (
  lkp_c (P := OkP 30) ⟨(PuOK.ok (ok_aload dJ19_getNode_137)), m_aload⟩ (
  lkp_c (P := OkP 30) ⟨ok_get ⟨"java/util/HashMap$Node", q2744, Or.inl rfl⟩ dJ19_getNode_139, m_get⟩ (
  lkp_c (P := OkP 30) ⟨(PuOK.ok (ok_dup dJ19_getNode_142)), m_dup⟩ (
  lkp_c (P := OkP 30) ⟨(PuOK.ok (ok_astore dJ19_getNode_143)), m_astore⟩ (
  lkp_c (P := OkP 30) ⟨(PuOK.ok (ok_ifnonnull dJ19_getNode_145 rfl)), m_ifnonnull⟩ (
  lkp_c (P := OkP 30) ⟨(PuOK.ok (ok_null dJ19_getNode_148)), m_push⟩ (
  lkp_c (P := OkP 30) ⟨ok_aret rfl (Or.inl ⟨_, rfl⟩) dJ19_getNode_149, m_ret⟩ (
  trivial)))))))))))
theorem mt_30 : MtOK TB NT IT 30 := ⟨by decide +kernel, rfl, (fun h => by cases h), Or.inl ⟨rfl, rfl⟩, rfl, by decide, lk2_all (P := OkP 30) ⟨c_30_0, c_30_1, c_30_2, trivial⟩⟩
def dkwJ19_hash_0 : List UInt8 := [42, 199, 0, 7, 3, 167, 0, 14, 42, 182, 0, 1, 89, 60, 27, 16, 16, 124, 130, 172]
abbrev dktJ19_hash_0 : List UInt8 := dkwJ19_hash_0 ++ []
theorem dksJ19_hash_0 : cJ19_hash.data.toList.drop 0 = dktJ19_hash_0 := by decide +kernel
theorem dJ19_hash_0 : decode cJ19_hash 0 = .ok (.aload_n 0, 1) := dk_42 (dk_at dksJ19_hash_0 0 rfl rfl)
theorem dJ19_hash_1 : decode cJ19_hash 1 = .ok (.ifnonnull 7, 3) := dk_199 0 7 (dk_at dksJ19_hash_0 1 rfl rfl)
theorem dJ19_hash_4 : decode cJ19_hash 4 = .ok (.iconst 0, 1) := dk_3 (dk_at dksJ19_hash_0 4 rfl rfl)
theorem dJ19_hash_5 : decode cJ19_hash 5 = .ok (.goto 14, 3) := dk_167 0 14 (dk_at dksJ19_hash_0 5 rfl rfl)
theorem dJ19_hash_8 : decode cJ19_hash 8 = .ok (.aload_n 0, 1) := dk_42 (dk_at dksJ19_hash_0 8 rfl rfl)
theorem dJ19_hash_9 : decode cJ19_hash 9 = .ok (.invokevirtual 1, 3) := dk_182 0 1 (dk_at dksJ19_hash_0 9 rfl rfl)
theorem dJ19_hash_12 : decode cJ19_hash 12 = .ok (.dup, 1) := dk_89 (dk_at dksJ19_hash_0 12 rfl rfl)
theorem dJ19_hash_13 : decode cJ19_hash 13 = .ok (.istore_n 1, 1) := dk_60 (dk_at dksJ19_hash_0 13 rfl rfl)
theorem dJ19_hash_14 : decode cJ19_hash 14 = .ok (.iload_n 1, 1) := dk_27 (dk_at dksJ19_hash_0 14 rfl rfl)
theorem dJ19_hash_15 : decode cJ19_hash 15 = .ok (.bipush 16, 2) := dk_16 16 (dk_at dksJ19_hash_0 15 rfl rfl)
theorem dJ19_hash_17 : decode cJ19_hash 17 = .ok (.iushr, 1) := dk_124 (dk_at dksJ19_hash_0 17 rfl rfl)
theorem dJ19_hash_18 : decode cJ19_hash 18 = .ok (.ixor, 1) := dk_130 (dk_at dksJ19_hash_0 18 rfl rfl)
theorem dJ19_hash_19 : decode cJ19_hash 19 = .ok (.ireturn, 1) := dk_172 (dk_at dksJ19_hash_0 19 rfl rfl)
theorem c_31_0 : LkP (OkP 31) [(0, o_aload 0 1), (1, o_ifnonnull 8), (4, o_push 1 (.int 0)), (5, o_goto 19), (8, o_aload 0 1), (9, o_cv [(8, 280)] 0 3 false none), (12, o_dup), (13, o_istore 1 1), (14, o_iload 1 1), (15, o_push 2 (.int 16)), (17, o_iop (fun x y => (x.toUInt32 >>> (y.toUInt32 &&& Int32.toUInt32 31)).toInt32)), (18, o_iop (fun x y => x ^^^ y)), (19, o_ret 1)] := lkp_c (P := OkP 31) ⟨(PuOK.ok (ok_aload_n dJ19_hash_0 rfl)), m_aload⟩ (
  lkp_c (P := OkP 31) ⟨(PuOK.ok (ok_ifnonnull dJ19_hash_1 rfl)), m_ifnonnull⟩ (
  lkp_c (P := OkP 31) ⟨(PuOK.ok (ok_iconst dJ19_hash_4 rfl)), m_push⟩ (
  lkp_c (P := OkP 31) ⟨(PuOK.ok (ok_goto dJ19_hash_5 rfl)), m_goto⟩ (
  lkp_c (P := OkP 31) ⟨(PuOK.ok (ok_aload_n dJ19_hash_8 rfl)), m_aload⟩ (
  lkp_c (P := OkP 31) ⟨ok_cv (List.forall_mem_cons.mpr ⟨tg_A (ci := 8) (r := CLr 8) (y := 280) rfl (owner := "java/lang/Object") ⟨rfl, by decide⟩ q838 q840 q846 q847 q176 q848 ⟨cn_10.1, cn_10.2, pd_13⟩ q837 dJ19_hash_9, (List.forall_mem_nil _)⟩) hd_no, m_cv⟩ (
  lkp_c (P := OkP 31) ⟨(PuOK.ok (ok_dup dJ19_hash_12)), m_dup⟩ (
  lkp_c (P := OkP 31) ⟨(PuOK.ok (ok_istore_n dJ19_hash_13 rfl)), m_istore⟩ (
  lkp_c (P := OkP 31) ⟨(PuOK.ok (ok_iload_n dJ19_hash_14 rfl)), m_iload⟩ (
  lkp_c (P := OkP 31) ⟨(PuOK.ok (ok_bipush dJ19_hash_15 rfl)), m_push⟩ (
  lkp_c (P := OkP 31) ⟨(PuOK.ok (ok_iushr dJ19_hash_17)), m_iop⟩ (
  lkp_c (P := OkP 31) ⟨(PuOK.ok (ok_ixor dJ19_hash_18)), m_iop⟩ (
  lkp_c (P := OkP 31) ⟨ok_iret rfl rfl (by decide) dJ19_hash_19, m_ret⟩ (
  trivial)))))))))))))
theorem mt_31 : MtOK TB NT IT 31 := ⟨by decide +kernel, rfl, (fun h => by cases h), Or.inl ⟨rfl, rfl⟩, rfl, by decide, lk2_all (P := OkP 31) ⟨c_31_0, trivial⟩⟩
def dkwJ19_put_0 : List UInt8 := [42, 43, 184, 0, 149, 43, 44, 3, 4, 182, 0, 152, 176]
abbrev dktJ19_put_0 : List UInt8 := dkwJ19_put_0 ++ []
theorem dksJ19_put_0 : cJ19_put.data.toList.drop 0 = dktJ19_put_0 := by decide +kernel
theorem dJ19_put_0 : decode cJ19_put 0 = .ok (.aload_n 0, 1) := dk_42 (dk_at dksJ19_put_0 0 rfl rfl)
theorem dJ19_put_1 : decode cJ19_put 1 = .ok (.aload_n 1, 1) := dk_43 (dk_at dksJ19_put_0 1 rfl rfl)
theorem dJ19_put_2 : decode cJ19_put 2 = .ok (.invokestatic 149, 3) := dk_184 0 149 (dk_at dksJ19_put_0 2 rfl rfl)
theorem dJ19_put_5 : decode cJ19_put 5 = .ok (.aload_n 1, 1) := dk_43 (dk_at dksJ19_put_0 5 rfl rfl)
theorem dJ19_put_6 : decode cJ19_put 6 = .ok (.aload_n 2, 1) := dk_44 (dk_at dksJ19_put_0 6 rfl rfl)
theorem dJ19_put_7 : decode cJ19_put 7 = .ok (.iconst 0, 1) := dk_3 (dk_at dksJ19_put_0 7 rfl rfl)
theorem dJ19_put_8 : decode cJ19_put 8 = .ok (.iconst 1, 1) := dk_4 (dk_at dksJ19_put_0 8 rfl rfl)
theorem dJ19_put_9 : decode cJ19_put 9 = .ok (.invokevirtual 152, 3) := dk_182 0 152 (dk_at dksJ19_put_0 9 rfl rfl)
theorem dJ19_put_12 : decode cJ19_put 12 = .ok (.areturn, 1) := dk_176 (dk_at dksJ19_put_0 12 rfl rfl)
theorem c_32_0 : LkP (OkP 32) [(0, o_aload 0 1), (1, o_aload 1 1), (2, o_cs 31 1 false none), (5, o_aload 1 1), (6, o_aload 2 1), (7, o_push 1 (.int 0)), (8, o_push 1 (.int 1)), (9, o_cv [(6, 33)] 5 3 false none), (12, o_ret 0)] := lkp_c (P := OkP 32) ⟨(PuOK.ok (ok_aload_n dJ19_put_0 rfl)), m_aload⟩ (
  lkp_c (P := OkP 32) ⟨(PuOK.ok (ok_aload_n dJ19_put_1 rfl)), m_aload⟩ (
  lkp_c (P := OkP 32) ⟨ok_cs (tg_S ⟨rfl, by decide⟩ q834 q835 q138 q836 ⟨cn_9.1, cn_9.2, pd_11⟩ dJ19_put_2) hd_no, m_cs⟩ (
  lkp_c (P := OkP 32) ⟨(PuOK.ok (ok_aload_n dJ19_put_5 rfl)), m_aload⟩ (
  lkp_c (P := OkP 32) ⟨(PuOK.ok (ok_aload_n dJ19_put_6 rfl)), m_aload⟩ (
  lkp_c (P := OkP 32) ⟨(PuOK.ok (ok_iconst dJ19_put_7 rfl)), m_push⟩ (
  lkp_c (P := OkP 32) ⟨(PuOK.ok (ok_iconst dJ19_put_8 rfl)), m_push⟩ (
  lkp_c (P := OkP 32) ⟨ok_cv (List.forall_mem_cons.mpr ⟨tg_V (ci := 6) (r := CLr 6) (y := 33) rfl ⟨rfl, by decide⟩ rfl q2698 q2699 q2700 q138 q2701 ⟨cn_9.1, cn_9.2, pd_14⟩ dJ19_put_9, (List.forall_mem_nil _)⟩) hd_no, m_cv⟩ (
  lkp_c (P := OkP 32) ⟨ok_aret rfl (Or.inl ⟨_, rfl⟩) dJ19_put_12, m_ret⟩ (
  trivial)))))))))
theorem mt_32 : MtOK TB NT IT 32 := ⟨by decide +kernel, rfl, (fun h => by cases h), Or.inl ⟨rfl, rfl⟩, rfl, by decide, lk2_all (P := OkP 32) ⟨c_32_0, trivial⟩⟩
def dkwJ19_putVal_12 : List UInt8 := [181, 0, 156, 42, 180, 0, 88, 164, 0, 8, 42, 182, 0, 117, 87, 42, 21, 5, 182, 0, 205, 1, 176]
abbrev dktJ19_putVal_12 : List UInt8 := dkwJ19_putVal_12 ++ []
def dkwJ19_putVal_11 : List UInt8 := [182, 0, 198, 25, 12, 176, 42, 89, 180, 0, 202, 4, 96, 181, 0, 202, 42, 89, 180, 0, 156, 4, 96, 90]
abbrev dktJ19_putVal_11 : List UInt8 := dkwJ19_putVal_11 ++ dktJ19_putVal_12
def dkwJ19_putVal_10 : List UInt8 := [180, 0, 162, 58, 12, 21, 4, 153, 0, 8, 25, 12, 199, 0, 9, 25, 10, 45, 181, 0, 162, 42, 25, 10]
abbrev dktJ19_putVal_10 : List UInt8 := dkwJ19_putVal_10 ++ dktJ19_putVal_11
def dkwJ19_putVal_9 : List UInt8 := [153, 0, 6, 167, 0, 13, 25, 10, 58, 7, 132, 12, 1, 167, 255, 171, 25, 10, 198, 0, 35, 25, 10]
abbrev dktJ19_putVal_9 : List UInt8 := dkwJ19_putVal_9 ++ dktJ19_putVal_10
def dkwJ19_putVal_8 : List UInt8 := [25, 10, 180, 0, 170, 89, 58, 11, 44, 165, 0, 29, 44, 198, 0, 15, 44, 25, 11, 182, 0, 173]
abbrev dktJ19_putVal_8 : List UInt8 := dkwJ19_putVal_8 ++ dktJ19_putVal_9
def dkwJ19_putVal_7 : List UInt8 := [16, 7, 161, 0, 60, 42, 25, 6, 27, 182, 0, 194, 167, 0, 50, 25, 10, 180, 0, 168, 27, 160, 0, 31]
abbrev dktJ19_putVal_7 : List UInt8 := dkwJ19_putVal_7 ++ dktJ19_putVal_8
def dkwJ19_putVal_6 : List UInt8 := [180, 0, 177, 89, 58, 10, 199, 0, 33, 25, 7, 42, 27, 44, 45, 1, 182, 0, 186, 181, 0, 177, 21, 12]
abbrev dktJ19_putVal_6 : List UInt8 := dkwJ19_putVal_6 ++ dktJ19_putVal_7
def dkwJ19_putVal_5 : List UInt8 := [192, 0, 180, 42, 25, 6, 27, 44, 45, 182, 0, 190, 58, 10, 167, 0, 94, 3, 54, 12, 25, 7]
abbrev dktJ19_putVal_5 : List UInt8 := dkwJ19_putVal_5 ++ dktJ19_putVal_6
def dkwJ19_putVal_4 : List UInt8 := [182, 0, 173, 153, 0, 10, 25, 7, 58, 10, 167, 0, 121, 25, 7, 193, 0, 180, 153, 0, 22, 25, 7]
abbrev dktJ19_putVal_4 : List UInt8 := dkwJ19_putVal_4 ++ dktJ19_putVal_5
def dkwJ19_putVal_3 : List UInt8 := [160, 0, 35, 25, 7, 180, 0, 170, 89, 58, 11, 44, 165, 0, 16, 44, 198, 0, 19, 44, 25, 11]
abbrev dktJ19_putVal_3 : List UInt8 := dkwJ19_putVal_3 ++ dktJ19_putVal_4
def dkwJ19_putVal_2 : List UInt8 := [25, 6, 21, 9, 42, 27, 44, 45, 1, 182, 0, 186, 83, 167, 0, 199, 25, 7, 180, 0, 168, 27]
abbrev dktJ19_putVal_2 : List UInt8 := dkwJ19_putVal_2 ++ dktJ19_putVal_3
def dkwJ19_putVal_1 : List UInt8 := [58, 6, 190, 54, 8, 25, 6, 21, 8, 4, 100, 27, 126, 89, 54, 9, 50, 89, 58, 7, 199, 0, 19]
abbrev dktJ19_putVal_1 : List UInt8 := dkwJ19_putVal_1 ++ dktJ19_putVal_2
def dkwJ19_putVal_0 : List UInt8 := [42, 180, 0, 105, 89, 58, 6, 198, 0, 12, 25, 6, 190, 89, 54, 8, 154, 0, 13, 42, 182, 0, 117, 89]
abbrev dktJ19_putVal_0 : List UInt8 := dkwJ19_putVal_0 ++ dktJ19_putVal_1
theorem dksJ19_putVal_0 : cJ19_putVal.data.toList.drop 0 = dktJ19_putVal_0 := by decide +kernel
theorem dksJ19_putVal_1 : cJ19_putVal.data.toList.drop 24 = dktJ19_putVal_1 := dk_seg dksJ19_putVal_0 24 rfl rfl
theorem dksJ19_putVal_2 : cJ19_putVal.data.toList.drop 47 = dktJ19_putVal_2 := dk_seg dksJ19_putVal_1 23 rfl rfl
theorem dksJ19_putVal_3 : cJ19_putVal.data.toList.drop 69 = dktJ19_putVal_3 := dk_seg dksJ19_putVal_2 22 rfl rfl
theorem dksJ19_putVal_4 : cJ19_putVal.data.toList.drop 91 = dktJ19_putVal_4 := dk_seg dksJ19_putVal_3 22 rfl rfl
theorem dksJ19_putVal_5 : cJ19_putVal.data.toList.drop 114 = dktJ19_putVal_5 := dk_seg dksJ19_putVal_4 23 rfl rfl
theorem dksJ19_putVal_6 : cJ19_putVal.data.toList.drop 136 = dktJ19_putVal_6 := dk_seg dksJ19_putVal_5 22 rfl rfl
theorem dksJ19_putVal_7 : cJ19_putVal.data.toList.drop 160 = dktJ19_putVal_7 := dk_seg dksJ19_putVal_6 24 rfl rfl
theorem dksJ19_putVal_8 : cJ19_putVal.data.toList.drop 184 = dktJ19_putVal_8 := dk_seg dksJ19_putVal_7 24 rfl rfl
theorem dksJ19_putVal_9 : cJ19_putVal.data.toList.drop 206 = dktJ19_putVal_9 := dk_seg dksJ19_putVal_8 22 rfl rfl
theorem dksJ19_putVal_10 : cJ19_putVal.data.toList.drop 229 = dktJ19_putVal_10 := dk_seg dksJ19_putVal_9 23 rfl rfl
theorem dksJ19_putVal_11 : cJ19_putVal.data.toList.drop 253 = dktJ19_putVal_11 := dk_seg dksJ19_putVal_10 24 rfl rfl
theorem dksJ19_putVal_12 : cJ19_putVal.data.toList.drop 277 = dktJ19_putVal_12 := dk_seg dksJ19_putVal_11 24 rfl rfl
theorem dJ19_putVal_0 : decode cJ19_putVal 0 = .ok (.aload_n 0, 1) := dk_42 (dk_at dksJ19_putVal_0 0 rfl rfl)
theorem dJ19_putVal_1 : decode cJ19_putVal 1 = .ok (.getfield 105, 3) := dk_180 0 105 (dk_at dksJ19_putVal_0 1 rfl rfl)
theorem dJ19_putVal_4 : decode cJ19_putVal 4 = .ok (.dup, 1) := dk_89 (dk_at dksJ19_putVal_0 4 rfl rfl)
theorem dJ19_putVal_5 : decode cJ19_putVal 5 = .ok (.astore 6, 2) := dk_58 6 (dk_at dksJ19_putVal_0 5 rfl rfl)
theorem dJ19_putVal_7 : decode cJ19_putVal 7 = .ok (.ifnull 12, 3) := dk_198 0 12 (dk_at dksJ19_putVal_0 7 rfl rfl)
theorem dJ19_putVal_10 : decode cJ19_putVal 10 = .ok (.aload 6, 2) := dk_25 6 (dk_at dksJ19_putVal_0 10 rfl rfl)
theorem dJ19_putVal_12 : decode cJ19_putVal 12 = .ok (.arraylength, 1) := dk_190 (dk_at dksJ19_putVal_0 12 rfl rfl)
theorem dJ19_putVal_13 : decode cJ19_putVal 13 = .ok (.dup, 1) := dk_89 (dk_at dksJ19_putVal_0 13 rfl rfl)
theorem dJ19_putVal_14 : decode cJ19_putVal 14 = .ok (.istore 8, 2) := dk_54 8 (dk_at dksJ19_putVal_0 14 rfl rfl)
theorem dJ19_putVal_16 : decode cJ19_putVal 16 = .ok (.ifCond .ne 13, 3) := dk_154 0 13 (dk_at dksJ19_putVal_0 16 rfl rfl)
theorem dJ19_putVal_19 : decode cJ19_putVal 19 = .ok (.aload_n 0, 1) := dk_42 (dk_at dksJ19_putVal_0 19 rfl rfl)
theorem dJ19_putVal_20 : decode cJ19_putVal 20 = .ok (.invokevirtual 117, 3) := dk_182 0 117 (dk_at dksJ19_putVal_0 20 rfl rfl)
theorem dJ19_putVal_23 : decode cJ19_putVal 23 = .ok (.dup, 1) := dk_89 (dk_at dksJ19_putVal_0 23 rfl rfl)
theorem dJ19_putVal_24 : decode cJ19_putVal 24 = .ok (.astore 6, 2) := dk_58 6 (dk_at dksJ19_putVal_1 0 rfl rfl)
theorem dJ19_putVal_26 : decode cJ19_putVal 26 = .ok (.arraylength, 1) := dk_190 (dk_at dksJ19_putVal_1 2 rfl rfl)
theorem dJ19_putVal_27 : decode cJ19_putVal 27 = .ok (.istore 8, 2) := dk_54 8 (dk_at dksJ19_putVal_1 3 rfl rfl)
theorem dJ19_putVal_29 : decode cJ19_putVal 29 = .ok (.aload 6, 2) := dk_25 6 (dk_at dksJ19_putVal_1 5 rfl rfl)
theorem dJ19_putVal_31 : decode cJ19_putVal 31 = .ok (.iload 8, 2) := dk_21 8 (dk_at dksJ19_putVal_1 7 rfl rfl)
theorem dJ19_putVal_33 : decode cJ19_putVal 33 = .ok (.iconst 1, 1) := dk_4 (dk_at dksJ19_putVal_1 9 rfl rfl)
theorem dJ19_putVal_34 : decode cJ19_putVal 34 = .ok (.isub, 1) := dk_100 (dk_at dksJ19_putVal_1 10 rfl rfl)
theorem dJ19_putVal_35 : decode cJ19_putVal 35 = .ok (.iload_n 1, 1) := dk_27 (dk_at dksJ19_putVal_1 11 rfl rfl)
theorem dJ19_putVal_36 : decode cJ19_putVal 36 = .ok (.iand, 1) := dk_126 (dk_at dksJ19_putVal_1 12 rfl rfl)
theorem dJ19_putVal_37 : decode cJ19_putVal 37 = .ok (.dup, 1) := dk_89 (dk_at dksJ19_putVal_1 13 rfl rfl)
theorem dJ19_putVal_38 : decode cJ19_putVal 38 = .ok (.istore 9, 2) := dk_54 9 (dk_at dksJ19_putVal_1 14 rfl rfl)
theorem dJ19_putVal_40 : decode cJ19_putVal 40 = .ok (.aaload, 1) := dk_50 (dk_at dksJ19_putVal_1 16 rfl rfl)
theorem dJ19_putVal_41 : decode cJ19_putVal 41 = .ok (.dup, 1) := dk_89 (dk_at dksJ19_putVal_1 17 rfl rfl)
theorem dJ19_putVal_42 : decode cJ19_putVal 42 = .ok (.astore 7, 2) := dk_58 7 (dk_at dksJ19_putVal_1 18 rfl rfl)
theorem dJ19_putVal_44 : decode cJ19_putVal 44 = .ok (.ifnonnull 19, 3) := dk_199 0 19 (dk_at dksJ19_putVal_1 20 rfl rfl)
theorem dJ19_putVal_47 : decode cJ19_putVal 47 = .ok (.aload 6, 2) := dk_25 6 (dk_at dksJ19_putVal_2 0 rfl rfl)
theorem dJ19_putVal_49 : decode cJ19_putVal 49 = .ok (.iload 9, 2) := dk_21 9 (dk_at dksJ19_putVal_2 2 rfl rfl)
theorem dJ19_putVal_51 : decode cJ19_putVal 51 = .ok (.aload_n 0, 1) := dk_42 (dk_at dksJ19_putVal_2 4 rfl rfl)
theorem dJ19_putVal_52 : decode cJ19_putVal 52 = .ok (.iload_n 1, 1) := dk_27 (dk_at dksJ19_putVal_2 5 rfl rfl)
theorem dJ19_putVal_53 : decode cJ19_putVal 53 = .ok (.aload_n 2, 1) := dk_44 (dk_at dksJ19_putVal_2 6 rfl rfl)
theorem dJ19_putVal_54 : decode cJ19_putVal 54 = .ok (.aload_n 3, 1) := dk_45 (dk_at dksJ19_putVal_2 7 rfl rfl)
theorem dJ19_putVal_55 : decode cJ19_putVal 55 = .ok (.aconst_null, 1) := dk_1 (dk_at dksJ19_putVal_2 8 rfl rfl)
theorem dJ19_putVal_56 : decode cJ19_putVal 56 = .ok (.invokevirtual 186, 3) := dk_182 0 186 (dk_at dksJ19_putVal_2 9 rfl rfl)
theorem dJ19_putVal_59 : decode cJ19_putVal 59 = .ok (.aastore, 1) := dk_83 (dk_at dksJ19_putVal_2 12 rfl rfl)
theorem dJ19_putVal_60 : decode cJ19_putVal 60 = .ok (.goto 199, 3) := dk_167 0 199 (dk_at dksJ19_putVal_2 13 rfl rfl)
theorem dJ19_putVal_63 : decode cJ19_putVal 63 = .ok (.aload 7, 2) := dk_25 7 (dk_at dksJ19_putVal_2 16 rfl rfl)
theorem dJ19_putVal_65 : decode cJ19_putVal 65 = .ok (.getfield 168, 3) := dk_180 0 168 (dk_at dksJ19_putVal_2 18 rfl rfl)
theorem dJ19_putVal_68 : decode cJ19_putVal 68 = .ok (.iload_n 1, 1) := dk_27 (dk_at dksJ19_putVal_2 21 rfl rfl)
theorem dJ19_putVal_69 : decode cJ19_putVal 69 = .ok (.if_icmp .ne 35, 3) := dk_160 0 35 (dk_at dksJ19_putVal_3 0 rfl rfl)
theorem dJ19_putVal_72 : decode cJ19_putVal 72 = .ok (.aload 7, 2) := dk_25 7 (dk_at dksJ19_putVal_3 3 rfl rfl)
theorem dJ19_putVal_74 : decode cJ19_putVal 74 = .ok (.getfield 170, 3) := dk_180 0 170 (dk_at dksJ19_putVal_3 5 rfl rfl)
theorem dJ19_putVal_77 : decode cJ19_putVal 77 = .ok (.dup, 1) := dk_89 (dk_at dksJ19_putVal_3 8 rfl rfl)
theorem dJ19_putVal_78 : decode cJ19_putVal 78 = .ok (.astore 11, 2) := dk_58 11 (dk_at dksJ19_putVal_3 9 rfl rfl)
theorem dJ19_putVal_80 : decode cJ19_putVal 80 = .ok (.aload_n 2, 1) := dk_44 (dk_at dksJ19_putVal_3 11 rfl rfl)
theorem dJ19_putVal_81 : decode cJ19_putVal 81 = .ok (.if_acmp .eq 16, 3) := dk_165 0 16 (dk_at dksJ19_putVal_3 12 rfl rfl)
theorem dJ19_putVal_84 : decode cJ19_putVal 84 = .ok (.aload_n 2, 1) := dk_44 (dk_at dksJ19_putVal_3 15 rfl rfl)
theorem dJ19_putVal_85 : decode cJ19_putVal 85 = .ok (.ifnull 19, 3) := dk_198 0 19 (dk_at dksJ19_putVal_3 16 rfl rfl)
theorem dJ19_putVal_88 : decode cJ19_putVal 88 = .ok (.aload_n 2, 1) := dk_44 (dk_at dksJ19_putVal_3 19 rfl rfl)
theorem dJ19_putVal_89 : decode cJ19_putVal 89 = .ok (.aload 11, 2) := dk_25 11 (dk_at dksJ19_putVal_3 20 rfl rfl)
theorem dJ19_putVal_91 : decode cJ19_putVal 91 = .ok (.invokevirtual 173, 3) := dk_182 0 173 (dk_at dksJ19_putVal_4 0 rfl rfl)
theorem dJ19_putVal_94 : decode cJ19_putVal 94 = .ok (.ifCond .eq 10, 3) := dk_153 0 10 (dk_at dksJ19_putVal_4 3 rfl rfl)
theorem dJ19_putVal_97 : decode cJ19_putVal 97 = .ok (.aload 7, 2) := dk_25 7 (dk_at dksJ19_putVal_4 6 rfl rfl)
theorem dJ19_putVal_99 : decode cJ19_putVal 99 = .ok (.astore 10, 2) := dk_58 10 (dk_at dksJ19_putVal_4 8 rfl rfl)
theorem dJ19_putVal_101 : decode cJ19_putVal 101 = .ok (.goto 121, 3) := dk_167 0 121 (dk_at dksJ19_putVal_4 10 rfl rfl)
theorem dJ19_putVal_104 : decode cJ19_putVal 104 = .ok (.aload 7, 2) := dk_25 7 (dk_at dksJ19_putVal_4 13 rfl rfl)
theorem dJ19_putVal_106 : decode cJ19_putVal 106 = .ok (.instanceof 180, 3) := dk_193 0 180 (dk_at dksJ19_putVal_4 15 rfl rfl)
theorem dJ19_putVal_109 : decode cJ19_putVal 109 = .ok (.ifCond .eq 22, 3) := dk_153 0 22 (dk_at dksJ19_putVal_4 18 rfl rfl)
theorem dJ19_putVal_112 : decode cJ19_putVal 112 = .ok (.aload 7, 2) := dk_25 7 (dk_at dksJ19_putVal_4 21 rfl rfl)
theorem dJ19_putVal_117 : decode cJ19_putVal 117 = .ok (.aload_n 0, 1) := dk_42 (dk_at dksJ19_putVal_5 3 rfl rfl)
theorem dJ19_putVal_118 : decode cJ19_putVal 118 = .ok (.aload 6, 2) := dk_25 6 (dk_at dksJ19_putVal_5 4 rfl rfl)
theorem dJ19_putVal_120 : decode cJ19_putVal 120 = .ok (.iload_n 1, 1) := dk_27 (dk_at dksJ19_putVal_5 6 rfl rfl)
theorem dJ19_putVal_121 : decode cJ19_putVal 121 = .ok (.aload_n 2, 1) := dk_44 (dk_at dksJ19_putVal_5 7 rfl rfl)
theorem dJ19_putVal_122 : decode cJ19_putVal 122 = .ok (.aload_n 3, 1) := dk_45 (dk_at dksJ19_putVal_5 8 rfl rfl)
theorem dJ19_putVal_126 : decode cJ19_putVal 126 = .ok (.astore 10, 2) := dk_58 10 (dk_at dksJ19_putVal_5 12 rfl rfl)
theorem dJ19_putVal_128 : decode cJ19_putVal 128 = .ok (.goto 94, 3) := dk_167 0 94 (dk_at dksJ19_putVal_5 14 rfl rfl)
theorem dJ19_putVal_131 : decode cJ19_putVal 131 = .ok (.iconst 0, 1) := dk_3 (dk_at dksJ19_putVal_5 17 rfl rfl)
theorem dJ19_putVal_132 : decode cJ19_putVal 132 = .ok (.istore 12, 2) := dk_54 12 (dk_at dksJ19_putVal_5 18 rfl rfl)
theorem dJ19_putVal_134 : decode cJ19_putVal 134 = .ok (.aload 7, 2) := dk_25 7 (dk_at dksJ19_putVal_5 20 rfl rfl)
theorem dJ19_putVal_136 : decode cJ19_putVal 136 = .ok (.getfield 177, 3) := dk_180 0 177 (dk_at dksJ19_putVal_6 0 rfl rfl)
theorem dJ19_putVal_139 : decode cJ19_putVal 139 = .ok (.dup, 1) := dk_89 (dk_at dksJ19_putVal_6 3 rfl rfl)
theorem dJ19_putVal_140 : decode cJ19_putVal 140 = .ok (.astore 10, 2) := dk_58 10 (dk_at dksJ19_putVal_6 4 rfl rfl)
theorem dJ19_putVal_142 : decode cJ19_putVal 142 = .ok (.ifnonnull 33, 3) := dk_199 0 33 (dk_at dksJ19_putVal_6 6 rfl rfl)
theorem dJ19_putVal_145 : decode cJ19_putVal 145 = .ok (.aload 7, 2) := dk_25 7 (dk_at dksJ19_putVal_6 9 rfl rfl)
theorem dJ19_putVal_147 : decode cJ19_putVal 147 = .ok (.aload_n 0, 1) := dk_42 (dk_at dksJ19_putVal_6 11 rfl rfl)
theorem dJ19_putVal_148 : decode cJ19_putVal 148 = .ok (.iload_n 1, 1) := dk_27 (dk_at dksJ19_putVal_6 12 rfl rfl)
theorem dJ19_putVal_149 : decode cJ19_putVal 149 = .ok (.aload_n 2, 1) := dk_44 (dk_at dksJ19_putVal_6 13 rfl rfl)
theorem dJ19_putVal_150 : decode cJ19_putVal 150 = .ok (.aload_n 3, 1) := dk_45 (dk_at dksJ19_putVal_6 14 rfl rfl)
theorem dJ19_putVal_151 : decode cJ19_putVal 151 = .ok (.aconst_null, 1) := dk_1 (dk_at dksJ19_putVal_6 15 rfl rfl)
theorem dJ19_putVal_152 : decode cJ19_putVal 152 = .ok (.invokevirtual 186, 3) := dk_182 0 186 (dk_at dksJ19_putVal_6 16 rfl rfl)
theorem dJ19_putVal_155 : decode cJ19_putVal 155 = .ok (.putfield 177, 3) := dk_181 0 177 (dk_at dksJ19_putVal_6 19 rfl rfl)
theorem dJ19_putVal_158 : decode cJ19_putVal 158 = .ok (.iload 12, 2) := dk_21 12 (dk_at dksJ19_putVal_6 22 rfl rfl)
theorem dJ19_putVal_160 : decode cJ19_putVal 160 = .ok (.bipush 7, 2) := dk_16 7 (dk_at dksJ19_putVal_7 0 rfl rfl)
theorem dJ19_putVal_162 : decode cJ19_putVal 162 = .ok (.if_icmp .lt 60, 3) := dk_161 0 60 (dk_at dksJ19_putVal_7 2 rfl rfl)
theorem dJ19_putVal_165 : decode cJ19_putVal 165 = .ok (.aload_n 0, 1) := dk_42 (dk_at dksJ19_putVal_7 5 rfl rfl)
theorem dJ19_putVal_166 : decode cJ19_putVal 166 = .ok (.aload 6, 2) := dk_25 6 (dk_at dksJ19_putVal_7 6 rfl rfl)
theorem dJ19_putVal_168 : decode cJ19_putVal 168 = .ok (.iload_n 1, 1) := dk_27 (dk_at dksJ19_putVal_7 8 rfl rfl)
theorem dJ19_putVal_172 : decode cJ19_putVal 172 = .ok (.goto 50, 3) := dk_167 0 50 (dk_at dksJ19_putVal_7 12 rfl rfl)
theorem dJ19_putVal_175 : decode cJ19_putVal 175 = .ok (.aload 10, 2) := dk_25 10 (dk_at dksJ19_putVal_7 15 rfl rfl)
theorem dJ19_putVal_177 : decode cJ19_putVal 177 = .ok (.getfield 168, 3) := dk_180 0 168 (dk_at dksJ19_putVal_7 17 rfl rfl)
theorem dJ19_putVal_180 : decode cJ19_putVal 180 = .ok (.iload_n 1, 1) := dk_27 (dk_at dksJ19_putVal_7 20 rfl rfl)
theorem dJ19_putVal_181 : decode cJ19_putVal 181 = .ok (.if_icmp .ne 31, 3) := dk_160 0 31 (dk_at dksJ19_putVal_7 21 rfl rfl)
theorem dJ19_putVal_184 : decode cJ19_putVal 184 = .ok (.aload 10, 2) := dk_25 10 (dk_at dksJ19_putVal_8 0 rfl rfl)
theorem dJ19_putVal_186 : decode cJ19_putVal 186 = .ok (.getfield 170, 3) := dk_180 0 170 (dk_at dksJ19_putVal_8 2 rfl rfl)
theorem dJ19_putVal_189 : decode cJ19_putVal 189 = .ok (.dup, 1) := dk_89 (dk_at dksJ19_putVal_8 5 rfl rfl)
theorem dJ19_putVal_190 : decode cJ19_putVal 190 = .ok (.astore 11, 2) := dk_58 11 (dk_at dksJ19_putVal_8 6 rfl rfl)
theorem dJ19_putVal_192 : decode cJ19_putVal 192 = .ok (.aload_n 2, 1) := dk_44 (dk_at dksJ19_putVal_8 8 rfl rfl)
theorem dJ19_putVal_193 : decode cJ19_putVal 193 = .ok (.if_acmp .eq 29, 3) := dk_165 0 29 (dk_at dksJ19_putVal_8 9 rfl rfl)
theorem dJ19_putVal_196 : decode cJ19_putVal 196 = .ok (.aload_n 2, 1) := dk_44 (dk_at dksJ19_putVal_8 12 rfl rfl)
theorem dJ19_putVal_197 : decode cJ19_putVal 197 = .ok (.ifnull 15, 3) := dk_198 0 15 (dk_at dksJ19_putVal_8 13 rfl rfl)
theorem dJ19_putVal_200 : decode cJ19_putVal 200 = .ok (.aload_n 2, 1) := dk_44 (dk_at dksJ19_putVal_8 16 rfl rfl)
theorem dJ19_putVal_201 : decode cJ19_putVal 201 = .ok (.aload 11, 2) := dk_25 11 (dk_at dksJ19_putVal_8 17 rfl rfl)
theorem dJ19_putVal_203 : decode cJ19_putVal 203 = .ok (.invokevirtual 173, 3) := dk_182 0 173 (dk_at dksJ19_putVal_8 19 rfl rfl)
theorem dJ19_putVal_206 : decode cJ19_putVal 206 = .ok (.ifCond .eq 6, 3) := dk_153 0 6 (dk_at dksJ19_putVal_9 0 rfl rfl)
theorem dJ19_putVal_209 : decode cJ19_putVal 209 = .ok (.goto 13, 3) := dk_167 0 13 (dk_at dksJ19_putVal_9 3 rfl rfl)
theorem dJ19_putVal_212 : decode cJ19_putVal 212 = .ok (.aload 10, 2) := dk_25 10 (dk_at dksJ19_putVal_9 6 rfl rfl)
theorem dJ19_putVal_214 : decode cJ19_putVal 214 = .ok (.astore 7, 2) := dk_58 7 (dk_at dksJ19_putVal_9 8 rfl rfl)
theorem dJ19_putVal_216 : decode cJ19_putVal 216 = .ok (.iinc 12 1, 3) := dk_132 12 1 (dk_at dksJ19_putVal_9 10 rfl rfl)
theorem dJ19_putVal_219 : decode cJ19_putVal 219 = .ok (.goto (-85), 3) := dk_167 255 171 (dk_at dksJ19_putVal_9 13 rfl rfl)
theorem dJ19_putVal_222 : decode cJ19_putVal 222 = .ok (.aload 10, 2) := dk_25 10 (dk_at dksJ19_putVal_9 16 rfl rfl)
theorem dJ19_putVal_224 : decode cJ19_putVal 224 = .ok (.ifnull 35, 3) := dk_198 0 35 (dk_at dksJ19_putVal_9 18 rfl rfl)
theorem dJ19_putVal_227 : decode cJ19_putVal 227 = .ok (.aload 10, 2) := dk_25 10 (dk_at dksJ19_putVal_9 21 rfl rfl)
theorem dJ19_putVal_229 : decode cJ19_putVal 229 = .ok (.getfield 162, 3) := dk_180 0 162 (dk_at dksJ19_putVal_10 0 rfl rfl)
theorem dJ19_putVal_232 : decode cJ19_putVal 232 = .ok (.astore 12, 2) := dk_58 12 (dk_at dksJ19_putVal_10 3 rfl rfl)
theorem dJ19_putVal_234 : decode cJ19_putVal 234 = .ok (.iload 4, 2) := dk_21 4 (dk_at dksJ19_putVal_10 5 rfl rfl)
theorem dJ19_putVal_236 : decode cJ19_putVal 236 = .ok (.ifCond .eq 8, 3) := dk_153 0 8 (dk_at dksJ19_putVal_10 7 rfl rfl)
theorem dJ19_putVal_239 : decode cJ19_putVal 239 = .ok (.aload 12, 2) := dk_25 12 (dk_at dksJ19_putVal_10 10 rfl rfl)
theorem dJ19_putVal_241 : decode cJ19_putVal 241 = .ok (.ifnonnull 9, 3) := dk_199 0 9 (dk_at dksJ19_putVal_10 12 rfl rfl)
theorem dJ19_putVal_244 : decode cJ19_putVal 244 = .ok (.aload 10, 2) := dk_25 10 (dk_at dksJ19_putVal_10 15 rfl rfl)
theorem dJ19_putVal_246 : decode cJ19_putVal 246 = .ok (.aload_n 3, 1) := dk_45 (dk_at dksJ19_putVal_10 17 rfl rfl)
theorem dJ19_putVal_247 : decode cJ19_putVal 247 = .ok (.putfield 162, 3) := dk_181 0 162 (dk_at dksJ19_putVal_10 18 rfl rfl)
theorem dJ19_putVal_250 : decode cJ19_putVal 250 = .ok (.aload_n 0, 1) := dk_42 (dk_at dksJ19_putVal_10 21 rfl rfl)
theorem dJ19_putVal_251 : decode cJ19_putVal 251 = .ok (.aload 10, 2) := dk_25 10 (dk_at dksJ19_putVal_10 22 rfl rfl)
theorem dJ19_putVal_253 : decode cJ19_putVal 253 = .ok (.invokevirtual 198, 3) := dk_182 0 198 (dk_at dksJ19_putVal_11 0 rfl rfl)
theorem dJ19_putVal_256 : decode cJ19_putVal 256 = .ok (.aload 12, 2) := dk_25 12 (dk_at dksJ19_putVal_11 3 rfl rfl)
theorem dJ19_putVal_258 : decode cJ19_putVal 258 = .ok (.areturn, 1) := dk_176 (dk_at dksJ19_putVal_11 5 rfl rfl)
theorem dJ19_putVal_259 : decode cJ19_putVal 259 = .ok (.aload_n 0, 1) := dk_42 (dk_at dksJ19_putVal_11 6 rfl rfl)
theorem dJ19_putVal_260 : decode cJ19_putVal 260 = .ok (.dup, 1) := dk_89 (dk_at dksJ19_putVal_11 7 rfl rfl)
theorem dJ19_putVal_261 : decode cJ19_putVal 261 = .ok (.getfield 202, 3) := dk_180 0 202 (dk_at dksJ19_putVal_11 8 rfl rfl)
theorem dJ19_putVal_264 : decode cJ19_putVal 264 = .ok (.iconst 1, 1) := dk_4 (dk_at dksJ19_putVal_11 11 rfl rfl)
theorem dJ19_putVal_265 : decode cJ19_putVal 265 = .ok (.iadd, 1) := dk_96 (dk_at dksJ19_putVal_11 12 rfl rfl)
theorem dJ19_putVal_266 : decode cJ19_putVal 266 = .ok (.putfield 202, 3) := dk_181 0 202 (dk_at dksJ19_putVal_11 13 rfl rfl)
theorem dJ19_putVal_269 : decode cJ19_putVal 269 = .ok (.aload_n 0, 1) := dk_42 (dk_at dksJ19_putVal_11 16 rfl rfl)
theorem dJ19_putVal_270 : decode cJ19_putVal 270 = .ok (.dup, 1) := dk_89 (dk_at dksJ19_putVal_11 17 rfl rfl)
theorem dJ19_putVal_271 : decode cJ19_putVal 271 = .ok (.getfield 156, 3) := dk_180 0 156 (dk_at dksJ19_putVal_11 18 rfl rfl)
theorem dJ19_putVal_274 : decode cJ19_putVal 274 = .ok (.iconst 1, 1) := dk_4 (dk_at dksJ19_putVal_11 21 rfl rfl)
theorem dJ19_putVal_275 : decode cJ19_putVal 275 = .ok (.iadd, 1) := dk_96 (dk_at dksJ19_putVal_11 22 rfl rfl)
theorem dJ19_putVal_276 : decode cJ19_putVal 276 = .ok (.dup_x1, 1) := dk_90 (dk_at dksJ19_putVal_11 23 rfl rfl)
theorem dJ19_putVal_277 : decode cJ19_putVal 277 = .ok (.putfield 156, 3) := dk_181 0 156 (dk_at dksJ19_putVal_12 0 rfl rfl)
theorem dJ19_putVal_280 : decode cJ19_putVal 280 = .ok (.aload_n 0, 1) := dk_42 (dk_at dksJ19_putVal_12 3 rfl rfl)
theorem dJ19_putVal_281 : decode cJ19_putVal 281 = .ok (.getfield 88, 3) := dk_180 0 88 (dk_at dksJ19_putVal_12 4 rfl rfl)
theorem dJ19_putVal_284 : decode cJ19_putVal 284 = .ok (.if_icmp .le 8, 3) := dk_164 0 8 (dk_at dksJ19_putVal_12 7 rfl rfl)
theorem dJ19_putVal_287 : decode cJ19_putVal 287 = .ok (.aload_n 0, 1) := dk_42 (dk_at dksJ19_putVal_12 10 rfl rfl)
theorem dJ19_putVal_288 : decode cJ19_putVal 288 = .ok (.invokevirtual 117, 3) := dk_182 0 117 (dk_at dksJ19_putVal_12 11 rfl rfl)
theorem dJ19_putVal_291 : decode cJ19_putVal 291 = .ok (.pop, 1) := dk_87 (dk_at dksJ19_putVal_12 14 rfl rfl)
theorem dJ19_putVal_292 : decode cJ19_putVal 292 = .ok (.aload_n 0, 1) := dk_42 (dk_at dksJ19_putVal_12 15 rfl rfl)
theorem dJ19_putVal_293 : decode cJ19_putVal 293 = .ok (.iload 5, 2) := dk_21 5 (dk_at dksJ19_putVal_12 16 rfl rfl)
theorem dJ19_putVal_295 : decode cJ19_putVal 295 = .ok (.invokevirtual 205, 3) := dk_182 0 205 (dk_at dksJ19_putVal_12 18 rfl rfl)
theorem dJ19_putVal_298 : decode cJ19_putVal 298 = .ok (.aconst_null, 1) := dk_1 (dk_at dksJ19_putVal_12 21 rfl rfl)
theorem dJ19_putVal_299 : decode cJ19_putVal 299 = .ok (.areturn, 1) := dk_176 (dk_at dksJ19_putVal_12 22 rfl rfl)
theorem c_33_0 : LkP (OkP 33) [(0, o_aload 0 1), (1, o_get 31), (4, o_dup), (5, o_astore 6 2), (7, o_ifnull 19), (10, o_aload 6 2), (12, o_alen), (13, o_dup), (14, o_istore 8 2), (16, o_if (fun x => decide (¬ x = 0)) 29), (19, o_aload 0 1), (20, o_cv [(6, 34)] 0 3 false none), (23, o_dup), (24, o_astore 6 2), (26, o_alen), (27, o_istore 8 2), (29, o_aload 6 2), (31, o_iload 8 2), (33, o_push 1 (.int 1)), (34, o_iop (fun x y => x - y)), (35, o_iload 1 1), (36, o_iop (fun x y => x &&& y)), (37, o_dup), (38, o_istore 9 2), (40, o_rdQ), (41, o_dup), (42, o_astore 7 2), (44, o_ifnonnull 63), (47, o_aload 6 2), (49, o_iload 9 2), (51, o_aload 0 1), (52, o_iload 1 1), (53, o_aload 2 1), (54, o_aload 3 1), (55, o_push 1 .null), (56, o_cv [(6, 35)] 4 3 false none), (59, o_wrQ 9 [28]), (60, o_goto 259), (63, o_aload 7 2)] := lkp_c (P := OkP 33) ⟨(PuOK.ok (ok_aload_n dJ19_putVal_0 rfl)), m_aload⟩ (
  lkp_c (P := OkP 33) ⟨ok_get ⟨"java/util/HashMap", q599, Or.inl rfl⟩ dJ19_putVal_1, m_get⟩ (
  lkp_c (P := OkP 33) ⟨(PuOK.ok (ok_dup dJ19_putVal_4)), m_dup⟩ (
  lkp_c (P := OkP 33) ⟨(PuOK.ok (ok_astore dJ19_putVal_5)), m_astore⟩ (
  lkp_c (P := OkP 33) ⟨(PuOK.ok (ok_ifnull dJ19_putVal_7 rfl)), m_ifnull⟩ (
  lkp_c (P := OkP 33) ⟨(PuOK.ok (ok_aload dJ19_putVal_10)), m_aload⟩ (
  lkp_c (P := OkP 33) ⟨ok_alen dJ19_putVal_12, m_alen⟩ (
  lkp_c (P := OkP 33) ⟨(PuOK.ok (ok_dup dJ19_putVal_13)), m_dup⟩ (
  lkp_c (P := OkP 33) ⟨(PuOK.ok (ok_istore dJ19_putVal_14)), m_istore⟩ (
  lkp_c (P := OkP 33) ⟨(PuOK.ok (ok_if_ne dJ19_putVal_16 rfl)), m_if⟩ (
  lkp_c (P := OkP 33) ⟨(PuOK.ok (ok_aload_n dJ19_putVal_19 rfl)), m_aload⟩ (
  lkp_c (P := OkP 33) ⟨ok_cv (List.forall_mem_cons.mpr ⟨tg_V (ci := 6) (r := CLr 6) (y := 34) rfl ⟨rfl, by decide⟩ rfl q2702 q2703 q2704 q138 q2705 ⟨cn_9.1, cn_9.2, pd_15⟩ dJ19_putVal_20, (List.forall_mem_nil _)⟩) hd_no, m_cv⟩ (
  lkp_c (P := OkP 33) ⟨(PuOK.ok (ok_dup dJ19_putVal_23)), m_dup⟩ (
  lkp_c (P := OkP 33) ⟨(PuOK.ok (ok_astore dJ19_putVal_24)), m_astore⟩ (
  lkp_c (P := OkP 33) ⟨ok_alen dJ19_putVal_26, m_alen⟩ (
  lkp_c (P := OkP 33) ⟨(PuOK.ok (ok_istore dJ19_putVal_27)), m_istore⟩ (
  lkp_c (P := OkP 33) ⟨(PuOK.ok (ok_aload dJ19_putVal_29)), m_aload⟩ (
  lkp_c (P := OkP 33) ⟨(PuOK.ok (ok_iload dJ19_putVal_31)), m_iload⟩ (
  lkp_c (P := OkP 33) ⟨(PuOK.ok (ok_iconst dJ19_putVal_33 rfl)), m_push⟩ (
  lkp_c (P := OkP 33) ⟨(PuOK.ok (ok_isub dJ19_putVal_34)), m_iop⟩ (
  lkp_c (P := OkP 33) ⟨(PuOK.ok (ok_iload_n dJ19_putVal_35 rfl)), m_iload⟩ (
  lkp_c (P := OkP 33) ⟨(PuOK.ok (ok_iand dJ19_putVal_36)), m_iop⟩ (
  lkp_c (P := OkP 33) ⟨(PuOK.ok (ok_dup dJ19_putVal_37)), m_dup⟩ (
  lkp_c (P := OkP 33) ⟨(PuOK.ok (ok_istore dJ19_putVal_38)), m_istore⟩ (
  lkp_c (P := OkP 33) ⟨ok_aald dJ19_putVal_40, m_rdQ⟩ (
  lkp_c (P := OkP 33) ⟨(PuOK.ok (ok_dup dJ19_putVal_41)), m_dup⟩ (
  lkp_c (P := OkP 33) ⟨(PuOK.ok (ok_astore dJ19_putVal_42)), m_astore⟩ (
  lkp_c (P := OkP 33) ⟨(PuOK.ok (ok_ifnonnull dJ19_putVal_44 rfl)), m_ifnonnull⟩ (
  lkp_c (P := OkP 33) ⟨(PuOK.ok (ok_aload dJ19_putVal_47)), m_aload⟩ (
  lkp_c (P := OkP 33) ⟨(PuOK.ok (ok_iload dJ19_putVal_49)), m_iload⟩ (
  lkp_c (P := OkP 33) ⟨(PuOK.ok (ok_aload_n dJ19_putVal_51 rfl)), m_aload⟩ (
  lkp_c (P := OkP 33) ⟨(PuOK.ok (ok_iload_n dJ19_putVal_52 rfl)), m_iload⟩ (
  lkp_c (P := OkP 33) ⟨(PuOK.ok (ok_aload_n dJ19_putVal_53 rfl)), m_aload⟩ (
  lkp_c (P := OkP 33) ⟨(PuOK.ok (ok_aload_n dJ19_putVal_54 rfl)), m_aload⟩ (
  lkp_c (P := OkP 33) ⟨(PuOK.ok (ok_null dJ19_putVal_55)), m_push⟩ (
  lkp_c (P := OkP 33) ⟨ok_cv (List.forall_mem_cons.mpr ⟨tg_V (ci := 6) (r := CLr 6) (y := 35) rfl ⟨rfl, by decide⟩ rfl q2774 q2775 q2776 q138 q2777 ⟨cn_9.1, cn_9.2, pd_16⟩ dJ19_putVal_56, (List.forall_mem_nil _)⟩) hd_no, m_cv⟩ (
  lkp_c (P := OkP 33) ⟨ok_aast rfl cst_2 dJ19_putVal_59, m_wrQ⟩ (
  lkp_c (P := OkP 33) ⟨(PuOK.ok (ok_goto dJ19_putVal_60 rfl)), m_goto⟩ (
  lkp_c (P := OkP 33) ⟨(PuOK.ok (ok_aload dJ19_putVal_63)), m_aload⟩ (
  trivial)))))))))))))))))))))))))))))))))))))))
theorem c_33_1 : LkP (OkP 33) [(65, o_get 143), (68, o_iload 1 1), (69, o_icmp (fun x y => decide (¬ x = y)) 104), (72, o_aload 7 2), (74, o_get 144), (77, o_dup), (78, o_astore 11 2), (80, o_aload 2 1), (81, o_acmp true 97), (84, o_aload 2 1), (85, o_ifnull 104), (88, o_aload 2 1), (89, o_aload 11 2), (91, o_cv [(8, 281)] 1 3 false none), (94, o_if (fun x => decide (x = 0)) 104), (97, o_aload 7 2), (99, o_astore 10 2), (101, o_goto 222), (104, o_aload 7 2), (106, o_inst [] [28]), (109, o_if (fun x => decide (x = 0)) 131), (112, o_aload 7 2), (117, o_aload 0 1), (118, o_aload 6 2), (120, o_iload 1 1), (121, o_aload 2 1), (122, o_aload 3 1), (126, o_astore 10 2)] := lkp_c (P := OkP 33) ⟨ok_get ⟨"java/util/HashMap$Node", q2732, Or.inl rfl⟩ dJ19_putVal_65, m_get⟩ (
  lkp_c (P := OkP 33) ⟨(PuOK.ok (ok_iload_n dJ19_putVal_68 rfl)), m_iload⟩ (
  lkp_c (P := OkP 33) ⟨(PuOK.ok (ok_icmp_ne dJ19_putVal_69 rfl)), m_icmp⟩ (
  lkp_c (P := OkP 33) ⟨(PuOK.ok (ok_aload dJ19_putVal_72)), m_aload⟩ (
  lkp_c (P := OkP 33) ⟨ok_get ⟨"java/util/HashMap$Node", q2736, Or.inl rfl⟩ dJ19_putVal_74, m_get⟩ (
  lkp_c (P := OkP 33) ⟨(PuOK.ok (ok_dup dJ19_putVal_77)), m_dup⟩ (
  lkp_c (P := OkP 33) ⟨(PuOK.ok (ok_astore dJ19_putVal_78)), m_astore⟩ (
  lkp_c (P := OkP 33) ⟨(PuOK.ok (ok_aload_n dJ19_putVal_80 rfl)), m_aload⟩ (
  lkp_c (P := OkP 33) ⟨(PuOK.ok (ok_acmp_eq dJ19_putVal_81 rfl)), m_acmp⟩ (
  lkp_c (P := OkP 33) ⟨(PuOK.ok (ok_aload_n dJ19_putVal_84 rfl)), m_aload⟩ (
  lkp_c (P := OkP 33) ⟨(PuOK.ok (ok_ifnull dJ19_putVal_85 rfl)), m_ifnull⟩ (
  lkp_c (P := OkP 33) ⟨(PuOK.ok (ok_aload_n dJ19_putVal_88 rfl)), m_aload⟩ (
  lkp_c (P := OkP 33) ⟨(PuOK.ok (ok_aload dJ19_putVal_89)), m_aload⟩ (
  lkp_c (P := OkP 33) ⟨ok_cv (List.forall_mem_cons.mpr ⟨tg_A (ci := 8) (r := CLr 8) (y := 281) rfl (owner := "java/lang/Object") ⟨rfl, by decide⟩ q936 q938 q944 q945 q176 q946 ⟨cn_10.1, cn_10.2, pd_12⟩ q935 dJ19_putVal_91, (List.forall_mem_nil _)⟩) hd_no, m_cv⟩ (
  lkp_c (P := OkP 33) ⟨(PuOK.ok (ok_if_eq dJ19_putVal_94 rfl)), m_if⟩ (
  lkp_c (P := OkP 33) ⟨(PuOK.ok (ok_aload dJ19_putVal_97)), m_aload⟩ (
  lkp_c (P := OkP 33) ⟨(PuOK.ok (ok_astore dJ19_putVal_99)), m_astore⟩ (
  lkp_c (P := OkP 33) ⟨(PuOK.ok (ok_goto dJ19_putVal_101 rfl)), m_goto⟩ (
  lkp_c (P := OkP 33) ⟨(PuOK.ok (ok_aload dJ19_putVal_104)), m_aload⟩ (
  lkp_c (P := OkP 33) ⟨ok_inst q983 castL_nil notL_node dJ19_putVal_106, m_inst⟩ (
  lkp_c (P := OkP 33) ⟨(PuOK.ok (ok_if_eq dJ19_putVal_109 rfl)), m_if⟩ (
  lkp_c (P := OkP 33) ⟨(PuOK.ok (ok_aload dJ19_putVal_112)), m_aload⟩ (
  lkp_c (P := OkP 33) ⟨(PuOK.ok (ok_aload_n dJ19_putVal_117 rfl)), m_aload⟩ (
  lkp_c (P := OkP 33) ⟨(PuOK.ok (ok_aload dJ19_putVal_118)), m_aload⟩ (
  lkp_c (P := OkP 33) ⟨(PuOK.ok (ok_iload_n dJ19_putVal_120 rfl)), m_iload⟩ (
  lkp_c (P := OkP 33) ⟨(PuOK.ok (ok_aload_n dJ19_putVal_121 rfl)), m_aload⟩ (
  lkp_c (P := OkP 33) ⟨(PuOK.ok (ok_aload_n dJ19_putVal_122 rfl)), m_aload⟩ (
  lkp_c (P := OkP 33) ⟨(PuOK.ok (ok_astore dJ19_putVal_126)), m_astore⟩ (
  trivial))))))))))))))))))))))))))))
theorem c_33_2 : LkP (OkP 33) [(128, o_goto 222), (131, o_push 1 (.int 0)), (132, o_istore 12 2), (134, o_aload 7 2), (136, o_get 146), (139, o_dup), (140, o_astore 10 2), (142, o_ifnonnull 175), (145, o_aload 7 2), (147, o_aload 0 1), (148, o_iload 1 1), (149, o_aload 2 1), (150, o_aload 3 1), (151, o_push 1 .null), (152, o_cv [(6, 35)] 4 3 false none), (155, o_put 146 0), (158, o_iload 12 2), (160, o_push 2 (.int 7)), (162, o_icmp (fun x y => decide (x < y)) 222), (165, o_aload 0 1), (166, o_aload 6 2), (168, o_iload 1 1), (172, o_goto 222), (175, o_aload 10 2), (177, o_get 143), (180, o_iload 1 1), (181, o_icmp (fun x y => decide (¬ x = y)) 212), (184, o_aload 10 2), (186, o_get 144), (189, o_dup), (190, o_astore 11 2)] := lkp_c (P := OkP 33) ⟨(PuOK.ok (ok_goto dJ19_putVal_128 rfl)), m_goto⟩ (
  lkp_c (P := OkP 33) ⟨(PuOK.ok (ok_iconst dJ19_putVal_131 rfl)), m_push⟩ (
  lkp_c (P := OkP 33) ⟨(PuOK.ok (ok_istore dJ19_putVal_132)), m_istore⟩ (
  lkp_c (P := OkP 33) ⟨(PuOK.ok (ok_aload dJ19_putVal_134)), m_aload⟩ (
  lkp_c (P := OkP 33) ⟨ok_get ⟨"java/util/HashMap$Node", q2744, Or.inl rfl⟩ dJ19_putVal_136, m_get⟩ (
  lkp_c (P := OkP 33) ⟨(PuOK.ok (ok_dup dJ19_putVal_139)), m_dup⟩ (
  lkp_c (P := OkP 33) ⟨(PuOK.ok (ok_astore dJ19_putVal_140)), m_astore⟩ (
  lkp_c (P := OkP 33) ⟨(PuOK.ok (ok_ifnonnull dJ19_putVal_142 rfl)), m_ifnonnull⟩ (
  lkp_c (P := OkP 33) ⟨(PuOK.ok (ok_aload dJ19_putVal_145)), m_aload⟩ (
  lkp_c (P := OkP 33) ⟨(PuOK.ok (ok_aload_n dJ19_putVal_147 rfl)), m_aload⟩ (
  lkp_c (P := OkP 33) ⟨(PuOK.ok (ok_iload_n dJ19_putVal_148 rfl)), m_iload⟩ (
  lkp_c (P := OkP 33) ⟨(PuOK.ok (ok_aload_n dJ19_putVal_149 rfl)), m_aload⟩ (
  lkp_c (P := OkP 33) ⟨(PuOK.ok (ok_aload_n dJ19_putVal_150 rfl)), m_aload⟩ (
  lkp_c (P := OkP 33) ⟨(PuOK.ok (ok_null dJ19_putVal_151)), m_push⟩ (
  lkp_c (P := OkP 33) ⟨ok_cv (List.forall_mem_cons.mpr ⟨tg_V (ci := 6) (r := CLr 6) (y := 35) rfl ⟨rfl, by decide⟩ rfl q2774 q2775 q2776 q138 q2777 ⟨cn_9.1, cn_9.2, pd_16⟩ dJ19_putVal_152, (List.forall_mem_nil _)⟩) hd_no, m_cv⟩ (
  lkp_c (P := OkP 33) ⟨ok_put ⟨"java/util/HashMap$Node", q2744, Or.inl rfl⟩ rfl fd_146 rfl dJ19_putVal_155, m_put⟩ (
  lkp_c (P := OkP 33) ⟨(PuOK.ok (ok_iload dJ19_putVal_158)), m_iload⟩ (
  lkp_c (P := OkP 33) ⟨(PuOK.ok (ok_bipush dJ19_putVal_160 rfl)), m_push⟩ (
  lkp_c (P := OkP 33) ⟨(PuOK.ok (ok_icmp_lt dJ19_putVal_162 rfl)), m_icmp⟩ (
  lkp_c (P := OkP 33) ⟨(PuOK.ok (ok_aload_n dJ19_putVal_165 rfl)), m_aload⟩ (
  lkp_c (P := OkP 33) ⟨(PuOK.ok (ok_aload dJ19_putVal_166)), m_aload⟩ (
  lkp_c (P := OkP 33) ⟨(PuOK.ok (ok_iload_n dJ19_putVal_168 rfl)), m_iload⟩ (
  lkp_c (P := OkP 33) ⟨(PuOK.ok (ok_goto dJ19_putVal_172 rfl)), m_goto⟩ (
  lkp_c (P := OkP 33) ⟨(PuOK.ok (ok_aload dJ19_putVal_175)), m_aload⟩ (
  lkp_c (P := OkP 33) ⟨ok_get ⟨"java/util/HashMap$Node", q2732, Or.inl rfl⟩ dJ19_putVal_177, m_get⟩ (
  lkp_c (P := OkP 33) ⟨(PuOK.ok (ok_iload_n dJ19_putVal_180 rfl)), m_iload⟩ (
  lkp_c (P := OkP 33) ⟨(PuOK.ok (ok_icmp_ne dJ19_putVal_181 rfl)), m_icmp⟩ (
  lkp_c (P := OkP 33) ⟨(PuOK.ok (ok_aload dJ19_putVal_184)), m_aload⟩ (
  lkp_c (P := OkP 33) ⟨ok_get ⟨"java/util/HashMap$Node", q2736, Or.inl rfl⟩ dJ19_putVal_186, m_get⟩ (
  lkp_c (P := OkP 33) ⟨(PuOK.ok (ok_dup dJ19_putVal_189)), m_dup⟩ (
  lkp_c (P := OkP 33) ⟨(PuOK.ok (ok_astore dJ19_putVal_190)), m_astore⟩ (
  trivial)))))))))))))))))))))))))))))))
theorem c_33_3 : LkP (OkP 33) [(192, o_aload 2 1), (193, o_acmp true 222), (196, o_aload 2 1), (197, o_ifnull 212), (200, o_aload 2 1), (201, o_aload 11 2), (203, o_cv [(8, 281)] 1 3 false none), (206, o_if (fun x => decide (x = 0)) 212), (209, o_goto 222), (212, o_aload 10 2), (214, o_astore 7 2), (216, o_iinc 12 1), (219, o_goto 134), (222, o_aload 10 2), (224, o_ifnull 259), (227, o_aload 10 2), (229, o_get 145), (232, o_astore 12 2), (234, o_iload 4 2), (236, o_if (fun x => decide (x = 0)) 244), (239, o_aload 12 2), (241, o_ifnonnull 250), (244, o_aload 10 2), (246, o_aload 3 1), (247, o_put 145 0), (250, o_aload 0 1), (251, o_aload 10 2), (253, o_cv [(6, 36)] 1 3 true none)] := lkp_c (P := OkP 33) ⟨(PuOK.ok (ok_aload_n dJ19_putVal_192 rfl)), m_aload⟩ (
  lkp_c (P := OkP 33) ⟨(PuOK.ok (ok_acmp_eq dJ19_putVal_193 rfl)), m_acmp⟩ (
  lkp_c (P := OkP 33) ⟨(PuOK.ok (ok_aload_n dJ19_putVal_196 rfl)), m_aload⟩ (
  lkp_c (P := OkP 33) ⟨(PuOK.ok (ok_ifnull dJ19_putVal_197 rfl)), m_ifnull⟩ (
  lkp_c (P := OkP 33) ⟨(PuOK.ok (ok_aload_n dJ19_putVal_200 rfl)), m_aload⟩ (
  lkp_c (P := OkP 33) ⟨(PuOK.ok (ok_aload dJ19_putVal_201)), m_aload⟩ (
  lkp_c (P := OkP 33) ⟨ok_cv (List.forall_mem_cons.mpr ⟨tg_A (ci := 8) (r := CLr 8) (y := 281) rfl (owner := "java/lang/Object") ⟨rfl, by decide⟩ q936 q938 q944 q945 q176 q946 ⟨cn_10.1, cn_10.2, pd_12⟩ q935 dJ19_putVal_203, (List.forall_mem_nil _)⟩) hd_no, m_cv⟩ (
  lkp_c (P := OkP 33) ⟨(PuOK.ok (ok_if_eq dJ19_putVal_206 rfl)), m_if⟩ (
  lkp_c (P := OkP 33) ⟨(PuOK.ok (ok_goto dJ19_putVal_209 rfl)), m_goto⟩ (
  lkp_c (P := OkP 33) ⟨(PuOK.ok (ok_aload dJ19_putVal_212)), m_aload⟩ (
  lkp_c (P := OkP 33) ⟨(PuOK.ok (ok_astore dJ19_putVal_214)), m_astore⟩ (
  lkp_c (P := OkP 33) ⟨(PuOK.ok (ok_iinc dJ19_putVal_216 rfl)), m_iinc⟩ (
  lkp_c (P := OkP 33) ⟨(PuOK.ok (ok_goto dJ19_putVal_219 rfl)), m_goto⟩ (
  lkp_c (P := OkP 33) ⟨(PuOK.ok (ok_aload dJ19_putVal_222)), m_aload⟩ (
  lkp_c (P := OkP 33) ⟨(PuOK.ok (ok_ifnull dJ19_putVal_224 rfl)), m_ifnull⟩ (
  lkp_c (P := OkP 33) ⟨(PuOK.ok (ok_aload dJ19_putVal_227)), m_aload⟩ (
  lkp_c (P := OkP 33) ⟨ok_get ⟨"java/util/HashMap$Node", q2738, Or.inl rfl⟩ dJ19_putVal_229, m_get⟩ (
  lkp_c (P := OkP 33) ⟨(PuOK.ok (ok_astore dJ19_putVal_232)), m_astore⟩ (
  lkp_c (P := OkP 33) ⟨(PuOK.ok (ok_iload dJ19_putVal_234)), m_iload⟩ (
  lkp_c (P := OkP 33) ⟨(PuOK.ok (ok_if_eq dJ19_putVal_236 rfl)), m_if⟩ (
  lkp_c (P := OkP 33) ⟨(PuOK.ok (ok_aload dJ19_putVal_239)), m_aload⟩ (
  lkp_c (P := OkP 33) ⟨(PuOK.ok (ok_ifnonnull dJ19_putVal_241 rfl)), m_ifnonnull⟩ (
  lkp_c (P := OkP 33) ⟨(PuOK.ok (ok_aload dJ19_putVal_244)), m_aload⟩ (
  lkp_c (P := OkP 33) ⟨(PuOK.ok (ok_aload_n dJ19_putVal_246 rfl)), m_aload⟩ (
  lkp_c (P := OkP 33) ⟨ok_put ⟨"java/util/HashMap$Node", q2738, Or.inl rfl⟩ rfl fd_145 rfl dJ19_putVal_247, m_put⟩ (
  lkp_c (P := OkP 33) ⟨(PuOK.ok (ok_aload_n dJ19_putVal_250 rfl)), m_aload⟩ (
  lkp_c (P := OkP 33) ⟨(PuOK.ok (ok_aload dJ19_putVal_251)), m_aload⟩ (
  lkp_c (P := OkP 33) ⟨ok_cv (List.forall_mem_cons.mpr ⟨tg_V (ci := 6) (r := CLr 6) (y := 36) rfl ⟨rfl, by decide⟩ rfl q2828 q2829 q2830 q138 q2831 ⟨cn_9.1, cn_9.2, pd_17⟩ dJ19_putVal_253, (List.forall_mem_nil _)⟩) hd_no, m_cv⟩ (
  trivial))))))))))))))))))))))))))))
theorem c_33_4 : LkP (OkP 33) [(256, o_aload 12 2), (258, o_ret 0), (259, o_aload 0 1), (260, o_dup), (261, o_get 34), (264, o_push 1 (.int 1)), (265, o_iop (fun x y => x + y)), (266, o_put 34 1), (269, o_aload 0 1), (270, o_dup), (271, o_get 33), (274, o_push 1 (.int 1)), (275, o_iop (fun x y => x + y)), (276, o_dupx1), (277, o_put 33 1), (280, o_aload 0 1), (281, o_get 35), (284, o_icmp (fun x y => decide (x ≤ y)) 292), (287, o_aload 0 1), (288, o_cv [(6, 34)] 0 3 false none), (291, o_pop), (292, o_aload 0 1), (293, o_iload 5 2), (295, o_cv [(6, 37)] 1 3 true none), (298, o_push 1 .null), (299, o_ret 0)] := lkp_c (P := OkP 33) ⟨(PuOK.ok (ok_aload dJ19_putVal_256)), m_aload⟩ (
  lkp_c (P := OkP 33) ⟨ok_aret rfl (Or.inl ⟨_, rfl⟩) dJ19_putVal_258, m_ret⟩ (
  lkp_c (P := OkP 33) ⟨(PuOK.ok (ok_aload_n dJ19_putVal_259 rfl)), m_aload⟩ (
  lkp_c (P := OkP 33) ⟨(PuOK.ok (ok_dup dJ19_putVal_260)), m_dup⟩ (
  lkp_c (P := OkP 33) ⟨ok_get ⟨"java/util/HashMap", q604, Or.inl rfl⟩ dJ19_putVal_261, m_get⟩ (
  lkp_c (P := OkP 33) ⟨(PuOK.ok (ok_iconst dJ19_putVal_264 rfl)), m_push⟩ (
  lkp_c (P := OkP 33) ⟨(PuOK.ok (ok_iadd dJ19_putVal_265)), m_iop⟩ (
  lkp_c (P := OkP 33) ⟨ok_put ⟨"java/util/HashMap", q604, Or.inl rfl⟩ rfl fd_34 rfl dJ19_putVal_266, m_put⟩ (
  lkp_c (P := OkP 33) ⟨(PuOK.ok (ok_aload_n dJ19_putVal_269 rfl)), m_aload⟩ (
  lkp_c (P := OkP 33) ⟨(PuOK.ok (ok_dup dJ19_putVal_270)), m_dup⟩ (
  lkp_c (P := OkP 33) ⟨ok_get ⟨"java/util/HashMap", q602, Or.inl rfl⟩ dJ19_putVal_271, m_get⟩ (
  lkp_c (P := OkP 33) ⟨(PuOK.ok (ok_iconst dJ19_putVal_274 rfl)), m_push⟩ (
  lkp_c (P := OkP 33) ⟨(PuOK.ok (ok_iadd dJ19_putVal_275)), m_iop⟩ (
  lkp_c (P := OkP 33) ⟨(PuOK.ok (ok_dupx1 dJ19_putVal_276)), m_dupx1⟩ (
  lkp_c (P := OkP 33) ⟨ok_put ⟨"java/util/HashMap", q602, Or.inl rfl⟩ rfl fd_33 rfl dJ19_putVal_277, m_put⟩ (
  lkp_c (P := OkP 33) ⟨(PuOK.ok (ok_aload_n dJ19_putVal_280 rfl)), m_aload⟩ (
  lkp_c (P := OkP 33) ⟨ok_get ⟨"java/util/HashMap", q605, Or.inl rfl⟩ dJ19_putVal_281, m_get⟩ (
  lkp_c (P := OkP 33) ⟨(PuOK.ok (ok_icmp_le dJ19_putVal_284 rfl)), m_icmp⟩ (
  lkp_c (P := OkP 33) ⟨(PuOK.ok (ok_aload_n dJ19_putVal_287 rfl)), m_aload⟩ (
  lkp_c (P := OkP 33) ⟨ok_cv (List.forall_mem_cons.mpr ⟨tg_V (ci := 6) (r := CLr 6) (y := 34) rfl ⟨rfl, by decide⟩ rfl q2702 q2703 q2704 q138 q2705 ⟨cn_9.1, cn_9.2, pd_15⟩ dJ19_putVal_288, (List.forall_mem_nil _)⟩) hd_no, m_cv⟩ (
  lkp_c (P := OkP 33) ⟨(PuOK.ok (ok_pop dJ19_putVal_291)), m_pop⟩ (
  lkp_c (P := OkP 33) ⟨(PuOK.ok (ok_aload_n dJ19_putVal_292 rfl)), m_aload⟩ (
  lkp_c (P := OkP 33) ⟨(PuOK.ok (ok_iload dJ19_putVal_293)), m_iload⟩ (
  lkp_c (P := OkP 33) ⟨ok_cv (List.forall_mem_cons.mpr ⟨tg_V (ci := 6) (r := CLr 6) (y := 37) rfl ⟨rfl, by decide⟩ rfl q2832 q2833 q2834 q138 q2835 ⟨cn_9.1, cn_9.2, pd_18⟩ dJ19_putVal_295, (List.forall_mem_nil _)⟩) hd_no, m_cv⟩ (
  lkp_c (P := OkP 33) ⟨(PuOK.ok (ok_null dJ19_putVal_298)), m_push⟩ (
  lkp_c (P := OkP 33) ⟨ok_aret rfl (Or.inl ⟨_, rfl⟩) dJ19_putVal_299, m_ret⟩ (
  trivial))))))))))))))))))))))))))
theorem mt_33 : MtOK TB NT IT 33 := ⟨by decide +kernel, rfl, (fun h => by cases h), Or.inl ⟨rfl, rfl⟩, rfl, by decide, lk2_all (P := OkP 33) ⟨c_33_0, c_33_1, c_33_2, c_33_3, c_33_4, trivial⟩⟩
def dkwJ19_resize_15 : List UInt8 := [25, 6, 176]
abbrev dktJ19_resize_15 : List UInt8 := dkwJ19_resize_15 ++ []
def dkwJ19_resize_14 : List UInt8 := [198, 0, 18, 25, 12, 1, 181, 0, 177, 25, 6, 21, 7, 28, 96, 25, 11, 83, 132, 7, 1, 167, 255, 57]
abbrev dktJ19_resize_14 : List UInt8 := dkwJ19_resize_14 ++ dktJ19_resize_15
def dkwJ19_resize_13 : List UInt8 := [199, 255, 185, 25, 10, 198, 0, 16, 25, 10, 1, 181, 0, 177, 25, 6, 21, 7, 25, 9, 83, 25, 12]
abbrev dktJ19_resize_13 : List UInt8 := dkwJ19_resize_13 ++ dktJ19_resize_14
def dkwJ19_resize_12 : List UInt8 := [25, 8, 58, 11, 167, 0, 10, 25, 12, 25, 8, 181, 0, 177, 25, 8, 58, 12, 25, 13, 89, 58, 8]
abbrev dktJ19_resize_12 : List UInt8 := dkwJ19_resize_12 ++ dktJ19_resize_13
def dkwJ19_resize_11 : List UInt8 := [58, 9, 167, 0, 10, 25, 10, 25, 8, 181, 0, 177, 25, 8, 58, 10, 167, 0, 26, 25, 12, 199, 0, 10]
abbrev dktJ19_resize_11 : List UInt8 := dkwJ19_resize_11 ++ dktJ19_resize_12
def dkwJ19_resize_10 : List UInt8 := [25, 8, 180, 0, 177, 58, 13, 25, 8, 180, 0, 168, 28, 126, 154, 0, 29, 25, 10, 199, 0, 10, 25, 8]
abbrev dktJ19_resize_10 : List UInt8 := dkwJ19_resize_10 ++ dktJ19_resize_11
def dkwJ19_resize_9 : List UInt8 := [42, 25, 6, 21, 7, 28, 182, 0, 211, 167, 0, 127, 1, 58, 9, 1, 58, 10, 1, 58, 11, 1, 58, 12]
abbrev dktJ19_resize_9 : List UInt8 := dkwJ19_resize_9 ++ dktJ19_resize_10
def dkwJ19_resize_8 : List UInt8 := [21, 4, 4, 100, 126, 25, 8, 83, 167, 0, 152, 25, 8, 193, 0, 180, 153, 0, 20, 25, 8, 192, 0, 180]
abbrev dktJ19_resize_8 : List UInt8 := dkwJ19_resize_8 ++ dktJ19_resize_9
def dkwJ19_resize_7 : List UInt8 := [198, 0, 183, 43, 21, 7, 1, 83, 25, 8, 180, 0, 177, 199, 0, 21, 25, 6, 25, 8, 180, 0, 168]
abbrev dktJ19_resize_7 : List UInt8 := dkwJ19_resize_7 ++ dktJ19_resize_8
def dkwJ19_resize_6 : List UInt8 := [181, 0, 105, 43, 198, 0, 208, 3, 54, 7, 21, 7, 28, 162, 0, 199, 43, 21, 7, 50, 89, 58, 8]
abbrev dktJ19_resize_6 : List UInt8 := dkwJ19_resize_6 ++ dktJ19_resize_7
def dkwJ19_resize_5 : List UInt8 := [167, 0, 5, 18, 209, 54, 5, 42, 21, 5, 181, 0, 88, 21, 4, 189, 0, 163, 58, 6, 42, 25, 6]
abbrev dktJ19_resize_5 : List UInt8 := dkwJ19_resize_5 ++ dktJ19_resize_6
def dkwJ19_resize_4 : List UInt8 := [180, 0, 81, 106, 56, 6, 21, 4, 18, 42, 162, 0, 17, 23, 6, 18, 210, 150, 156, 0, 9, 23, 6, 139]
abbrev dktJ19_resize_4 : List UInt8 := dkwJ19_resize_4 ++ dktJ19_resize_5
def dkwJ19_resize_3 : List UInt8 := [54, 4, 167, 0, 11, 16, 16, 54, 4, 16, 12, 54, 5, 21, 5, 154, 0, 38, 21, 4, 134, 42]
abbrev dktJ19_resize_3 : List UInt8 := dkwJ19_resize_3 ++ dktJ19_resize_4
def dkwJ19_resize_2 : List UInt8 := [18, 42, 162, 0, 35, 28, 16, 16, 161, 0, 29, 29, 4, 120, 54, 5, 167, 0, 21, 29, 158, 0, 9, 29]
abbrev dktJ19_resize_2 : List UInt8 := dkwJ19_resize_2 ++ dktJ19_resize_3
def dkwJ19_resize_1 : List UInt8 := [28, 158, 0, 42, 28, 18, 42, 161, 0, 11, 42, 18, 209, 181, 0, 88, 43, 176, 28, 4, 120, 89, 54, 4]
abbrev dktJ19_resize_1 : List UInt8 := dkwJ19_resize_1 ++ dktJ19_resize_2
def dkwJ19_resize_0 : List UInt8 := [42, 180, 0, 105, 76, 43, 199, 0, 7, 3, 167, 0, 5, 43, 190, 61, 42, 180, 0, 88, 62, 3, 54, 5]
abbrev dktJ19_resize_0 : List UInt8 := dkwJ19_resize_0 ++ dktJ19_resize_1
theorem dksJ19_resize_0 : cJ19_resize.data.toList.drop 0 = dktJ19_resize_0 := by decide +kernel
theorem dksJ19_resize_1 : cJ19_resize.data.toList.drop 24 = dktJ19_resize_1 := dk_seg dksJ19_resize_0 24 rfl rfl
theorem dksJ19_resize_2 : cJ19_resize.data.toList.drop 48 = dktJ19_resize_2 := dk_seg dksJ19_resize_1 24 rfl rfl
theorem dksJ19_resize_3 : cJ19_resize.data.toList.drop 72 = dktJ19_resize_3 := dk_seg dksJ19_resize_2 24 rfl rfl
theorem dksJ19_resize_4 : cJ19_resize.data.toList.drop 94 = dktJ19_resize_4 := dk_seg dksJ19_resize_3 22 rfl rfl
theorem dksJ19_resize_5 : cJ19_resize.data.toList.drop 118 = dktJ19_resize_5 := dk_seg dksJ19_resize_4 24 rfl rfl
theorem dksJ19_resize_6 : cJ19_resize.data.toList.drop 141 = dktJ19_resize_6 := dk_seg dksJ19_resize_5 23 rfl rfl
theorem dksJ19_resize_7 : cJ19_resize.data.toList.drop 164 = dktJ19_resize_7 := dk_seg dksJ19_resize_6 23 rfl rfl
theorem dksJ19_resize_8 : cJ19_resize.data.toList.drop 187 = dktJ19_resize_8 := dk_seg dksJ19_resize_7 23 rfl rfl
theorem dksJ19_resize_9 : cJ19_resize.data.toList.drop 211 = dktJ19_resize_9 := dk_seg dksJ19_resize_8 24 rfl rfl
theorem dksJ19_resize_10 : cJ19_resize.data.toList.drop 235 = dktJ19_resize_10 := dk_seg dksJ19_resize_9 24 rfl rfl
theorem dksJ19_resize_11 : cJ19_resize.data.toList.drop 259 = dktJ19_resize_11 := dk_seg dksJ19_resize_10 24 rfl rfl
theorem dksJ19_resize_12 : cJ19_resize.data.toList.drop 283 = dktJ19_resize_12 := dk_seg dksJ19_resize_11 24 rfl rfl
theorem dksJ19_resize_13 : cJ19_resize.data.toList.drop 306 = dktJ19_resize_13 := dk_seg dksJ19_resize_12 23 rfl rfl
theorem dksJ19_resize_14 : cJ19_resize.data.toList.drop 329 = dktJ19_resize_14 := dk_seg dksJ19_resize_13 23 rfl rfl
theorem dksJ19_resize_15 : cJ19_resize.data.toList.drop 353 = dktJ19_resize_15 := dk_seg dksJ19_resize_14 24 rfl rfl
theorem dJ19_resize_0 : decode cJ19_resize 0 = .ok (.aload_n 0, 1) := dk_42 (dk_at dksJ19_resize_0 0 rfl rfl)
theorem dJ19_resize_1 : decode cJ19_resize 1 = .ok (.getfield 105, 3) := dk_180 0 105 (dk_at dksJ19_resize_0 1 rfl rfl)
theorem dJ19_resize_4 : decode cJ19_resize 4 = .ok (.astore_n 1, 1) := dk_76 (dk_at dksJ19_resize_0 4 rfl rfl)
theorem dJ19_resize_5 : decode cJ19_resize 5 = .ok (.aload_n 1, 1) := dk_43 (dk_at dksJ19_resize_0 5 rfl rfl)
theorem dJ19_resize_6 : decode cJ19_resize 6 = .ok (.ifnonnull 7, 3) := dk_199 0 7 (dk_at dksJ19_resize_0 6 rfl rfl)
theorem dJ19_resize_9 : decode cJ19_resize 9 = .ok (.iconst 0, 1) := dk_3 (dk_at dksJ19_resize_0 9 rfl rfl)
theorem dJ19_resize_10 : decode cJ19_resize 10 = .ok (.goto 5, 3) := dk_167 0 5 (dk_at dksJ19_resize_0 10 rfl rfl)
theorem dJ19_resize_13 : decode cJ19_resize 13 = .ok (.aload_n 1, 1) := dk_43 (dk_at dksJ19_resize_0 13 rfl rfl)
theorem dJ19_resize_14 : decode cJ19_resize 14 = .ok (.arraylength, 1) := dk_190 (dk_at dksJ19_resize_0 14 rfl rfl)
theorem dJ19_resize_15 : decode cJ19_resize 15 = .ok (.istore_n 2, 1) := dk_61 (dk_at dksJ19_resize_0 15 rfl rfl)
theorem dJ19_resize_16 : decode cJ19_resize 16 = .ok (.aload_n 0, 1) := dk_42 (dk_at dksJ19_resize_0 16 rfl rfl)
theorem dJ19_resize_17 : decode cJ19_resize 17 = .ok (.getfield 88, 3) := dk_180 0 88 (dk_at dksJ19_resize_0 17 rfl rfl)
theorem dJ19_resize_20 : decode cJ19_resize 20 = .ok (.istore_n 3, 1) := dk_62 (dk_at dksJ19_resize_0 20 rfl rfl)
theorem dJ19_resize_21 : decode cJ19_resize 21 = .ok (.iconst 0, 1) := dk_3 (dk_at dksJ19_resize_0 21 rfl rfl)
theorem dJ19_resize_22 : decode cJ19_resize 22 = .ok (.istore 5, 2) := dk_54 5 (dk_at dksJ19_resize_0 22 rfl rfl)
theorem dJ19_resize_24 : decode cJ19_resize 24 = .ok (.iload_n 2, 1) := dk_28 (dk_at dksJ19_resize_1 0 rfl rfl)
theorem dJ19_resize_25 : decode cJ19_resize 25 = .ok (.ifCond .le 42, 3) := dk_158 0 42 (dk_at dksJ19_resize_1 1 rfl rfl)
theorem dJ19_resize_28 : decode cJ19_resize 28 = .ok (.iload_n 2, 1) := dk_28 (dk_at dksJ19_resize_1 4 rfl rfl)
theorem dJ19_resize_29 : decode cJ19_resize 29 = .ok (.ldc 42, 2) := dk_18 42 (dk_at dksJ19_resize_1 5 rfl rfl)
theorem dJ19_resize_31 : decode cJ19_resize 31 = .ok (.if_icmp .lt 11, 3) := dk_161 0 11 (dk_at dksJ19_resize_1 7 rfl rfl)
theorem dJ19_resize_34 : decode cJ19_resize 34 = .ok (.aload_n 0, 1) := dk_42 (dk_at dksJ19_resize_1 10 rfl rfl)
theorem dJ19_resize_35 : decode cJ19_resize 35 = .ok (.ldc 209, 2) := dk_18 209 (dk_at dksJ19_resize_1 11 rfl rfl)
theorem dJ19_resize_37 : decode cJ19_resize 37 = .ok (.putfield 88, 3) := dk_181 0 88 (dk_at dksJ19_resize_1 13 rfl rfl)
theorem dJ19_resize_40 : decode cJ19_resize 40 = .ok (.aload_n 1, 1) := dk_43 (dk_at dksJ19_resize_1 16 rfl rfl)
theorem dJ19_resize_41 : decode cJ19_resize 41 = .ok (.areturn, 1) := dk_176 (dk_at dksJ19_resize_1 17 rfl rfl)
theorem dJ19_resize_42 : decode cJ19_resize 42 = .ok (.iload_n 2, 1) := dk_28 (dk_at dksJ19_resize_1 18 rfl rfl)
theorem dJ19_resize_43 : decode cJ19_resize 43 = .ok (.iconst 1, 1) := dk_4 (dk_at dksJ19_resize_1 19 rfl rfl)
theorem dJ19_resize_44 : decode cJ19_resize 44 = .ok (.ishl, 1) := dk_120 (dk_at dksJ19_resize_1 20 rfl rfl)
theorem dJ19_resize_45 : decode cJ19_resize 45 = .ok (.dup, 1) := dk_89 (dk_at dksJ19_resize_1 21 rfl rfl)
theorem dJ19_resize_46 : decode cJ19_resize 46 = .ok (.istore 4, 2) := dk_54 4 (dk_at dksJ19_resize_1 22 rfl rfl)
theorem dJ19_resize_48 : decode cJ19_resize 48 = .ok (.ldc 42, 2) := dk_18 42 (dk_at dksJ19_resize_2 0 rfl rfl)
theorem dJ19_resize_50 : decode cJ19_resize 50 = .ok (.if_icmp .ge 35, 3) := dk_162 0 35 (dk_at dksJ19_resize_2 2 rfl rfl)
theorem dJ19_resize_53 : decode cJ19_resize 53 = .ok (.iload_n 2, 1) := dk_28 (dk_at dksJ19_resize_2 5 rfl rfl)
theorem dJ19_resize_54 : decode cJ19_resize 54 = .ok (.bipush 16, 2) := dk_16 16 (dk_at dksJ19_resize_2 6 rfl rfl)
theorem dJ19_resize_56 : decode cJ19_resize 56 = .ok (.if_icmp .lt 29, 3) := dk_161 0 29 (dk_at dksJ19_resize_2 8 rfl rfl)
theorem dJ19_resize_59 : decode cJ19_resize 59 = .ok (.iload_n 3, 1) := dk_29 (dk_at dksJ19_resize_2 11 rfl rfl)
theorem dJ19_resize_60 : decode cJ19_resize 60 = .ok (.iconst 1, 1) := dk_4 (dk_at dksJ19_resize_2 12 rfl rfl)
theorem dJ19_resize_61 : decode cJ19_resize 61 = .ok (.ishl, 1) := dk_120 (dk_at dksJ19_resize_2 13 rfl rfl)
theorem dJ19_resize_62 : decode cJ19_resize 62 = .ok (.istore 5, 2) := dk_54 5 (dk_at dksJ19_resize_2 14 rfl rfl)
theorem dJ19_resize_64 : decode cJ19_resize 64 = .ok (.goto 21, 3) := dk_167 0 21 (dk_at dksJ19_resize_2 16 rfl rfl)
theorem dJ19_resize_67 : decode cJ19_resize 67 = .ok (.iload_n 3, 1) := dk_29 (dk_at dksJ19_resize_2 19 rfl rfl)
theorem dJ19_resize_68 : decode cJ19_resize 68 = .ok (.ifCond .le 9, 3) := dk_158 0 9 (dk_at dksJ19_resize_2 20 rfl rfl)
theorem dJ19_resize_71 : decode cJ19_resize 71 = .ok (.iload_n 3, 1) := dk_29 (dk_at dksJ19_resize_2 23 rfl rfl)
theorem dJ19_resize_72 : decode cJ19_resize 72 = .ok (.istore 4, 2) := dk_54 4 (dk_at dksJ19_resize_3 0 rfl rfl)
theorem dJ19_resize_74 : decode cJ19_resize 74 = .ok (.goto 11, 3) := dk_167 0 11 (dk_at dksJ19_resize_3 2 rfl rfl)
theorem dJ19_resize_77 : decode cJ19_resize 77 = .ok (.bipush 16, 2) := dk_16 16 (dk_at dksJ19_resize_3 5 rfl rfl)
theorem dJ19_resize_79 : decode cJ19_resize 79 = .ok (.istore 4, 2) := dk_54 4 (dk_at dksJ19_resize_3 7 rfl rfl)
theorem dJ19_resize_81 : decode cJ19_resize 81 = .ok (.bipush 12, 2) := dk_16 12 (dk_at dksJ19_resize_3 9 rfl rfl)
theorem dJ19_resize_83 : decode cJ19_resize 83 = .ok (.istore 5, 2) := dk_54 5 (dk_at dksJ19_resize_3 11 rfl rfl)
theorem dJ19_resize_85 : decode cJ19_resize 85 = .ok (.iload 5, 2) := dk_21 5 (dk_at dksJ19_resize_3 13 rfl rfl)
theorem dJ19_resize_87 : decode cJ19_resize 87 = .ok (.ifCond .ne 38, 3) := dk_154 0 38 (dk_at dksJ19_resize_3 15 rfl rfl)
theorem dJ19_resize_90 : decode cJ19_resize 90 = .ok (.iload 4, 2) := dk_21 4 (dk_at dksJ19_resize_3 18 rfl rfl)
theorem dJ19_resize_92 : decode cJ19_resize 92 = .ok (.i2f, 1) := dk_134 (dk_at dksJ19_resize_3 20 rfl rfl)
theorem dJ19_resize_93 : decode cJ19_resize 93 = .ok (.aload_n 0, 1) := dk_42 (dk_at dksJ19_resize_3 21 rfl rfl)
theorem dJ19_resize_94 : decode cJ19_resize 94 = .ok (.getfield 81, 3) := dk_180 0 81 (dk_at dksJ19_resize_4 0 rfl rfl)
theorem dJ19_resize_98 : decode cJ19_resize 98 = .ok (.fstore 6, 2) := dk_56 6 (dk_at dksJ19_resize_4 4 rfl rfl)
theorem dJ19_resize_100 : decode cJ19_resize 100 = .ok (.iload 4, 2) := dk_21 4 (dk_at dksJ19_resize_4 6 rfl rfl)
theorem dJ19_resize_102 : decode cJ19_resize 102 = .ok (.ldc 42, 2) := dk_18 42 (dk_at dksJ19_resize_4 8 rfl rfl)
theorem dJ19_resize_104 : decode cJ19_resize 104 = .ok (.if_icmp .ge 17, 3) := dk_162 0 17 (dk_at dksJ19_resize_4 10 rfl rfl)
theorem dJ19_resize_107 : decode cJ19_resize 107 = .ok (.fload 6, 2) := dk_23 6 (dk_at dksJ19_resize_4 13 rfl rfl)
theorem dJ19_resize_109 : decode cJ19_resize 109 = .ok (.ldc 210, 2) := dk_18 210 (dk_at dksJ19_resize_4 15 rfl rfl)
theorem dJ19_resize_111 : decode cJ19_resize 111 = .ok (.fcmp .g, 1) := dk_150 (dk_at dksJ19_resize_4 17 rfl rfl)
theorem dJ19_resize_112 : decode cJ19_resize 112 = .ok (.ifCond .ge 9, 3) := dk_156 0 9 (dk_at dksJ19_resize_4 18 rfl rfl)
theorem dJ19_resize_115 : decode cJ19_resize 115 = .ok (.fload 6, 2) := dk_23 6 (dk_at dksJ19_resize_4 21 rfl rfl)
theorem dJ19_resize_118 : decode cJ19_resize 118 = .ok (.goto 5, 3) := dk_167 0 5 (dk_at dksJ19_resize_5 0 rfl rfl)
theorem dJ19_resize_121 : decode cJ19_resize 121 = .ok (.ldc 209, 2) := dk_18 209 (dk_at dksJ19_resize_5 3 rfl rfl)
theorem dJ19_resize_123 : decode cJ19_resize 123 = .ok (.istore 5, 2) := dk_54 5 (dk_at dksJ19_resize_5 5 rfl rfl)
theorem dJ19_resize_125 : decode cJ19_resize 125 = .ok (.aload_n 0, 1) := dk_42 (dk_at dksJ19_resize_5 7 rfl rfl)
theorem dJ19_resize_126 : decode cJ19_resize 126 = .ok (.iload 5, 2) := dk_21 5 (dk_at dksJ19_resize_5 8 rfl rfl)
theorem dJ19_resize_128 : decode cJ19_resize 128 = .ok (.putfield 88, 3) := dk_181 0 88 (dk_at dksJ19_resize_5 10 rfl rfl)
theorem dJ19_resize_131 : decode cJ19_resize 131 = .ok (.iload 4, 2) := dk_21 4 (dk_at dksJ19_resize_5 13 rfl rfl)
theorem dJ19_resize_133 : decode cJ19_resize 133 = .ok (.anewarray 163, 3) := dk_189 0 163 (dk_at dksJ19_resize_5 15 rfl rfl)
theorem dJ19_resize_136 : decode cJ19_resize 136 = .ok (.astore 6, 2) := dk_58 6 (dk_at dksJ19_resize_5 18 rfl rfl)
theorem dJ19_resize_138 : decode cJ19_resize 138 = .ok (.aload_n 0, 1) := dk_42 (dk_at dksJ19_resize_5 20 rfl rfl)
theorem dJ19_resize_139 : decode cJ19_resize 139 = .ok (.aload 6, 2) := dk_25 6 (dk_at dksJ19_resize_5 21 rfl rfl)
theorem dJ19_resize_141 : decode cJ19_resize 141 = .ok (.putfield 105, 3) := dk_181 0 105 (dk_at dksJ19_resize_6 0 rfl rfl)
theorem dJ19_resize_144 : decode cJ19_resize 144 = .ok (.aload_n 1, 1) := dk_43 (dk_at dksJ19_resize_6 3 rfl rfl)
theorem dJ19_resize_145 : decode cJ19_resize 145 = .ok (.ifnull 208, 3) := dk_198 0 208 (dk_at dksJ19_resize_6 4 rfl rfl)
theorem dJ19_resize_148 : decode cJ19_resize 148 = .ok (.iconst 0, 1) := dk_3 (dk_at dksJ19_resize_6 7 rfl rfl)
theorem dJ19_resize_149 : decode cJ19_resize 149 = .ok (.istore 7, 2) := dk_54 7 (dk_at dksJ19_resize_6 8 rfl rfl)
theorem dJ19_resize_151 : decode cJ19_resize 151 = .ok (.iload 7, 2) := dk_21 7 (dk_at dksJ19_resize_6 10 rfl rfl)
theorem dJ19_resize_153 : decode cJ19_resize 153 = .ok (.iload_n 2, 1) := dk_28 (dk_at dksJ19_resize_6 12 rfl rfl)
theorem dJ19_resize_154 : decode cJ19_resize 154 = .ok (.if_icmp .ge 199, 3) := dk_162 0 199 (dk_at dksJ19_resize_6 13 rfl rfl)
theorem dJ19_resize_157 : decode cJ19_resize 157 = .ok (.aload_n 1, 1) := dk_43 (dk_at dksJ19_resize_6 16 rfl rfl)
theorem dJ19_resize_158 : decode cJ19_resize 158 = .ok (.iload 7, 2) := dk_21 7 (dk_at dksJ19_resize_6 17 rfl rfl)
theorem dJ19_resize_160 : decode cJ19_resize 160 = .ok (.aaload, 1) := dk_50 (dk_at dksJ19_resize_6 19 rfl rfl)
theorem dJ19_resize_161 : decode cJ19_resize 161 = .ok (.dup, 1) := dk_89 (dk_at dksJ19_resize_6 20 rfl rfl)
theorem dJ19_resize_162 : decode cJ19_resize 162 = .ok (.astore 8, 2) := dk_58 8 (dk_at dksJ19_resize_6 21 rfl rfl)
theorem dJ19_resize_164 : decode cJ19_resize 164 = .ok (.ifnull 183, 3) := dk_198 0 183 (dk_at dksJ19_resize_7 0 rfl rfl)
theorem dJ19_resize_167 : decode cJ19_resize 167 = .ok (.aload_n 1, 1) := dk_43 (dk_at dksJ19_resize_7 3 rfl rfl)
theorem dJ19_resize_168 : decode cJ19_resize 168 = .ok (.iload 7, 2) := dk_21 7 (dk_at dksJ19_resize_7 4 rfl rfl)
theorem dJ19_resize_170 : decode cJ19_resize 170 = .ok (.aconst_null, 1) := dk_1 (dk_at dksJ19_resize_7 6 rfl rfl)
theorem dJ19_resize_171 : decode cJ19_resize 171 = .ok (.aastore, 1) := dk_83 (dk_at dksJ19_resize_7 7 rfl rfl)
theorem dJ19_resize_172 : decode cJ19_resize 172 = .ok (.aload 8, 2) := dk_25 8 (dk_at dksJ19_resize_7 8 rfl rfl)
theorem dJ19_resize_174 : decode cJ19_resize 174 = .ok (.getfield 177, 3) := dk_180 0 177 (dk_at dksJ19_resize_7 10 rfl rfl)
theorem dJ19_resize_177 : decode cJ19_resize 177 = .ok (.ifnonnull 21, 3) := dk_199 0 21 (dk_at dksJ19_resize_7 13 rfl rfl)
theorem dJ19_resize_180 : decode cJ19_resize 180 = .ok (.aload 6, 2) := dk_25 6 (dk_at dksJ19_resize_7 16 rfl rfl)
theorem dJ19_resize_182 : decode cJ19_resize 182 = .ok (.aload 8, 2) := dk_25 8 (dk_at dksJ19_resize_7 18 rfl rfl)
theorem dJ19_resize_184 : decode cJ19_resize 184 = .ok (.getfield 168, 3) := dk_180 0 168 (dk_at dksJ19_resize_7 20 rfl rfl)
theorem dJ19_resize_187 : decode cJ19_resize 187 = .ok (.iload 4, 2) := dk_21 4 (dk_at dksJ19_resize_8 0 rfl rfl)
theorem dJ19_resize_189 : decode cJ19_resize 189 = .ok (.iconst 1, 1) := dk_4 (dk_at dksJ19_resize_8 2 rfl rfl)
theorem dJ19_resize_190 : decode cJ19_resize 190 = .ok (.isub, 1) := dk_100 (dk_at dksJ19_resize_8 3 rfl rfl)
theorem dJ19_resize_191 : decode cJ19_resize 191 = .ok (.iand, 1) := dk_126 (dk_at dksJ19_resize_8 4 rfl rfl)
theorem dJ19_resize_192 : decode cJ19_resize 192 = .ok (.aload 8, 2) := dk_25 8 (dk_at dksJ19_resize_8 5 rfl rfl)
theorem dJ19_resize_194 : decode cJ19_resize 194 = .ok (.aastore, 1) := dk_83 (dk_at dksJ19_resize_8 7 rfl rfl)
theorem dJ19_resize_195 : decode cJ19_resize 195 = .ok (.goto 152, 3) := dk_167 0 152 (dk_at dksJ19_resize_8 8 rfl rfl)
theorem dJ19_resize_198 : decode cJ19_resize 198 = .ok (.aload 8, 2) := dk_25 8 (dk_at dksJ19_resize_8 11 rfl rfl)
theorem dJ19_resize_200 : decode cJ19_resize 200 = .ok (.instanceof 180, 3) := dk_193 0 180 (dk_at dksJ19_resize_8 13 rfl rfl)
theorem dJ19_resize_203 : decode cJ19_resize 203 = .ok (.ifCond .eq 20, 3) := dk_153 0 20 (dk_at dksJ19_resize_8 16 rfl rfl)
theorem dJ19_resize_206 : decode cJ19_resize 206 = .ok (.aload 8, 2) := dk_25 8 (dk_at dksJ19_resize_8 19 rfl rfl)
theorem dJ19_resize_211 : decode cJ19_resize 211 = .ok (.aload_n 0, 1) := dk_42 (dk_at dksJ19_resize_9 0 rfl rfl)
theorem dJ19_resize_212 : decode cJ19_resize 212 = .ok (.aload 6, 2) := dk_25 6 (dk_at dksJ19_resize_9 1 rfl rfl)
theorem dJ19_resize_214 : decode cJ19_resize 214 = .ok (.iload 7, 2) := dk_21 7 (dk_at dksJ19_resize_9 3 rfl rfl)
theorem dJ19_resize_216 : decode cJ19_resize 216 = .ok (.iload_n 2, 1) := dk_28 (dk_at dksJ19_resize_9 5 rfl rfl)
theorem dJ19_resize_220 : decode cJ19_resize 220 = .ok (.goto 127, 3) := dk_167 0 127 (dk_at dksJ19_resize_9 9 rfl rfl)
theorem dJ19_resize_223 : decode cJ19_resize 223 = .ok (.aconst_null, 1) := dk_1 (dk_at dksJ19_resize_9 12 rfl rfl)
theorem dJ19_resize_224 : decode cJ19_resize 224 = .ok (.astore 9, 2) := dk_58 9 (dk_at dksJ19_resize_9 13 rfl rfl)
theorem dJ19_resize_226 : decode cJ19_resize 226 = .ok (.aconst_null, 1) := dk_1 (dk_at dksJ19_resize_9 15 rfl rfl)
theorem dJ19_resize_227 : decode cJ19_resize 227 = .ok (.astore 10, 2) := dk_58 10 (dk_at dksJ19_resize_9 16 rfl rfl)
theorem dJ19_resize_229 : decode cJ19_resize 229 = .ok (.aconst_null, 1) := dk_1 (dk_at dksJ19_resize_9 18 rfl rfl)
theorem dJ19_resize_230 : decode cJ19_resize 230 = .ok (.astore 11, 2) := dk_58 11 (dk_at dksJ19_resize_9 19 rfl rfl)
theorem dJ19_resize_232 : decode cJ19_resize 232 = .ok (.aconst_null, 1) := dk_1 (dk_at dksJ19_resize_9 21 rfl rfl)
theorem dJ19_resize_233 : decode cJ19_resize 233 = .ok (.astore 12, 2) := dk_58 12 (dk_at dksJ19_resize_9 22 rfl rfl)
theorem dJ19_resize_235 : decode cJ19_resize 235 = .ok (.aload 8, 2) := dk_25 8 (dk_at dksJ19_resize_10 0 rfl rfl)
theorem dJ19_resize_237 : decode cJ19_resize 237 = .ok (.getfield 177, 3) := dk_180 0 177 (dk_at dksJ19_resize_10 2 rfl rfl)
theorem dJ19_resize_240 : decode cJ19_resize 240 = .ok (.astore 13, 2) := dk_58 13 (dk_at dksJ19_resize_10 5 rfl rfl)
theorem dJ19_resize_242 : decode cJ19_resize 242 = .ok (.aload 8, 2) := dk_25 8 (dk_at dksJ19_resize_10 7 rfl rfl)
theorem dJ19_resize_244 : decode cJ19_resize 244 = .ok (.getfield 168, 3) := dk_180 0 168 (dk_at dksJ19_resize_10 9 rfl rfl)
theorem dJ19_resize_247 : decode cJ19_resize 247 = .ok (.iload_n 2, 1) := dk_28 (dk_at dksJ19_resize_10 12 rfl rfl)
theorem dJ19_resize_248 : decode cJ19_resize 248 = .ok (.iand, 1) := dk_126 (dk_at dksJ19_resize_10 13 rfl rfl)
theorem dJ19_resize_249 : decode cJ19_resize 249 = .ok (.ifCond .ne 29, 3) := dk_154 0 29 (dk_at dksJ19_resize_10 14 rfl rfl)
theorem dJ19_resize_252 : decode cJ19_resize 252 = .ok (.aload 10, 2) := dk_25 10 (dk_at dksJ19_resize_10 17 rfl rfl)
theorem dJ19_resize_254 : decode cJ19_resize 254 = .ok (.ifnonnull 10, 3) := dk_199 0 10 (dk_at dksJ19_resize_10 19 rfl rfl)
theorem dJ19_resize_257 : decode cJ19_resize 257 = .ok (.aload 8, 2) := dk_25 8 (dk_at dksJ19_resize_10 22 rfl rfl)
theorem dJ19_resize_259 : decode cJ19_resize 259 = .ok (.astore 9, 2) := dk_58 9 (dk_at dksJ19_resize_11 0 rfl rfl)
theorem dJ19_resize_261 : decode cJ19_resize 261 = .ok (.goto 10, 3) := dk_167 0 10 (dk_at dksJ19_resize_11 2 rfl rfl)
theorem dJ19_resize_264 : decode cJ19_resize 264 = .ok (.aload 10, 2) := dk_25 10 (dk_at dksJ19_resize_11 5 rfl rfl)
theorem dJ19_resize_266 : decode cJ19_resize 266 = .ok (.aload 8, 2) := dk_25 8 (dk_at dksJ19_resize_11 7 rfl rfl)
theorem dJ19_resize_268 : decode cJ19_resize 268 = .ok (.putfield 177, 3) := dk_181 0 177 (dk_at dksJ19_resize_11 9 rfl rfl)
theorem dJ19_resize_271 : decode cJ19_resize 271 = .ok (.aload 8, 2) := dk_25 8 (dk_at dksJ19_resize_11 12 rfl rfl)
theorem dJ19_resize_273 : decode cJ19_resize 273 = .ok (.astore 10, 2) := dk_58 10 (dk_at dksJ19_resize_11 14 rfl rfl)
theorem dJ19_resize_275 : decode cJ19_resize 275 = .ok (.goto 26, 3) := dk_167 0 26 (dk_at dksJ19_resize_11 16 rfl rfl)
theorem dJ19_resize_278 : decode cJ19_resize 278 = .ok (.aload 12, 2) := dk_25 12 (dk_at dksJ19_resize_11 19 rfl rfl)
theorem dJ19_resize_280 : decode cJ19_resize 280 = .ok (.ifnonnull 10, 3) := dk_199 0 10 (dk_at dksJ19_resize_11 21 rfl rfl)
theorem dJ19_resize_283 : decode cJ19_resize 283 = .ok (.aload 8, 2) := dk_25 8 (dk_at dksJ19_resize_12 0 rfl rfl)
theorem dJ19_resize_285 : decode cJ19_resize 285 = .ok (.astore 11, 2) := dk_58 11 (dk_at dksJ19_resize_12 2 rfl rfl)
theorem dJ19_resize_287 : decode cJ19_resize 287 = .ok (.goto 10, 3) := dk_167 0 10 (dk_at dksJ19_resize_12 4 rfl rfl)
theorem dJ19_resize_290 : decode cJ19_resize 290 = .ok (.aload 12, 2) := dk_25 12 (dk_at dksJ19_resize_12 7 rfl rfl)
theorem dJ19_resize_292 : decode cJ19_resize 292 = .ok (.aload 8, 2) := dk_25 8 (dk_at dksJ19_resize_12 9 rfl rfl)
theorem dJ19_resize_294 : decode cJ19_resize 294 = .ok (.putfield 177, 3) := dk_181 0 177 (dk_at dksJ19_resize_12 11 rfl rfl)
theorem dJ19_resize_297 : decode cJ19_resize 297 = .ok (.aload 8, 2) := dk_25 8 (dk_at dksJ19_resize_12 14 rfl rfl)
theorem dJ19_resize_299 : decode cJ19_resize 299 = .ok (.astore 12, 2) := dk_58 12 (dk_at dksJ19_resize_12 16 rfl rfl)
theorem dJ19_resize_301 : decode cJ19_resize 301 = .ok (.aload 13, 2) := dk_25 13 (dk_at dksJ19_resize_12 18 rfl rfl)
theorem dJ19_resize_303 : decode cJ19_resize 303 = .ok (.dup, 1) := dk_89 (dk_at dksJ19_resize_12 20 rfl rfl)
theorem dJ19_resize_304 : decode cJ19_resize 304 = .ok (.astore 8, 2) := dk_58 8 (dk_at dksJ19_resize_12 21 rfl rfl)
theorem dJ19_resize_306 : decode cJ19_resize 306 = .ok (.ifnonnull (-71), 3) := dk_199 255 185 (dk_at dksJ19_resize_13 0 rfl rfl)
theorem dJ19_resize_309 : decode cJ19_resize 309 = .ok (.aload 10, 2) := dk_25 10 (dk_at dksJ19_resize_13 3 rfl rfl)
theorem dJ19_resize_311 : decode cJ19_resize 311 = .ok (.ifnull 16, 3) := dk_198 0 16 (dk_at dksJ19_resize_13 5 rfl rfl)
theorem dJ19_resize_314 : decode cJ19_resize 314 = .ok (.aload 10, 2) := dk_25 10 (dk_at dksJ19_resize_13 8 rfl rfl)
theorem dJ19_resize_316 : decode cJ19_resize 316 = .ok (.aconst_null, 1) := dk_1 (dk_at dksJ19_resize_13 10 rfl rfl)
theorem dJ19_resize_317 : decode cJ19_resize 317 = .ok (.putfield 177, 3) := dk_181 0 177 (dk_at dksJ19_resize_13 11 rfl rfl)
theorem dJ19_resize_320 : decode cJ19_resize 320 = .ok (.aload 6, 2) := dk_25 6 (dk_at dksJ19_resize_13 14 rfl rfl)
theorem dJ19_resize_322 : decode cJ19_resize 322 = .ok (.iload 7, 2) := dk_21 7 (dk_at dksJ19_resize_13 16 rfl rfl)
theorem dJ19_resize_324 : decode cJ19_resize 324 = .ok (.aload 9, 2) := dk_25 9 (dk_at dksJ19_resize_13 18 rfl rfl)
theorem dJ19_resize_326 : decode cJ19_resize 326 = .ok (.aastore, 1) := dk_83 (dk_at dksJ19_resize_13 20 rfl rfl)
theorem dJ19_resize_327 : decode cJ19_resize 327 = .ok (.aload 12, 2) := dk_25 12 (dk_at dksJ19_resize_13 21 rfl rfl)
theorem dJ19_resize_329 : decode cJ19_resize 329 = .ok (.ifnull 18, 3) := dk_198 0 18 (dk_at dksJ19_resize_14 0 rfl rfl)
theorem dJ19_resize_332 : decode cJ19_resize 332 = .ok (.aload 12, 2) := dk_25 12 (dk_at dksJ19_resize_14 3 rfl rfl)
theorem dJ19_resize_334 : decode cJ19_resize 334 = .ok (.aconst_null, 1) := dk_1 (dk_at dksJ19_resize_14 5 rfl rfl)
theorem dJ19_resize_335 : decode cJ19_resize 335 = .ok (.putfield 177, 3) := dk_181 0 177 (dk_at dksJ19_resize_14 6 rfl rfl)
theorem dJ19_resize_338 : decode cJ19_resize 338 = .ok (.aload 6, 2) := dk_25 6 (dk_at dksJ19_resize_14 9 rfl rfl)
theorem dJ19_resize_340 : decode cJ19_resize 340 = .ok (.iload 7, 2) := dk_21 7 (dk_at dksJ19_resize_14 11 rfl rfl)
theorem dJ19_resize_342 : decode cJ19_resize 342 = .ok (.iload_n 2, 1) := dk_28 (dk_at dksJ19_resize_14 13 rfl rfl)
theorem dJ19_resize_343 : decode cJ19_resize 343 = .ok (.iadd, 1) := dk_96 (dk_at dksJ19_resize_14 14 rfl rfl)
theorem dJ19_resize_344 : decode cJ19_resize 344 = .ok (.aload 11, 2) := dk_25 11 (dk_at dksJ19_resize_14 15 rfl rfl)
theorem dJ19_resize_346 : decode cJ19_resize 346 = .ok (.aastore, 1) := dk_83 (dk_at dksJ19_resize_14 17 rfl rfl)
theorem dJ19_resize_347 : decode cJ19_resize 347 = .ok (.iinc 7 1, 3) := dk_132 7 1 (dk_at dksJ19_resize_14 18 rfl rfl)
theorem dJ19_resize_350 : decode cJ19_resize 350 = .ok (.goto (-199), 3) := dk_167 255 57 (dk_at dksJ19_resize_14 21 rfl rfl)
theorem dJ19_resize_353 : decode cJ19_resize 353 = .ok (.aload 6, 2) := dk_25 6 (dk_at dksJ19_resize_15 0 rfl rfl)
theorem dJ19_resize_355 : decode cJ19_resize 355 = .ok (.areturn, 1) := dk_176 (dk_at dksJ19_resize_15 2 rfl rfl)
theorem c_34_0 : LkP (OkP 34) [(0, o_aload 0 1), (1, o_get 31), (4, o_astore 1 1), (5, o_aload 1 1), (6, o_ifnonnull 13), (9, o_push 1 (.int 0)), (10, o_goto 15), (13, o_aload 1 1), (14, o_alen), (15, o_istore 2 1), (16, o_aload 0 1), (17, o_get 35), (20, o_istore 3 1), (21, o_push 1 (.int 0)), (22, o_istore 5 2), (24, o_iload 2 1), (25, o_if (fun x => decide (x ≤ 0)) 67), (28, o_iload 2 1), (29, o_push 2 (.int 1073741824)), (31, o_icmp (fun x y => decide (x < y)) 42), (34, o_aload 0 1), (35, o_push 2 (.int 2147483647)), (37, o_put 35 1), (40, o_aload 1 1), (41, o_ret 0), (42, o_iload 2 1), (43, o_push 1 (.int 1)), (44, o_iop (fun x y => x <<< (y &&& 31))), (45, o_dup), (46, o_istore 4 2), (48, o_push 2 (.int 1073741824)), (50, o_icmp (fun x y => decide (y ≤ x)) 85), (53, o_iload 2 1), (54, o_push 2 (.int 16)), (56, o_icmp (fun x y => decide (x < y)) 85), (59, o_iload 3 1), (60, o_push 1 (.int 1)), (61, o_iop (fun x y => x <<< (y &&& 31))), (62, o_istore 5 2)] := lkp_c (P := OkP 34) ⟨(PuOK.ok (ok_aload_n dJ19_resize_0 rfl)), m_aload⟩ (
  lkp_c (P := OkP 34) ⟨ok_get ⟨"java/util/HashMap", q599, Or.inl rfl⟩ dJ19_resize_1, m_get⟩ (
  lkp_c (P := OkP 34) ⟨(PuOK.ok (ok_astore_n dJ19_resize_4 rfl)), m_astore⟩ (
  lkp_c (P := OkP 34) ⟨(PuOK.ok (ok_aload_n dJ19_resize_5 rfl)), m_aload⟩ (
  lkp_c (P := OkP 34) ⟨(PuOK.ok (ok_ifnonnull dJ19_resize_6 rfl)), m_ifnonnull⟩ (
  lkp_c (P := OkP 34) ⟨(PuOK.ok (ok_iconst dJ19_resize_9 rfl)), m_push⟩ (
  lkp_c (P := OkP 34) ⟨(PuOK.ok (ok_goto dJ19_resize_10 rfl)), m_goto⟩ (
  lkp_c (P := OkP 34) ⟨(PuOK.ok (ok_aload_n dJ19_resize_13 rfl)), m_aload⟩ (
  lkp_c (P := OkP 34) ⟨ok_alen dJ19_resize_14, m_alen⟩ (
  lkp_c (P := OkP 34) ⟨(PuOK.ok (ok_istore_n dJ19_resize_15 rfl)), m_istore⟩ (
  lkp_c (P := OkP 34) ⟨(PuOK.ok (ok_aload_n dJ19_resize_16 rfl)), m_aload⟩ (
  lkp_c (P := OkP 34) ⟨ok_get ⟨"java/util/HashMap", q605, Or.inl rfl⟩ dJ19_resize_17, m_get⟩ (
  lkp_c (P := OkP 34) ⟨(PuOK.ok (ok_istore_n dJ19_resize_20 rfl)), m_istore⟩ (
  lkp_c (P := OkP 34) ⟨(PuOK.ok (ok_iconst dJ19_resize_21 rfl)), m_push⟩ (
  lkp_c (P := OkP 34) ⟨(PuOK.ok (ok_istore dJ19_resize_22)), m_istore⟩ (
  lkp_c (P := OkP 34) ⟨(PuOK.ok (ok_iload_n dJ19_resize_24 rfl)), m_iload⟩ (
  lkp_c (P := OkP 34) ⟨(PuOK.ok (ok_if_le dJ19_resize_25 rfl)), m_if⟩ (
  lkp_c (P := OkP 34) ⟨(PuOK.ok (ok_iload_n dJ19_resize_28 rfl)), m_iload⟩ (
  lkp_c (P := OkP 34) ⟨(PuOK.ok (ok_ldc q2706 dJ19_resize_29)), m_push⟩ (
  lkp_c (P := OkP 34) ⟨(PuOK.ok (ok_icmp_lt dJ19_resize_31 rfl)), m_icmp⟩ (
  lkp_c (P := OkP 34) ⟨(PuOK.ok (ok_aload_n dJ19_resize_34 rfl)), m_aload⟩ (
  lkp_c (P := OkP 34) ⟨(PuOK.ok (ok_ldc q2707 dJ19_resize_35)), m_push⟩ (
  lkp_c (P := OkP 34) ⟨ok_put ⟨"java/util/HashMap", q605, Or.inl rfl⟩ rfl fd_35 rfl dJ19_resize_37, m_put⟩ (
  lkp_c (P := OkP 34) ⟨(PuOK.ok (ok_aload_n dJ19_resize_40 rfl)), m_aload⟩ (
  lkp_c (P := OkP 34) ⟨ok_aret rfl (Or.inr ⟨_, rfl⟩) dJ19_resize_41, m_ret⟩ (
  lkp_c (P := OkP 34) ⟨(PuOK.ok (ok_iload_n dJ19_resize_42 rfl)), m_iload⟩ (
  lkp_c (P := OkP 34) ⟨(PuOK.ok (ok_iconst dJ19_resize_43 rfl)), m_push⟩ (
  lkp_c (P := OkP 34) ⟨(PuOK.ok (ok_ishl dJ19_resize_44)), m_iop⟩ (
  lkp_c (P := OkP 34) ⟨(PuOK.ok (ok_dup dJ19_resize_45)), m_dup⟩ (
  lkp_c (P := OkP 34) ⟨(PuOK.ok (ok_istore dJ19_resize_46)), m_istore⟩ (
  lkp_c (P := OkP 34) ⟨(PuOK.ok (ok_ldc q2706 dJ19_resize_48)), m_push⟩ (
  lkp_c (P := OkP 34) ⟨(PuOK.ok (ok_icmp_ge dJ19_resize_50 rfl)), m_icmp⟩ (
  lkp_c (P := OkP 34) ⟨(PuOK.ok (ok_iload_n dJ19_resize_53 rfl)), m_iload⟩ (
  lkp_c (P := OkP 34) ⟨(PuOK.ok (ok_bipush dJ19_resize_54 rfl)), m_push⟩ (
  lkp_c (P := OkP 34) ⟨(PuOK.ok (ok_icmp_lt dJ19_resize_56 rfl)), m_icmp⟩ (
  lkp_c (P := OkP 34) ⟨(PuOK.ok (ok_iload_n dJ19_resize_59 rfl)), m_iload⟩ (
  lkp_c (P := OkP 34) ⟨(PuOK.ok (ok_iconst dJ19_resize_60 rfl)), m_push⟩ (
  lkp_c (P := OkP 34) ⟨(PuOK.ok (ok_ishl dJ19_resize_61)), m_iop⟩ (
  lkp_c (P := OkP 34) ⟨(PuOK.ok (ok_istore dJ19_resize_62)), m_istore⟩ (
  trivial)))))))))))))))))))))))))))))))))))))))
theorem c_34_1 : LkP (OkP 34) [(64, o_goto 85), (67, o_iload 3 1), (68, o_if (fun x => decide (x ≤ 0)) 77), (71, o_iload 3 1), (72, o_istore 4 2), (74, o_goto 85), (77, o_push 2 (.int 16)), (79, o_istore 4 2), (81, o_push 2 (.int 12)), (83, o_istore 5 2), (85, o_iload 5 2), (87, o_if (fun x => decide (¬ x = 0)) 125), (90, o_iload 4 2), (92, o_i2f), (93, o_aload 0 1), (94, o_get 36), (98, o_fstore 6 2), (100, o_iload 4 2), (102, o_push 2 (.int 1073741824)), (104, o_icmp (fun x y => decide (y ≤ x)) 121), (107, o_fload 6 2), (109, o_push 2 (.float 1317011456)), (111, o_fcmp .g), (112, o_if (fun x => decide (0 ≤ x)) 121), (115, o_fload 6 2), (118, o_goto 123), (121, o_push 2 (.int 2147483647)), (123, o_istore 5 2), (125, o_aload 0 1), (126, o_iload 5 2)] := lkp_c (P := OkP 34) ⟨(PuOK.ok (ok_goto dJ19_resize_64 rfl)), m_goto⟩ (
  lkp_c (P := OkP 34) ⟨(PuOK.ok (ok_iload_n dJ19_resize_67 rfl)), m_iload⟩ (
  lkp_c (P := OkP 34) ⟨(PuOK.ok (ok_if_le dJ19_resize_68 rfl)), m_if⟩ (
  lkp_c (P := OkP 34) ⟨(PuOK.ok (ok_iload_n dJ19_resize_71 rfl)), m_iload⟩ (
  lkp_c (P := OkP 34) ⟨(PuOK.ok (ok_istore dJ19_resize_72)), m_istore⟩ (
  lkp_c (P := OkP 34) ⟨(PuOK.ok (ok_goto dJ19_resize_74 rfl)), m_goto⟩ (
  lkp_c (P := OkP 34) ⟨(PuOK.ok (ok_bipush dJ19_resize_77 rfl)), m_push⟩ (
  lkp_c (P := OkP 34) ⟨(PuOK.ok (ok_istore dJ19_resize_79)), m_istore⟩ (
  lkp_c (P := OkP 34) ⟨(PuOK.ok (ok_bipush dJ19_resize_81 rfl)), m_push⟩ (
  lkp_c (P := OkP 34) ⟨(PuOK.ok (ok_istore dJ19_resize_83)), m_istore⟩ (
  lkp_c (P := OkP 34) ⟨(PuOK.ok (ok_iload dJ19_resize_85)), m_iload⟩ (
  lkp_c (P := OkP 34) ⟨(PuOK.ok (ok_if_ne dJ19_resize_87 rfl)), m_if⟩ (
  lkp_c (P := OkP 34) ⟨(PuOK.ok (ok_iload dJ19_resize_90)), m_iload⟩ (
  lkp_c (P := OkP 34) ⟨(PuOK.ok (ok_i2f dJ19_resize_92)), m_i2f⟩ (
  lkp_c (P := OkP 34) ⟨(PuOK.ok (ok_aload_n dJ19_resize_93 rfl)), m_aload⟩ (
  lkp_c (P := OkP 34) ⟨ok_get ⟨"java/util/HashMap", q606, Or.inl rfl⟩ dJ19_resize_94, m_get⟩ (
  lkp_c (P := OkP 34) ⟨(PuOK.ok (ok_fstore dJ19_resize_98)), m_fstore⟩ (
  lkp_c (P := OkP 34) ⟨(PuOK.ok (ok_iload dJ19_resize_100)), m_iload⟩ (
  lkp_c (P := OkP 34) ⟨(PuOK.ok (ok_ldc q2706 dJ19_resize_102)), m_push⟩ (
  lkp_c (P := OkP 34) ⟨(PuOK.ok (ok_icmp_ge dJ19_resize_104 rfl)), m_icmp⟩ (
  lkp_c (P := OkP 34) ⟨(PuOK.ok (ok_fload dJ19_resize_107)), m_fload⟩ (
  lkp_c (P := OkP 34) ⟨(PuOK.ok (ok_ldcf q2708 dJ19_resize_109)), m_push⟩ (
  lkp_c (P := OkP 34) ⟨(PuOK.ok (ok_fcmp dJ19_resize_111)), m_fcmp⟩ (
  lkp_c (P := OkP 34) ⟨(PuOK.ok (ok_if_ge dJ19_resize_112 rfl)), m_if⟩ (
  lkp_c (P := OkP 34) ⟨(PuOK.ok (ok_fload dJ19_resize_115)), m_fload⟩ (
  lkp_c (P := OkP 34) ⟨(PuOK.ok (ok_goto dJ19_resize_118 rfl)), m_goto⟩ (
  lkp_c (P := OkP 34) ⟨(PuOK.ok (ok_ldc q2707 dJ19_resize_121)), m_push⟩ (
  lkp_c (P := OkP 34) ⟨(PuOK.ok (ok_istore dJ19_resize_123)), m_istore⟩ (
  lkp_c (P := OkP 34) ⟨(PuOK.ok (ok_aload_n dJ19_resize_125 rfl)), m_aload⟩ (
  lkp_c (P := OkP 34) ⟨(PuOK.ok (ok_iload dJ19_resize_126)), m_iload⟩ (
  trivial))))))))))))))))))))))))))))))
theorem c_34_2 : LkP (OkP 34) [(128, o_put 35 1), (131, o_iload 4 2), (133, o_newa 9 3), (136, o_astore 6 2), (138, o_aload 0 1), (139, o_aload 6 2), (141, o_put 31 0), (144, o_aload 1 1), (145, o_ifnull 353), (148, o_push 1 (.int 0)), (149, o_istore 7 2), (151, o_iload 7 2), (153, o_iload 2 1), (154, o_icmp (fun x y => decide (y ≤ x)) 353), (157, o_aload 1 1), (158, o_iload 7 2), (160, o_rdQ), (161, o_dup), (162, o_astore 8 2), (164, o_ifnull 347), (167, o_aload 1 1), (168, o_iload 7 2), (170, o_push 1 .null), (171, o_wrQ 9 [28]), (172, o_aload 8 2), (174, o_get 146), (177, o_ifnonnull 198), (180, o_aload 6 2), (182, o_aload 8 2), (184, o_get 143), (187, o_iload 4 2), (189, o_push 1 (.int 1)), (190, o_iop (fun x y => x - y)), (191, o_iop (fun x y => x &&& y))] := lkp_c (P := OkP 34) ⟨ok_put ⟨"java/util/HashMap", q605, Or.inl rfl⟩ rfl fd_35 rfl dJ19_resize_128, m_put⟩ (
  lkp_c (P := OkP 34) ⟨(PuOK.ok (ok_iload dJ19_resize_131)), m_iload⟩ (
  lkp_c (P := OkP 34) ⟨ok_anew (by decide) (by decide) rfl q2709 q2710 dJ19_resize_133, m_newa⟩ (
  lkp_c (P := OkP 34) ⟨(PuOK.ok (ok_astore dJ19_resize_136)), m_astore⟩ (
  lkp_c (P := OkP 34) ⟨(PuOK.ok (ok_aload_n dJ19_resize_138 rfl)), m_aload⟩ (
  lkp_c (P := OkP 34) ⟨(PuOK.ok (ok_aload dJ19_resize_139)), m_aload⟩ (
  lkp_c (P := OkP 34) ⟨ok_put ⟨"java/util/HashMap", q599, Or.inl rfl⟩ rfl fd_31 rfl dJ19_resize_141, m_put⟩ (
  lkp_c (P := OkP 34) ⟨(PuOK.ok (ok_aload_n dJ19_resize_144 rfl)), m_aload⟩ (
  lkp_c (P := OkP 34) ⟨(PuOK.ok (ok_ifnull dJ19_resize_145 rfl)), m_ifnull⟩ (
  lkp_c (P := OkP 34) ⟨(PuOK.ok (ok_iconst dJ19_resize_148 rfl)), m_push⟩ (
  lkp_c (P := OkP 34) ⟨(PuOK.ok (ok_istore dJ19_resize_149)), m_istore⟩ (
  lkp_c (P := OkP 34) ⟨(PuOK.ok (ok_iload dJ19_resize_151)), m_iload⟩ (
  lkp_c (P := OkP 34) ⟨(PuOK.ok (ok_iload_n dJ19_resize_153 rfl)), m_iload⟩ (
  lkp_c (P := OkP 34) ⟨(PuOK.ok (ok_icmp_ge dJ19_resize_154 rfl)), m_icmp⟩ (
  lkp_c (P := OkP 34) ⟨(PuOK.ok (ok_aload_n dJ19_resize_157 rfl)), m_aload⟩ (
  lkp_c (P := OkP 34) ⟨(PuOK.ok (ok_iload dJ19_resize_158)), m_iload⟩ (
  lkp_c (P := OkP 34) ⟨ok_aald dJ19_resize_160, m_rdQ⟩ (
  lkp_c (P := OkP 34) ⟨(PuOK.ok (ok_dup dJ19_resize_161)), m_dup⟩ (
  lkp_c (P := OkP 34) ⟨(PuOK.ok (ok_astore dJ19_resize_162)), m_astore⟩ (
  lkp_c (P := OkP 34) ⟨(PuOK.ok (ok_ifnull dJ19_resize_164 rfl)), m_ifnull⟩ (
  lkp_c (P := OkP 34) ⟨(PuOK.ok (ok_aload_n dJ19_resize_167 rfl)), m_aload⟩ (
  lkp_c (P := OkP 34) ⟨(PuOK.ok (ok_iload dJ19_resize_168)), m_iload⟩ (
  lkp_c (P := OkP 34) ⟨(PuOK.ok (ok_null dJ19_resize_170)), m_push⟩ (
  lkp_c (P := OkP 34) ⟨ok_aast rfl cst_2 dJ19_resize_171, m_wrQ⟩ (
  lkp_c (P := OkP 34) ⟨(PuOK.ok (ok_aload dJ19_resize_172)), m_aload⟩ (
  lkp_c (P := OkP 34) ⟨ok_get ⟨"java/util/HashMap$Node", q2744, Or.inl rfl⟩ dJ19_resize_174, m_get⟩ (
  lkp_c (P := OkP 34) ⟨(PuOK.ok (ok_ifnonnull dJ19_resize_177 rfl)), m_ifnonnull⟩ (
  lkp_c (P := OkP 34) ⟨(PuOK.ok (ok_aload dJ19_resize_180)), m_aload⟩ (
  lkp_c (P := OkP 34) ⟨(PuOK.ok (ok_aload dJ19_resize_182)), m_aload⟩ (
  lkp_c (P := OkP 34) ⟨ok_get ⟨"java/util/HashMap$Node", q2732, Or.inl rfl⟩ dJ19_resize_184, m_get⟩ (
  lkp_c (P := OkP 34) ⟨(PuOK.ok (ok_iload dJ19_resize_187)), m_iload⟩ (
  lkp_c (P := OkP 34) ⟨(PuOK.ok (ok_iconst dJ19_resize_189 rfl)), m_push⟩ (
  lkp_c (P := OkP 34) ⟨(PuOK.ok (ok_isub dJ19_resize_190)), m_iop⟩ (
  lkp_c (P := OkP 34) ⟨(PuOK.ok (ok_iand dJ19_resize_191)), m_iop⟩ (
  trivial))))))))))))))))))))))))))))))))))
theorem c_34_3 : LkP (OkP 34) [(192, o_aload 8 2), (194, o_wrQ 9 [28]), (195, o_goto 347), (198, o_aload 8 2), (200, o_inst [] [28]), (203, o_if (fun x => decide (x = 0)) 223), (206, o_aload 8 2), (211, o_aload 0 1), (212, o_aload 6 2), (214, o_iload 7 2), (216, o_iload 2 1), (220, o_goto 347), (223, o_push 1 .null), (224, o_astore 9 2), (226, o_push 1 .null), (227, o_astore 10 2), (229, o_push 1 .null), (230, o_astore 11 2), (232, o_push 1 .null), (233, o_astore 12 2), (235, o_aload 8 2), (237, o_get 146), (240, o_astore 13 2), (242, o_aload 8 2), (244, o_get 143), (247, o_iload 2 1), (248, o_iop (fun x y => x &&& y)), (249, o_if (fun x => decide (¬ x = 0)) 278), (252, o_aload 10 2), (254, o_ifnonnull 264)] := lkp_c (P := OkP 34) ⟨(PuOK.ok (ok_aload dJ19_resize_192)), m_aload⟩ (
  lkp_c (P := OkP 34) ⟨ok_aast rfl cst_2 dJ19_resize_194, m_wrQ⟩ (
  lkp_c (P := OkP 34) ⟨(PuOK.ok (ok_goto dJ19_resize_195 rfl)), m_goto⟩ (
  lkp_c (P := OkP 34) ⟨(PuOK.ok (ok_aload dJ19_resize_198)), m_aload⟩ (
  lkp_c (P := OkP 34) ⟨ok_inst q983 castL_nil notL_node dJ19_resize_200, m_inst⟩ (
  lkp_c (P := OkP 34) ⟨(PuOK.ok (ok_if_eq dJ19_resize_203 rfl)), m_if⟩ (
  lkp_c (P := OkP 34) ⟨(PuOK.ok (ok_aload dJ19_resize_206)), m_aload⟩ (
  lkp_c (P := OkP 34) ⟨(PuOK.ok (ok_aload_n dJ19_resize_211 rfl)), m_aload⟩ (
  lkp_c (P := OkP 34) ⟨(PuOK.ok (ok_aload dJ19_resize_212)), m_aload⟩ (
  lkp_c (P := OkP 34) ⟨(PuOK.ok (ok_iload dJ19_resize_214)), m_iload⟩ (
  lkp_c (P := OkP 34) ⟨(PuOK.ok (ok_iload_n dJ19_resize_216 rfl)), m_iload⟩ (
  lkp_c (P := OkP 34) ⟨(PuOK.ok (ok_goto dJ19_resize_220 rfl)), m_goto⟩ (
  lkp_c (P := OkP 34) ⟨(PuOK.ok (ok_null dJ19_resize_223)), m_push⟩ (
  lkp_c (P := OkP 34) ⟨(PuOK.ok (ok_astore dJ19_resize_224)), m_astore⟩ (
  lkp_c (P := OkP 34) ⟨(PuOK.ok (ok_null dJ19_resize_226)), m_push⟩ (
  lkp_c (P := OkP 34) ⟨(PuOK.ok (ok_astore dJ19_resize_227)), m_astore⟩ (
  lkp_c (P := OkP 34) ⟨(PuOK.ok (ok_null dJ19_resize_229)), m_push⟩ (
  lkp_c (P := OkP 34) ⟨(PuOK.ok (ok_astore dJ19_resize_230)), m_astore⟩ (
  lkp_c (P := OkP 34) ⟨(PuOK.ok (ok_null dJ19_resize_232)), m_push⟩ (
  lkp_c (P := OkP 34) ⟨(PuOK.ok (ok_astore dJ19_resize_233)), m_astore⟩ (
  lkp_c (P := OkP 34) ⟨(PuOK.ok (ok_aload dJ19_resize_235)), m_aload⟩ (
  lkp_c (P := OkP 34) ⟨ok_get ⟨"java/util/HashMap$Node", q2744, Or.inl rfl⟩ dJ19_resize_237, m_get⟩ (
  lkp_c (P := OkP 34) ⟨(PuOK.ok (ok_astore dJ19_resize_240)), m_astore⟩ (
  lkp_c (P := OkP 34) ⟨(PuOK.ok (ok_aload dJ19_resize_242)), m_aload⟩ (
  lkp_c (P := OkP 34) ⟨ok_get ⟨"java/util/HashMap$Node", q2732, Or.inl rfl⟩ dJ19_resize_244, m_get⟩ (
  lkp_c (P := OkP 34) ⟨(PuOK.ok (ok_iload_n dJ19_resize_247 rfl)), m_iload⟩ (
  lkp_c (P := OkP 34) ⟨(PuOK.ok (ok_iand dJ19_resize_248)), m_iop⟩ (
  lkp_c (P := OkP 34) ⟨(PuOK.ok (ok_if_ne dJ19_resize_249 rfl)), m_if⟩ (
  lkp_c (P := OkP 34) ⟨(PuOK.ok (ok_aload dJ19_resize_252)), m_aload⟩ (
  lkp_c (P := OkP 34) ⟨(PuOK.ok (ok_ifnonnull dJ19_resize_254 rfl)), m_ifnonnull⟩ (
  trivial))))))))))))))))))))))))))))))
theorem c_34_4 : LkP (OkP 34) [(257, o_aload 8 2), (259, o_astore 9 2), (261, o_goto 271), (264, o_aload 10 2), (266, o_aload 8 2), (268, o_put 146 0), (271, o_aload 8 2), (273, o_astore 10 2), (275, o_goto 301), (278, o_aload 12 2), (280, o_ifnonnull 290), (283, o_aload 8 2), (285, o_astore 11 2), (287, o_goto 297), (290, o_aload 12 2), (292, o_aload 8 2), (294, o_put 146 0), (297, o_aload 8 2), (299, o_astore 12 2), (301, o_aload 13 2), (303, o_dup), (304, o_astore 8 2), (306, o_ifnonnull 235), (309, o_aload 10 2), (311, o_ifnull 327), (314, o_aload 10 2), (316, o_push 1 .null), (317, o_put 146 0)] := lkp_c (P := OkP 34) ⟨(PuOK.ok (ok_aload dJ19_resize_257)), m_aload⟩ (
  lkp_c (P := OkP 34) ⟨(PuOK.ok (ok_astore dJ19_resize_259)), m_astore⟩ (
  lkp_c (P := OkP 34) ⟨(PuOK.ok (ok_goto dJ19_resize_261 rfl)), m_goto⟩ (
  lkp_c (P := OkP 34) ⟨(PuOK.ok (ok_aload dJ19_resize_264)), m_aload⟩ (
  lkp_c (P := OkP 34) ⟨(PuOK.ok (ok_aload dJ19_resize_266)), m_aload⟩ (
  lkp_c (P := OkP 34) ⟨ok_put ⟨"java/util/HashMap$Node", q2744, Or.inl rfl⟩ rfl fd_146 rfl dJ19_resize_268, m_put⟩ (
  lkp_c (P := OkP 34) ⟨(PuOK.ok (ok_aload dJ19_resize_271)), m_aload⟩ (
  lkp_c (P := OkP 34) ⟨(PuOK.ok (ok_astore dJ19_resize_273)), m_astore⟩ (
  lkp_c (P := OkP 34) ⟨(PuOK.ok (ok_goto dJ19_resize_275 rfl)), m_goto⟩ (
  lkp_c (P := OkP 34) ⟨(PuOK.ok (ok_aload dJ19_resize_278)), m_aload⟩ (
  lkp_c (P := OkP 34) ⟨(PuOK.ok (ok_ifnonnull dJ19_resize_280 rfl)), m_ifnonnull⟩ (
  lkp_c (P := OkP 34) ⟨(PuOK.ok (ok_aload dJ19_resize_283)), m_aload⟩ (
  lkp_c (P := OkP 34) ⟨(PuOK.ok (ok_astore dJ19_resize_285)), m_astore⟩ (
  lkp_c (P := OkP 34) ⟨(PuOK.ok (ok_goto dJ19_resize_287 rfl)), m_goto⟩ (
  lkp_c (P := OkP 34) ⟨(PuOK.ok (ok_aload dJ19_resize_290)), m_aload⟩ (
  lkp_c (P := OkP 34) ⟨(PuOK.ok (ok_aload dJ19_resize_292)), m_aload⟩ (
  lkp_c (P := OkP 34) ⟨ok_put ⟨"java/util/HashMap$Node", q2744, Or.inl rfl⟩ rfl fd_146 rfl dJ19_resize_294, m_put⟩ (
  lkp_c (P := OkP 34) ⟨(PuOK.ok (ok_aload dJ19_resize_297)), m_aload⟩ (
  lkp_c (P := OkP 34) ⟨(PuOK.ok (ok_astore dJ19_resize_299)), m_astore⟩ (
  lkp_c (P := OkP 34) ⟨(PuOK.ok (ok_aload dJ19_resize_301)), m_aload⟩ (
  lkp_c (P := OkP 34) ⟨(PuOK.ok (ok_dup dJ19_resize_303)), m_dup⟩ (
  lkp_c (P := OkP 34) ⟨(PuOK.ok (ok_astore dJ19_resize_304)), m_astore⟩ (
  lkp_c (P := OkP 34) ⟨(PuOK.ok (ok_ifnonnull dJ19_resize_306 rfl)), m_ifnonnull⟩ (
  lkp_c (P := OkP 34) ⟨(PuOK.ok (ok_aload dJ19_resize_309)), m_aload⟩ (
  lkp_c (P := OkP 34) ⟨(PuOK.ok (ok_ifnull dJ19_resize_311 rfl)), m_ifnull⟩ (
  lkp_c (P := OkP 34) ⟨(PuOK.ok (ok_aload dJ19_resize_314)), m_aload⟩ (
  lkp_c (P := OkP 34) ⟨(PuOK.ok (ok_null dJ19_resize_316)), m_push⟩ (
  lkp_c (P := OkP 34) ⟨ok_put ⟨"java/util/HashMap$Node", q2744, Or.inl rfl⟩ rfl fd_146 rfl dJ19_resize_317, m_put⟩ (
  trivial))))))))))))))))))))))))))))
theorem c_34_5 : LkP (OkP 34) [(320, o_aload 6 2), (322, o_iload 7 2), (324, o_aload 9 2), (326, o_wrQ 9 [28]), (327, o_aload 12 2), (329, o_ifnull 347), (332, o_aload 12 2), (334, o_push 1 .null), (335, o_put 146 0), (338, o_aload 6 2), (340, o_iload 7 2), (342, o_iload 2 1), (343, o_iop (fun x y => x + y)), (344, o_aload 11 2), (346, o_wrQ 9 [28]), (347, o_iinc 7 1), (350, o_goto 151), (353, o_aload 6 2), (355, o_ret 0)] := lkp_c (P := OkP 34) ⟨(PuOK.ok (ok_aload dJ19_resize_320)), m_aload⟩ (
  lkp_c (P := OkP 34) ⟨(PuOK.ok (ok_iload dJ19_resize_322)), m_iload⟩ (
  lkp_c (P := OkP 34) ⟨(PuOK.ok (ok_aload dJ19_resize_324)), m_aload⟩ (
  lkp_c (P := OkP 34) ⟨ok_aast rfl cst_2 dJ19_resize_326, m_wrQ⟩ (
  lkp_c (P := OkP 34) ⟨(PuOK.ok (ok_aload dJ19_resize_327)), m_aload⟩ (
  lkp_c (P := OkP 34) ⟨(PuOK.ok (ok_ifnull dJ19_resize_329 rfl)), m_ifnull⟩ (
  lkp_c (P := OkP 34) ⟨(PuOK.ok (ok_aload dJ19_resize_332)), m_aload⟩ (
  lkp_c (P := OkP 34) ⟨(PuOK.ok (ok_null dJ19_resize_334)), m_push⟩ (
  lkp_c (P := OkP 34) ⟨ok_put ⟨"java/util/HashMap$Node", q2744, Or.inl rfl⟩ rfl fd_146 rfl dJ19_resize_335, m_put⟩ (
  lkp_c (P := OkP 34) ⟨(PuOK.ok (ok_aload dJ19_resize_338)), m_aload⟩ (
  lkp_c (P := OkP 34) ⟨(PuOK.ok (ok_iload dJ19_resize_340)), m_iload⟩ (
  lkp_c (P := OkP 34) ⟨(PuOK.ok (ok_iload_n dJ19_resize_342 rfl)), m_iload⟩ (
  lkp_c (P := OkP 34) ⟨(PuOK.ok (ok_iadd dJ19_resize_343)), m_iop⟩ (
  lkp_c (P := OkP 34) ⟨(PuOK.ok (ok_aload dJ19_resize_344)), m_aload⟩ (
  lkp_c (P := OkP 34) ⟨ok_aast rfl cst_2 dJ19_resize_346, m_wrQ⟩ (
  lkp_c (P := OkP 34) ⟨(PuOK.ok (ok_iinc dJ19_resize_347 rfl)), m_iinc⟩ (
  lkp_c (P := OkP 34) ⟨(PuOK.ok (ok_goto dJ19_resize_350 rfl)), m_goto⟩ (
  lkp_c (P := OkP 34) ⟨(PuOK.ok (ok_aload dJ19_resize_353)), m_aload⟩ (
  lkp_c (P := OkP 34) ⟨ok_aret rfl (Or.inr ⟨_, rfl⟩) dJ19_resize_355, m_ret⟩ (
  trivial)))))))))))))))))))
theorem mt_34 : MtOK TB NT IT 34 := ⟨by decide +kernel, rfl, (fun h => by cases h), Or.inl ⟨rfl, rfl⟩, rfl, by decide, lk2_all (P := OkP 34) ⟨c_34_0, c_34_1, c_34_2, c_34_3, c_34_4, c_34_5, trivial⟩⟩
def dkwJ19_newNode_0 : List UInt8 := [187, 0, 163, 89, 27, 44, 45, 25, 4, 183, 1, 119, 176]
abbrev dktJ19_newNode_0 : List UInt8 := dkwJ19_newNode_0 ++ []
theorem dksJ19_newNode_0 : cJ19_newNode.data.toList.drop 0 = dktJ19_newNode_0 := by decide +kernel
theorem dJ19_newNode_0 : decode cJ19_newNode 0 = .ok (.new 163, 3) := dk_187 0 163 (dk_at dksJ19_newNode_0 0 rfl rfl)
theorem dJ19_newNode_3 : decode cJ19_newNode 3 = .ok (.dup, 1) := dk_89 (dk_at dksJ19_newNode_0 3 rfl rfl)
theorem dJ19_newNode_4 : decode cJ19_newNode 4 = .ok (.iload_n 1, 1) := dk_27 (dk_at dksJ19_newNode_0 4 rfl rfl)
theorem dJ19_newNode_5 : decode cJ19_newNode 5 = .ok (.aload_n 2, 1) := dk_44 (dk_at dksJ19_newNode_0 5 rfl rfl)
theorem dJ19_newNode_6 : decode cJ19_newNode 6 = .ok (.aload_n 3, 1) := dk_45 (dk_at dksJ19_newNode_0 6 rfl rfl)
theorem dJ19_newNode_7 : decode cJ19_newNode 7 = .ok (.aload 4, 2) := dk_25 4 (dk_at dksJ19_newNode_0 7 rfl rfl)
theorem dJ19_newNode_9 : decode cJ19_newNode 9 = .ok (.invokespecial 375, 3) := dk_183 1 119 (dk_at dksJ19_newNode_0 9 rfl rfl)
theorem dJ19_newNode_12 : decode cJ19_newNode 12 = .ok (.areturn, 1) := dk_176 (dk_at dksJ19_newNode_0 12 rfl rfl)
theorem c_35_0 : LkP (OkP 35) [(0, o_new 28 4 dv28), (3, o_dup), (4, o_iload 1 1), (5, o_aload 2 1), (6, o_aload 3 1), (7, o_aload 4 2), (9, o_ci 97 4), (12, o_ret 0)] := lkp_c (P := OkP 35) ⟨ok_new (ci := 28) (r := CLr 28) rfl dvok_28 q2709 q2724 q177 dJ19_newNode_0, m_new⟩ (
  lkp_c (P := OkP 35) ⟨(PuOK.ok (ok_dup dJ19_newNode_3)), m_dup⟩ (
  lkp_c (P := OkP 35) ⟨(PuOK.ok (ok_iload_n dJ19_newNode_4 rfl)), m_iload⟩ (
  lkp_c (P := OkP 35) ⟨(PuOK.ok (ok_aload_n dJ19_newNode_5 rfl)), m_aload⟩ (
  lkp_c (P := OkP 35) ⟨(PuOK.ok (ok_aload_n dJ19_newNode_6 rfl)), m_aload⟩ (
  lkp_c (P := OkP 35) ⟨(PuOK.ok (ok_aload dJ19_newNode_7)), m_aload⟩ (
  lkp_c (P := OkP 35) ⟨ok_ci (tg_I (rt := none) ⟨rfl, by decide⟩ rfl q2725 q2726 q177 q2727 ⟨cn_11.1, cn_11.2, pd_19⟩ dJ19_newNode_9) hd_no, m_ci⟩ (
  lkp_c (P := OkP 35) ⟨ok_aret rfl (Or.inl ⟨_, rfl⟩) dJ19_newNode_12, m_ret⟩ (
  trivial))))))))
theorem mt_35 : MtOK TB NT IT 35 := ⟨by decide +kernel, rfl, (fun h => by cases h), Or.inl ⟨rfl, rfl⟩, rfl, by decide, lk2_all (P := OkP 35) ⟨c_35_0, trivial⟩⟩
theorem dJ19_afterNodeAccess_0 : decode cJ19_afterNodeAccess 0 = .ok (.return_, 1) := by decide +kernel
theorem c_36_0 : LkP (OkP 36) [(0, o_vret)] := lkp_c (P := OkP 36) ⟨ok_vret rfl dJ19_afterNodeAccess_0, m_vret⟩ (
  trivial)
theorem mt_36 : MtOK TB NT IT 36 := ⟨by decide +kernel, rfl, (fun h => by cases h), Or.inl ⟨rfl, rfl⟩, rfl, by decide, lk2_all (P := OkP 36) ⟨c_36_0, trivial⟩⟩
theorem dJ19_afterNodeInsertion_0 : decode cJ19_afterNodeInsertion 0 = .ok (.return_, 1) := by decide +kernel
theorem c_37_0 : LkP (OkP 37) [(0, o_vret)] := lkp_c (P := OkP 37) ⟨ok_vret rfl dJ19_afterNodeInsertion_0, m_vret⟩ (
  trivial)
theorem mt_37 : MtOK TB NT IT 37 := ⟨by decide +kernel, rfl, (fun h => by cases h), Or.inl ⟨rfl, rfl⟩, rfl, by decide, lk2_all (P := OkP 37) ⟨c_37_0, trivial⟩⟩
def dkwJ19_entrySet_1 : List UInt8 := [167, 0, 4, 43, 176]
abbrev dktJ19_entrySet_1 : List UInt8 := dkwJ19_entrySet_1 ++ []
def dkwJ19_entrySet_0 : List UInt8 := [42, 180, 1, 10, 89, 76, 199, 0, 19, 42, 187, 1, 12, 89, 42, 183, 1, 14, 90, 181, 1, 10]
abbrev dktJ19_entrySet_0 : List UInt8 := dkwJ19_entrySet_0 ++ dktJ19_entrySet_1
theorem dksJ19_entrySet_0 : cJ19_entrySet.data.toList.drop 0 = dktJ19_entrySet_0 := by decide +kernel
theorem dksJ19_entrySet_1 : cJ19_entrySet.data.toList.drop 22 = dktJ19_entrySet_1 := dk_seg dksJ19_entrySet_0 22 rfl rfl
theorem dJ19_entrySet_0 : decode cJ19_entrySet 0 = .ok (.aload_n 0, 1) := dk_42 (dk_at dksJ19_entrySet_0 0 rfl rfl)
theorem dJ19_entrySet_1 : decode cJ19_entrySet 1 = .ok (.getfield 266, 3) := dk_180 1 10 (dk_at dksJ19_entrySet_0 1 rfl rfl)
theorem dJ19_entrySet_4 : decode cJ19_entrySet 4 = .ok (.dup, 1) := dk_89 (dk_at dksJ19_entrySet_0 4 rfl rfl)
theorem dJ19_entrySet_5 : decode cJ19_entrySet 5 = .ok (.astore_n 1, 1) := dk_76 (dk_at dksJ19_entrySet_0 5 rfl rfl)
theorem dJ19_entrySet_6 : decode cJ19_entrySet 6 = .ok (.ifnonnull 19, 3) := dk_199 0 19 (dk_at dksJ19_entrySet_0 6 rfl rfl)
theorem dJ19_entrySet_9 : decode cJ19_entrySet 9 = .ok (.aload_n 0, 1) := dk_42 (dk_at dksJ19_entrySet_0 9 rfl rfl)
theorem dJ19_entrySet_10 : decode cJ19_entrySet 10 = .ok (.new 268, 3) := dk_187 1 12 (dk_at dksJ19_entrySet_0 10 rfl rfl)
theorem dJ19_entrySet_13 : decode cJ19_entrySet 13 = .ok (.dup, 1) := dk_89 (dk_at dksJ19_entrySet_0 13 rfl rfl)
theorem dJ19_entrySet_14 : decode cJ19_entrySet 14 = .ok (.aload_n 0, 1) := dk_42 (dk_at dksJ19_entrySet_0 14 rfl rfl)
theorem dJ19_entrySet_15 : decode cJ19_entrySet 15 = .ok (.invokespecial 270, 3) := dk_183 1 14 (dk_at dksJ19_entrySet_0 15 rfl rfl)
theorem dJ19_entrySet_18 : decode cJ19_entrySet 18 = .ok (.dup_x1, 1) := dk_90 (dk_at dksJ19_entrySet_0 18 rfl rfl)
theorem dJ19_entrySet_19 : decode cJ19_entrySet 19 = .ok (.putfield 266, 3) := dk_181 1 10 (dk_at dksJ19_entrySet_0 19 rfl rfl)
theorem dJ19_entrySet_22 : decode cJ19_entrySet 22 = .ok (.goto 4, 3) := dk_167 0 4 (dk_at dksJ19_entrySet_1 0 rfl rfl)
theorem dJ19_entrySet_25 : decode cJ19_entrySet 25 = .ok (.aload_n 1, 1) := dk_43 (dk_at dksJ19_entrySet_1 3 rfl rfl)
theorem dJ19_entrySet_26 : decode cJ19_entrySet 26 = .ok (.areturn, 1) := dk_176 (dk_at dksJ19_entrySet_1 4 rfl rfl)
theorem c_38_0 : LkP (OkP 38) [(0, o_aload 0 1), (1, o_get 32), (4, o_dup), (5, o_astore 1 1), (6, o_ifnonnull 25), (9, o_aload 0 1), (10, o_new 29 1 dv29), (13, o_dup), (14, o_aload 0 1), (15, o_ci 103 1), (18, o_dupx1), (19, o_put 32 0), (22, o_goto 26), (25, o_aload 1 1), (26, o_ret 0)] := lkp_c (P := OkP 38) ⟨(PuOK.ok (ok_aload_n dJ19_entrySet_0 rfl)), m_aload⟩ (
  lkp_c (P := OkP 38) ⟨ok_get ⟨"java/util/HashMap", q600, Or.inl rfl⟩ dJ19_entrySet_1, m_get⟩ (
  lkp_c (P := OkP 38) ⟨(PuOK.ok (ok_dup dJ19_entrySet_4)), m_dup⟩ (
  lkp_c (P := OkP 38) ⟨(PuOK.ok (ok_astore_n dJ19_entrySet_5 rfl)), m_astore⟩ (
  lkp_c (P := OkP 38) ⟨(PuOK.ok (ok_ifnonnull dJ19_entrySet_6 rfl)), m_ifnonnull⟩ (
  lkp_c (P := OkP 38) ⟨(PuOK.ok (ok_aload_n dJ19_entrySet_9 rfl)), m_aload⟩ (
  lkp_c (P := OkP 38) ⟨ok_new (ci := 29) (r := CLr 29) rfl dvok_29 q3008 q3009 q181 dJ19_entrySet_10, m_new⟩ (
  lkp_c (P := OkP 38) ⟨(PuOK.ok (ok_dup dJ19_entrySet_13)), m_dup⟩ (
  lkp_c (P := OkP 38) ⟨(PuOK.ok (ok_aload_n dJ19_entrySet_14 rfl)), m_aload⟩ (
  lkp_c (P := OkP 38) ⟨ok_ci (tg_I (rt := none) ⟨rfl, by decide⟩ rfl q3010 q3011 q181 q3012 ⟨cn_12.1, cn_12.2, pd_20⟩ dJ19_entrySet_15) hd_no, m_ci⟩ (
  lkp_c (P := OkP 38) ⟨(PuOK.ok (ok_dupx1 dJ19_entrySet_18)), m_dupx1⟩ (
  lkp_c (P := OkP 38) ⟨ok_put ⟨"java/util/HashMap", q600, Or.inl rfl⟩ rfl fd_32 rfl dJ19_entrySet_19, m_put⟩ (
  lkp_c (P := OkP 38) ⟨(PuOK.ok (ok_goto dJ19_entrySet_22 rfl)), m_goto⟩ (
  lkp_c (P := OkP 38) ⟨(PuOK.ok (ok_aload_n dJ19_entrySet_25 rfl)), m_aload⟩ (
  lkp_c (P := OkP 38) ⟨ok_aret rfl (Or.inl ⟨_, rfl⟩) dJ19_entrySet_26, m_ret⟩ (
  trivial)))))))))))))))
theorem mt_38 : MtOK TB NT IT 38 := ⟨by decide +kernel, rfl, (fun h => by cases h), Or.inl ⟨rfl, rfl⟩, rfl, by decide, lk2_all (P := OkP 38) ⟨c_38_0, trivial⟩⟩
def dkwJ2_init_2 : List UInt8 := [182, 0, 25, 27, 182, 0, 29, 182, 0, 32, 183, 0, 36, 191, 177]
abbrev dktJ2_init_2 : List UInt8 := dkwJ2_init_2 ++ []
def dkwJ2_init_1 : List UInt8 := [178, 0, 15, 181, 0, 9, 167, 0, 30, 187, 0, 18, 89, 187, 0, 20, 89, 183, 0, 22, 18, 23]
abbrev dktJ2_init_1 : List UInt8 := dkwJ2_init_1 ++ dktJ2_init_2
def dkwJ2_init_0 : List UInt8 := [42, 183, 0, 1, 27, 158, 0, 14, 42, 27, 189, 0, 7, 181, 0, 9, 167, 0, 44, 27, 154, 0, 13, 42]
abbrev dktJ2_init_0 : List UInt8 := dkwJ2_init_0 ++ dktJ2_init_1
theorem dksJ2_init_0 : cJ2_init.data.toList.drop 0 = dktJ2_init_0 := by decide +kernel
theorem dksJ2_init_1 : cJ2_init.data.toList.drop 24 = dktJ2_init_1 := dk_seg dksJ2_init_0 24 rfl rfl
theorem dksJ2_init_2 : cJ2_init.data.toList.drop 46 = dktJ2_init_2 := dk_seg dksJ2_init_1 22 rfl rfl
theorem dJ2_init_0 : decode cJ2_init 0 = .ok (.aload_n 0, 1) := dk_42 (dk_at dksJ2_init_0 0 rfl rfl)
theorem dJ2_init_1 : decode cJ2_init 1 = .ok (.invokespecial 1, 3) := dk_183 0 1 (dk_at dksJ2_init_0 1 rfl rfl)
theorem dJ2_init_4 : decode cJ2_init 4 = .ok (.iload_n 1, 1) := dk_27 (dk_at dksJ2_init_0 4 rfl rfl)
theorem dJ2_init_5 : decode cJ2_init 5 = .ok (.ifCond .le 14, 3) := dk_158 0 14 (dk_at dksJ2_init_0 5 rfl rfl)
theorem dJ2_init_8 : decode cJ2_init 8 = .ok (.aload_n 0, 1) := dk_42 (dk_at dksJ2_init_0 8 rfl rfl)
theorem dJ2_init_9 : decode cJ2_init 9 = .ok (.iload_n 1, 1) := dk_27 (dk_at dksJ2_init_0 9 rfl rfl)
theorem dJ2_init_10 : decode cJ2_init 10 = .ok (.anewarray 7, 3) := dk_189 0 7 (dk_at dksJ2_init_0 10 rfl rfl)
theorem dJ2_init_13 : decode cJ2_init 13 = .ok (.putfield 9, 3) := dk_181 0 9 (dk_at dksJ2_init_0 13 rfl rfl)
theorem dJ2_init_16 : decode cJ2_init 16 = .ok (.goto 44, 3) := dk_167 0 44 (dk_at dksJ2_init_0 16 rfl rfl)
theorem dJ2_init_19 : decode cJ2_init 19 = .ok (.iload_n 1, 1) := dk_27 (dk_at dksJ2_init_0 19 rfl rfl)
theorem dJ2_init_20 : decode cJ2_init 20 = .ok (.ifCond .ne 13, 3) := dk_154 0 13 (dk_at dksJ2_init_0 20 rfl rfl)
theorem dJ2_init_23 : decode cJ2_init 23 = .ok (.aload_n 0, 1) := dk_42 (dk_at dksJ2_init_0 23 rfl rfl)
theorem dJ2_init_27 : decode cJ2_init 27 = .ok (.putfield 9, 3) := dk_181 0 9 (dk_at dksJ2_init_1 3 rfl rfl)
theorem dJ2_init_30 : decode cJ2_init 30 = .ok (.goto 30, 3) := dk_167 0 30 (dk_at dksJ2_init_1 6 rfl rfl)
theorem dJ2_init_36 : decode cJ2_init 36 = .ok (.dup, 1) := dk_89 (dk_at dksJ2_init_1 12 rfl rfl)
theorem dJ2_init_37 : decode cJ2_init 37 = .ok (.new 20, 3) := dk_187 0 20 (dk_at dksJ2_init_1 13 rfl rfl)
theorem dJ2_init_40 : decode cJ2_init 40 = .ok (.dup, 1) := dk_89 (dk_at dksJ2_init_1 16 rfl rfl)
theorem dJ2_init_41 : decode cJ2_init 41 = .ok (.invokespecial 22, 3) := dk_183 0 22 (dk_at dksJ2_init_1 17 rfl rfl)
theorem dJ2_init_49 : decode cJ2_init 49 = .ok (.iload_n 1, 1) := dk_27 (dk_at dksJ2_init_2 3 rfl rfl)
theorem dJ2_init_53 : decode cJ2_init 53 = .ok (.invokevirtual 32, 3) := dk_182 0 32 (dk_at dksJ2_init_2 7 rfl rfl)
theorem dJ2_init_60 : decode cJ2_init 60 = .ok (.return_, 1) := dk_177 (dk_at dksJ2_init_2 14 rfl rfl)
theorem c_39_0 : LkP (OkP 39) [(0, o_aload 0 1), (1, o_ci 1 0), (4, o_iload 1 1), (5, o_if (fun x => decide (x ≤ 0)) 19), (8, o_aload 0 1), (9, o_iload 1 1), (10, o_newa 5 3), (13, o_put 19 0), (16, o_goto 60), (19, o_iload 1 1), (20, o_if (fun x => decide (¬ x = 0)) 33), (23, o_aload 0 1), (27, o_put 19 0), (30, o_goto 60), (36, o_dup), (37, o_new 4 4 dv4), (40, o_dup), (41, o_ci 111 0), (49, o_iload 1 1), (53, o_cv [(4, 112)] 0 3 false none), (60, o_vret)] := lkp_c (P := OkP 39) ⟨(PuOK.ok (ok_aload_n dJ2_init_0 rfl)), m_aload⟩ (
  lkp_c (P := OkP 39) ⟨ok_ci (tg_I (rt := none) ⟨rfl, by decide⟩ rfl q232 q233 q119 q234 ⟨cn_13.1, cn_13.2, pd_0⟩ dJ2_init_1) hd_no, m_ci⟩ (
  lkp_c (P := OkP 39) ⟨(PuOK.ok (ok_iload_n dJ2_init_4 rfl)), m_iload⟩ (
  lkp_c (P := OkP 39) ⟨(PuOK.ok (ok_if_le dJ2_init_5 rfl)), m_if⟩ (
  lkp_c (P := OkP 39) ⟨(PuOK.ok (ok_aload_n dJ2_init_8 rfl)), m_aload⟩ (
  lkp_c (P := OkP 39) ⟨(PuOK.ok (ok_iload_n dJ2_init_9 rfl)), m_iload⟩ (
  lkp_c (P := OkP 39) ⟨ok_anew (by decide) (by decide) rfl q239 q240 dJ2_init_10, m_newa⟩ (
  lkp_c (P := OkP 39) ⟨ok_put ⟨"java/util/ArrayList", q573, Or.inl rfl⟩ rfl fd_19 rfl dJ2_init_13, m_put⟩ (
  lkp_c (P := OkP 39) ⟨(PuOK.ok (ok_goto dJ2_init_16 rfl)), m_goto⟩ (
  lkp_c (P := OkP 39) ⟨(PuOK.ok (ok_iload_n dJ2_init_19 rfl)), m_iload⟩ (
  lkp_c (P := OkP 39) ⟨(PuOK.ok (ok_if_ne dJ2_init_20 rfl)), m_if⟩ (
  lkp_c (P := OkP 39) ⟨(PuOK.ok (ok_aload_n dJ2_init_23 rfl)), m_aload⟩ (
  lkp_c (P := OkP 39) ⟨ok_put ⟨"java/util/ArrayList", q573, Or.inl rfl⟩ rfl fd_19 rfl dJ2_init_27, m_put⟩ (
  lkp_c (P := OkP 39) ⟨(PuOK.ok (ok_goto dJ2_init_30 rfl)), m_goto⟩ (
  lkp_c (P := OkP 39) ⟨(PuOK.ok (ok_dup dJ2_init_36)), m_dup⟩ (
  lkp_c (P := OkP 39) ⟨ok_new (ci := 4) (r := CLr 4) rfl dvok_4 q300 q301 q126 dJ2_init_37, m_new⟩ (
  lkp_c (P := OkP 39) ⟨(PuOK.ok (ok_dup dJ2_init_40)), m_dup⟩ (
  lkp_c (P := OkP 39) ⟨ok_ci (tg_I (rt := none) ⟨rfl, by decide⟩ rfl q302 q303 q126 q304 ⟨cn_3.1, cn_3.2, pd_0⟩ dJ2_init_41) hd_no, m_ci⟩ (
  lkp_c (P := OkP 39) ⟨(PuOK.ok (ok_iload_n dJ2_init_49 rfl)), m_iload⟩ (
  lkp_c (P := OkP 39) ⟨ok_cv (List.forall_mem_cons.mpr ⟨tg_V (ci := 4) (r := CLr 4) (y := 112) rfl ⟨rfl, by decide⟩ rfl q478 q479 q480 q126 q481 ⟨cn_3.1, cn_3.2, pd_3⟩ dJ2_init_53, (List.forall_mem_nil _)⟩) hd_no, m_cv⟩ (
  lkp_c (P := OkP 39) ⟨ok_vret rfl dJ2_init_60, m_vret⟩ (
  trivial)))))))))))))))))))))
theorem mt_39 : MtOK TB NT IT 39 := ⟨by decide +kernel, rfl, fun _ => rfl, Or.inl ⟨rfl, rfl⟩, rfl, by decide, lk2_all (P := OkP 39) ⟨c_39_0, trivial⟩⟩
def dkwJ2_iterator_0 : List UInt8 := [187, 1, 11, 89, 42, 183, 1, 13, 176]
abbrev dktJ2_iterator_0 : List UInt8 := dkwJ2_iterator_0 ++ []
theorem dksJ2_iterator_0 : cJ2_iterator.data.toList.drop 0 = dktJ2_iterator_0 := by decide +kernel
theorem dJ2_iterator_0 : decode cJ2_iterator 0 = .ok (.new 267, 3) := dk_187 1 11 (dk_at dksJ2_iterator_0 0 rfl rfl)
theorem dJ2_iterator_3 : decode cJ2_iterator 3 = .ok (.dup, 1) := dk_89 (dk_at dksJ2_iterator_0 3 rfl rfl)
theorem dJ2_iterator_4 : decode cJ2_iterator 4 = .ok (.aload_n 0, 1) := dk_42 (dk_at dksJ2_iterator_0 4 rfl rfl)
theorem dJ2_iterator_5 : decode cJ2_iterator 5 = .ok (.invokespecial 269, 3) := dk_183 1 13 (dk_at dksJ2_iterator_0 5 rfl rfl)
theorem dJ2_iterator_8 : decode cJ2_iterator 8 = .ok (.areturn, 1) := dk_176 (dk_at dksJ2_iterator_0 8 rfl rfl)
theorem c_40_0 : LkP (OkP 40) [(0, o_new 7 4 dv7), (3, o_dup), (4, o_aload 0 1), (5, o_ci 49 1), (8, o_ret 0)] := lkp_c (P := OkP 40) ⟨ok_new (ci := 7) (r := CLr 7) rfl dvok_7 q692 q693 q150 dJ2_iterator_0, m_new⟩ (
  lkp_c (P := OkP 40) ⟨(PuOK.ok (ok_dup dJ2_iterator_3)), m_dup⟩ (
  lkp_c (P := OkP 40) ⟨(PuOK.ok (ok_aload_n dJ2_iterator_4 rfl)), m_aload⟩ (
  lkp_c (P := OkP 40) ⟨ok_ci (tg_I (rt := none) ⟨rfl, by decide⟩ rfl q694 q695 q150 q696 ⟨cn_14.1, cn_14.2, pd_21⟩ dJ2_iterator_5) hd_no, m_ci⟩ (
  lkp_c (P := OkP 40) ⟨ok_aret rfl (Or.inl ⟨_, rfl⟩) dJ2_iterator_8, m_ret⟩ (
  trivial)))))
theorem mt_40 : MtOK TB NT IT 40 := ⟨by decide +kernel, rfl, (fun h => by cases h), Or.inl ⟨rfl, rfl⟩, rfl, by decide, lk2_all (P := OkP 40) ⟨c_40_0, trivial⟩⟩
def dkwJ2_isEmpty_0 : List UInt8 := [42, 180, 0, 48, 154, 0, 7, 4, 167, 0, 4, 3, 172]
abbrev dktJ2_isEmpty_0 : List UInt8 := dkwJ2_isEmpty_0 ++ []
theorem dksJ2_isEmpty_0 : cJ2_isEmpty.data.toList.drop 0 = dktJ2_isEmpty_0 := by decide +kernel
theorem dJ2_isEmpty_0 : decode cJ2_isEmpty 0 = .ok (.aload_n 0, 1) := dk_42 (dk_at dksJ2_isEmpty_0 0 rfl rfl)
theorem dJ2_isEmpty_1 : decode cJ2_isEmpty 1 = .ok (.getfield 48, 3) := dk_180 0 48 (dk_at dksJ2_isEmpty_0 1 rfl rfl)
theorem dJ2_isEmpty_4 : decode cJ2_isEmpty 4 = .ok (.ifCond .ne 7, 3) := dk_154 0 7 (dk_at dksJ2_isEmpty_0 4 rfl rfl)
theorem dJ2_isEmpty_7 : decode cJ2_isEmpty 7 = .ok (.iconst 1, 1) := dk_4 (dk_at dksJ2_isEmpty_0 7 rfl rfl)
theorem dJ2_isEmpty_8 : decode cJ2_isEmpty 8 = .ok (.goto 4, 3) := dk_167 0 4 (dk_at dksJ2_isEmpty_0 8 rfl rfl)
theorem dJ2_isEmpty_11 : decode cJ2_isEmpty 11 = .ok (.iconst 0, 1) := dk_3 (dk_at dksJ2_isEmpty_0 11 rfl rfl)
theorem dJ2_isEmpty_12 : decode cJ2_isEmpty 12 = .ok (.ireturn, 1) := dk_172 (dk_at dksJ2_isEmpty_0 12 rfl rfl)
theorem c_41_0 : LkP (OkP 41) [(0, o_aload 0 1), (1, o_get 20), (4, o_if (fun x => decide (¬ x = 0)) 11), (7, o_push 1 (.int 1)), (8, o_goto 12), (11, o_push 1 (.int 0)), (12, o_ret 5)] := lkp_c (P := OkP 41) ⟨(PuOK.ok (ok_aload_n dJ2_isEmpty_0 rfl)), m_aload⟩ (
  lkp_c (P := OkP 41) ⟨ok_get ⟨"java/util/ArrayList", q576, Or.inl rfl⟩ dJ2_isEmpty_1, m_get⟩ (
  lkp_c (P := OkP 41) ⟨(PuOK.ok (ok_if_ne dJ2_isEmpty_4 rfl)), m_if⟩ (
  lkp_c (P := OkP 41) ⟨(PuOK.ok (ok_iconst dJ2_isEmpty_7 rfl)), m_push⟩ (
  lkp_c (P := OkP 41) ⟨(PuOK.ok (ok_goto dJ2_isEmpty_8 rfl)), m_goto⟩ (
  lkp_c (P := OkP 41) ⟨(PuOK.ok (ok_iconst dJ2_isEmpty_11 rfl)), m_push⟩ (
  lkp_c (P := OkP 41) ⟨ok_iret rfl rfl (by decide) dJ2_isEmpty_12, m_ret⟩ (
  trivial)))))))
theorem mt_41 : MtOK TB NT IT 41 := ⟨by decide +kernel, rfl, (fun h => by cases h), Or.inl ⟨rfl, rfl⟩, rfl, by decide, lk2_all (P := OkP 41) ⟨c_41_0, trivial⟩⟩
theorem dJ2_size_0 : decode cJ2_size 0 = .ok (.aload_n 0, 1) := by decide +kernel
theorem dJ2_size_1 : decode cJ2_size 1 = .ok (.getfield 48, 3) := by decide +kernel
theorem dJ2_size_4 : decode cJ2_size 4 = .ok (.ireturn, 1) := by decide +kernel
theorem c_42_0 : LkP (OkP 42) [(0, o_aload 0 1), (1, o_get 20), (4, o_ret 1)] := lkp_c (P := OkP 42) ⟨(PuOK.ok (ok_aload_n dJ2_size_0 rfl)), m_aload⟩ (
  lkp_c (P := OkP 42) ⟨ok_get ⟨"java/util/ArrayList", q576, Or.inl rfl⟩ dJ2_size_1, m_get⟩ (
  lkp_c (P := OkP 42) ⟨ok_iret rfl rfl (by decide) dJ2_size_4, m_ret⟩ (
  trivial)))
theorem mt_42 : MtOK TB NT IT 42 := ⟨by decide +kernel, rfl, (fun h => by cases h), Or.inl ⟨rfl, rfl⟩, rfl, by decide, lk2_all (P := OkP 42) ⟨c_42_0, trivial⟩⟩
def dkwJ2_add_1 : List UInt8 := [172]
abbrev dktJ2_add_1 : List UInt8 := dkwJ2_add_1 ++ []
def dkwJ2_add_0 : List UInt8 := [42, 89, 180, 0, 63, 4, 96, 181, 0, 63, 42, 43, 42, 180, 0, 9, 42, 180, 0, 48, 182, 0, 131, 4]
abbrev dktJ2_add_0 : List UInt8 := dkwJ2_add_0 ++ dktJ2_add_1
theorem dksJ2_add_0 : cJ2_add.data.toList.drop 0 = dktJ2_add_0 := by decide +kernel
theorem dksJ2_add_1 : cJ2_add.data.toList.drop 24 = dktJ2_add_1 := dk_seg dksJ2_add_0 24 rfl rfl
theorem dJ2_add_0 : decode cJ2_add 0 = .ok (.aload_n 0, 1) := dk_42 (dk_at dksJ2_add_0 0 rfl rfl)
theorem dJ2_add_1 : decode cJ2_add 1 = .ok (.dup, 1) := dk_89 (dk_at dksJ2_add_0 1 rfl rfl)
theorem dJ2_add_2 : decode cJ2_add 2 = .ok (.getfield 63, 3) := dk_180 0 63 (dk_at dksJ2_add_0 2 rfl rfl)
theorem dJ2_add_5 : decode cJ2_add 5 = .ok (.iconst 1, 1) := dk_4 (dk_at dksJ2_add_0 5 rfl rfl)
theorem dJ2_add_6 : decode cJ2_add 6 = .ok (.iadd, 1) := dk_96 (dk_at dksJ2_add_0 6 rfl rfl)
theorem dJ2_add_7 : decode cJ2_add 7 = .ok (.putfield 63, 3) := dk_181 0 63 (dk_at dksJ2_add_0 7 rfl rfl)
theorem dJ2_add_10 : decode cJ2_add 10 = .ok (.aload_n 0, 1) := dk_42 (dk_at dksJ2_add_0 10 rfl rfl)
theorem dJ2_add_11 : decode cJ2_add 11 = .ok (.aload_n 1, 1) := dk_43 (dk_at dksJ2_add_0 11 rfl rfl)
theorem dJ2_add_12 : decode cJ2_add 12 = .ok (.aload_n 0, 1) := dk_42 (dk_at dksJ2_add_0 12 rfl rfl)
theorem dJ2_add_13 : decode cJ2_add 13 = .ok (.getfield 9, 3) := dk_180 0 9 (dk_at dksJ2_add_0 13 rfl rfl)
theorem dJ2_add_16 : decode cJ2_add 16 = .ok (.aload_n 0, 1) := dk_42 (dk_at dksJ2_add_0 16 rfl rfl)
theorem dJ2_add_17 : decode cJ2_add 17 = .ok (.getfield 48, 3) := dk_180 0 48 (dk_at dksJ2_add_0 17 rfl rfl)
theorem dJ2_add_20 : decode cJ2_add 20 = .ok (.invokevirtual 131, 3) := dk_182 0 131 (dk_at dksJ2_add_0 20 rfl rfl)
theorem dJ2_add_23 : decode cJ2_add 23 = .ok (.iconst 1, 1) := dk_4 (dk_at dksJ2_add_0 23 rfl rfl)
theorem dJ2_add_24 : decode cJ2_add 24 = .ok (.ireturn, 1) := dk_172 (dk_at dksJ2_add_1 0 rfl rfl)
theorem c_43_0 : LkP (OkP 43) [(0, o_aload 0 1), (1, o_dup), (2, o_get 18), (5, o_push 1 (.int 1)), (6, o_iop (fun x y => x + y)), (7, o_put 18 1), (10, o_aload 0 1), (11, o_aload 1 1), (12, o_aload 0 1), (13, o_get 19), (16, o_aload 0 1), (17, o_get 20), (20, o_cv [(3, 44)] 3 3 true none), (23, o_push 1 (.int 1)), (24, o_ret 5)] := lkp_c (P := OkP 43) ⟨(PuOK.ok (ok_aload_n dJ2_add_0 rfl)), m_aload⟩ (
  lkp_c (P := OkP 43) ⟨(PuOK.ok (ok_dup dJ2_add_1)), m_dup⟩ (
  lkp_c (P := OkP 43) ⟨ok_get ⟨"java/util/ArrayList", q580, Or.inr q579⟩ dJ2_add_2, m_get⟩ (
  lkp_c (P := OkP 43) ⟨(PuOK.ok (ok_iconst dJ2_add_5 rfl)), m_push⟩ (
  lkp_c (P := OkP 43) ⟨(PuOK.ok (ok_iadd dJ2_add_6)), m_iop⟩ (
  lkp_c (P := OkP 43) ⟨ok_put ⟨"java/util/ArrayList", q580, Or.inr q579⟩ rfl fd_18 rfl dJ2_add_7, m_put⟩ (
  lkp_c (P := OkP 43) ⟨(PuOK.ok (ok_aload_n dJ2_add_10 rfl)), m_aload⟩ (
  lkp_c (P := OkP 43) ⟨(PuOK.ok (ok_aload_n dJ2_add_11 rfl)), m_aload⟩ (
  lkp_c (P := OkP 43) ⟨(PuOK.ok (ok_aload_n dJ2_add_12 rfl)), m_aload⟩ (
  lkp_c (P := OkP 43) ⟨ok_get ⟨"java/util/ArrayList", q573, Or.inl rfl⟩ dJ2_add_13, m_get⟩ (
  lkp_c (P := OkP 43) ⟨(PuOK.ok (ok_aload_n dJ2_add_16 rfl)), m_aload⟩ (
  lkp_c (P := OkP 43) ⟨ok_get ⟨"java/util/ArrayList", q576, Or.inl rfl⟩ dJ2_add_17, m_get⟩ (
  lkp_c (P := OkP 43) ⟨ok_cv (List.forall_mem_cons.mpr ⟨tg_V (ci := 3) (r := CLr 3) (y := 44) rfl ⟨rfl, by decide⟩ rfl q1534 q1536 qs10 q120 q1537 ⟨cn_15.1, cn_15.2, pd_22⟩ dJ2_add_20, (List.forall_mem_nil _)⟩) hd_no, m_cv⟩ (
  lkp_c (P := OkP 43) ⟨(PuOK.ok (ok_iconst dJ2_add_23 rfl)), m_push⟩ (
  lkp_c (P := OkP 43) ⟨ok_iret rfl rfl (by decide) dJ2_add_24, m_ret⟩ (
  trivial)))))))))))))))
theorem mt_43 : MtOK TB NT IT 43 := ⟨by decide +kernel, rfl, (fun h => by cases h), Or.inl ⟨rfl, rfl⟩, rfl, by decide, lk2_all (P := OkP 43) ⟨c_43_0, trivial⟩⟩
def dkwJ2_add_2_0 : List UInt8 := [29, 44, 190, 160, 0, 8, 42, 182, 0, 129, 77, 44, 29, 43, 83, 42, 29, 4, 96, 181, 0, 48, 177]
abbrev dktJ2_add_2_0 : List UInt8 := dkwJ2_add_2_0 ++ []
theorem dksJ2_add_2_0 : cJ2_add_2.data.toList.drop 0 = dktJ2_add_2_0 := by decide +kernel
theorem dJ2_add_2_0 : decode cJ2_add_2 0 = .ok (.iload_n 3, 1) := dk_29 (dk_at dksJ2_add_2_0 0 rfl rfl)
theorem dJ2_add_2_1 : decode cJ2_add_2 1 = .ok (.aload_n 2, 1) := dk_44 (dk_at dksJ2_add_2_0 1 rfl rfl)
theorem dJ2_add_2_2 : decode cJ2_add_2 2 = .ok (.arraylength, 1) := dk_190 (dk_at dksJ2_add_2_0 2 rfl rfl)
theorem dJ2_add_2_3 : decode cJ2_add_2 3 = .ok (.if_icmp .ne 8, 3) := dk_160 0 8 (dk_at dksJ2_add_2_0 3 rfl rfl)
theorem dJ2_add_2_6 : decode cJ2_add_2 6 = .ok (.aload_n 0, 1) := dk_42 (dk_at dksJ2_add_2_0 6 rfl rfl)
theorem dJ2_add_2_7 : decode cJ2_add_2 7 = .ok (.invokevirtual 129, 3) := dk_182 0 129 (dk_at dksJ2_add_2_0 7 rfl rfl)
theorem dJ2_add_2_10 : decode cJ2_add_2 10 = .ok (.astore_n 2, 1) := dk_77 (dk_at dksJ2_add_2_0 10 rfl rfl)
theorem dJ2_add_2_11 : decode cJ2_add_2 11 = .ok (.aload_n 2, 1) := dk_44 (dk_at dksJ2_add_2_0 11 rfl rfl)
theorem dJ2_add_2_12 : decode cJ2_add_2 12 = .ok (.iload_n 3, 1) := dk_29 (dk_at dksJ2_add_2_0 12 rfl rfl)
theorem dJ2_add_2_13 : decode cJ2_add_2 13 = .ok (.aload_n 1, 1) := dk_43 (dk_at dksJ2_add_2_0 13 rfl rfl)
theorem dJ2_add_2_14 : decode cJ2_add_2 14 = .ok (.aastore, 1) := dk_83 (dk_at dksJ2_add_2_0 14 rfl rfl)
theorem dJ2_add_2_15 : decode cJ2_add_2 15 = .ok (.aload_n 0, 1) := dk_42 (dk_at dksJ2_add_2_0 15 rfl rfl)
theorem dJ2_add_2_16 : decode cJ2_add_2 16 = .ok (.iload_n 3, 1) := dk_29 (dk_at dksJ2_add_2_0 16 rfl rfl)
theorem dJ2_add_2_17 : decode cJ2_add_2 17 = .ok (.iconst 1, 1) := dk_4 (dk_at dksJ2_add_2_0 17 rfl rfl)
theorem dJ2_add_2_18 : decode cJ2_add_2 18 = .ok (.iadd, 1) := dk_96 (dk_at dksJ2_add_2_0 18 rfl rfl)
theorem dJ2_add_2_19 : decode cJ2_add_2 19 = .ok (.putfield 48, 3) := dk_181 0 48 (dk_at dksJ2_add_2_0 19 rfl rfl)
theorem dJ2_add_2_22 : decode cJ2_add_2 22 = .ok (.return_, 1) := dk_177 (dk_at dksJ2_add_2_0 22 rfl rfl)
theorem c_44_0 : LkP (OkP 44) [(0, o_iload 3 1), (1, o_aload 2 1), (2, o_alen), (3, o_icmp (fun x y => decide (¬ x = y)) 11), (6, o_aload 0 1), (7, o_cv [(3, 45)] 0 3 false none), (10, o_astore 2 1), (11, o_aload 2 1), (12, o_iload 3 1), (13, o_aload 1 1), (14, o_wrQ 5 [0, 1, 2, 3, 4, 5, 6, 7, 8, 9, 10, 11, 12, 13, 14, 15, 16, 17, 18, 19, 20, 21, 22, 23, 24, 25, 26, 27, 28, 29, 30, 31, 32, 33, 34]), (15, o_aload 0 1), (16, o_iload 3 1), (17, o_push 1 (.int 1)), (18, o_iop (fun x y => x + y)), (19, o_put 20 1), (22, o_vret)] := lkp_c (P := OkP 44) ⟨(PuOK.ok (ok_iload_n dJ2_add_2_0 rfl)), m_iload⟩ (
  lkp_c (P := OkP 44) ⟨(PuOK.ok (ok_aload_n dJ2_add_2_1 rfl)), m_aload⟩ (
  lkp_c (P := OkP 44) ⟨ok_alen dJ2_add_2_2, m_alen⟩ (
  lkp_c (P := OkP 44) ⟨(PuOK.ok (ok_icmp_ne dJ2_add_2_3 rfl)), m_icmp⟩ (
  lkp_c (P := OkP 44) ⟨(PuOK.ok (ok_aload_n dJ2_add_2_6 rfl)), m_aload⟩ (
  lkp_c (P := OkP 44) ⟨ok_cv (List.forall_mem_cons.mpr ⟨tg_V (ci := 3) (r := CLr 3) (y := 45) rfl ⟨rfl, by decide⟩ rfl q1538 q1540 qs11 q120 q1541 ⟨cn_15.1, cn_15.2, pd_23⟩ dJ2_add_2_7, (List.forall_mem_nil _)⟩) hd_no, m_cv⟩ (
  lkp_c (P := OkP 44) ⟨(PuOK.ok (ok_astore_n dJ2_add_2_10 rfl)), m_astore⟩ (
  lkp_c (P := OkP 44) ⟨(PuOK.ok (ok_aload_n dJ2_add_2_11 rfl)), m_aload⟩ (
  lkp_c (P := OkP 44) ⟨(PuOK.ok (ok_iload_n dJ2_add_2_12 rfl)), m_iload⟩ (
  lkp_c (P := OkP 44) ⟨(PuOK.ok (ok_aload_n dJ2_add_2_13 rfl)), m_aload⟩ (
  lkp_c (P := OkP 44) ⟨ok_aast rfl cst_0 dJ2_add_2_14, m_wrQ⟩ (
  lkp_c (P := OkP 44) ⟨(PuOK.ok (ok_aload_n dJ2_add_2_15 rfl)), m_aload⟩ (
  lkp_c (P := OkP 44) ⟨(PuOK.ok (ok_iload_n dJ2_add_2_16 rfl)), m_iload⟩ (
  lkp_c (P := OkP 44) ⟨(PuOK.ok (ok_iconst dJ2_add_2_17 rfl)), m_push⟩ (
  lkp_c (P := OkP 44) ⟨(PuOK.ok (ok_iadd dJ2_add_2_18)), m_iop⟩ (
  lkp_c (P := OkP 44) ⟨ok_put ⟨"java/util/ArrayList", q576, Or.inl rfl⟩ rfl fd_20 rfl dJ2_add_2_19, m_put⟩ (
  lkp_c (P := OkP 44) ⟨ok_vret rfl dJ2_add_2_22, m_vret⟩ (
  trivial)))))))))))))))))
theorem mt_44 : MtOK TB NT IT 44 := ⟨by decide +kernel, rfl, (fun h => by cases h), Or.inl ⟨rfl, rfl⟩, rfl, by decide, lk2_all (P := OkP 44) ⟨c_44_0, trivial⟩⟩
def dkwJ2_grow_0 : List UInt8 := [42, 42, 180, 0, 48, 4, 96, 182, 0, 69, 176]
abbrev dktJ2_grow_0 : List UInt8 := dkwJ2_grow_0 ++ []
theorem dksJ2_grow_0 : cJ2_grow.data.toList.drop 0 = dktJ2_grow_0 := by decide +kernel
theorem dJ2_grow_0 : decode cJ2_grow 0 = .ok (.aload_n 0, 1) := dk_42 (dk_at dksJ2_grow_0 0 rfl rfl)
theorem dJ2_grow_1 : decode cJ2_grow 1 = .ok (.aload_n 0, 1) := dk_42 (dk_at dksJ2_grow_0 1 rfl rfl)
theorem dJ2_grow_2 : decode cJ2_grow 2 = .ok (.getfield 48, 3) := dk_180 0 48 (dk_at dksJ2_grow_0 2 rfl rfl)
theorem dJ2_grow_5 : decode cJ2_grow 5 = .ok (.iconst 1, 1) := dk_4 (dk_at dksJ2_grow_0 5 rfl rfl)
theorem dJ2_grow_6 : decode cJ2_grow 6 = .ok (.iadd, 1) := dk_96 (dk_at dksJ2_grow_0 6 rfl rfl)
theorem dJ2_grow_7 : decode cJ2_grow 7 = .ok (.invokevirtual 69, 3) := dk_182 0 69 (dk_at dksJ2_grow_0 7 rfl rfl)
theorem dJ2_grow_10 : decode cJ2_grow 10 = .ok (.areturn, 1) := dk_176 (dk_at dksJ2_grow_0 10 rfl rfl)
theorem c_45_0 : LkP (OkP 45) [(0, o_aload 0 1), (1, o_aload 0 1), (2, o_get 20), (5, o_push 1 (.int 1)), (6, o_iop (fun x y => x + y)), (7, o_cv [(3, 46)] 1 3 false none), (10, o_ret 0)] := lkp_c (P := OkP 45) ⟨(PuOK.ok (ok_aload_n dJ2_grow_0 rfl)), m_aload⟩ (
  lkp_c (P := OkP 45) ⟨(PuOK.ok (ok_aload_n dJ2_grow_1 rfl)), m_aload⟩ (
  lkp_c (P := OkP 45) ⟨ok_get ⟨"java/util/ArrayList", q576, Or.inl rfl⟩ dJ2_grow_2, m_get⟩ (
  lkp_c (P := OkP 45) ⟨(PuOK.ok (ok_iconst dJ2_grow_5 rfl)), m_push⟩ (
  lkp_c (P := OkP 45) ⟨(PuOK.ok (ok_iadd dJ2_grow_6)), m_iop⟩ (
  lkp_c (P := OkP 45) ⟨ok_cv (List.forall_mem_cons.mpr ⟨tg_V (ci := 3) (r := CLr 3) (y := 46) rfl ⟨rfl, by decide⟩ rfl q1542 q1544 qs12 q120 q1545 ⟨cn_15.1, cn_15.2, pd_24⟩ dJ2_grow_7, (List.forall_mem_nil _)⟩) hd_no, m_cv⟩ (
  lkp_c (P := OkP 45) ⟨ok_aret rfl (Or.inr ⟨_, rfl⟩) dJ2_grow_10, m_ret⟩ (
  trivial)))))))
theorem mt_45 : MtOK TB NT IT 45 := ⟨by decide +kernel, rfl, (fun h => by cases h), Or.inl ⟨rfl, rfl⟩, rfl, by decide, lk2_all (P := OkP 45) ⟨c_45_0, trivial⟩⟩
def dkwJ2_grow_2_2 : List UInt8 := [27, 184, 0, 79, 189, 0, 7, 90, 181, 0, 9, 176]
abbrev dktJ2_grow_2_2 : List UInt8 := dkwJ2_grow_2_2 ++ []
def dkwJ2_grow_2_1 : List UInt8 := [28, 4, 122, 184, 0, 73, 62, 42, 42, 180, 0, 9, 29, 184, 0, 66, 90, 181, 0, 9, 176, 42, 16, 10]
abbrev dktJ2_grow_2_1 : List UInt8 := dkwJ2_grow_2_1 ++ dktJ2_grow_2_2
def dkwJ2_grow_2_0 : List UInt8 := [42, 180, 0, 9, 190, 61, 28, 157, 0, 13, 42, 180, 0, 9, 178, 0, 39, 165, 0, 28, 28, 27, 28, 100]
abbrev dktJ2_grow_2_0 : List UInt8 := dkwJ2_grow_2_0 ++ dktJ2_grow_2_1
theorem dksJ2_grow_2_0 : cJ2_grow_2.data.toList.drop 0 = dktJ2_grow_2_0 := by decide +kernel
theorem dksJ2_grow_2_1 : cJ2_grow_2.data.toList.drop 24 = dktJ2_grow_2_1 := dk_seg dksJ2_grow_2_0 24 rfl rfl
theorem dksJ2_grow_2_2 : cJ2_grow_2.data.toList.drop 48 = dktJ2_grow_2_2 := dk_seg dksJ2_grow_2_1 24 rfl rfl
theorem dJ2_grow_2_0 : decode cJ2_grow_2 0 = .ok (.aload_n 0, 1) := dk_42 (dk_at dksJ2_grow_2_0 0 rfl rfl)
theorem dJ2_grow_2_1 : decode cJ2_grow_2 1 = .ok (.getfield 9, 3) := dk_180 0 9 (dk_at dksJ2_grow_2_0 1 rfl rfl)
theorem dJ2_grow_2_4 : decode cJ2_grow_2 4 = .ok (.arraylength, 1) := dk_190 (dk_at dksJ2_grow_2_0 4 rfl rfl)
theorem dJ2_grow_2_5 : decode cJ2_grow_2 5 = .ok (.istore_n 2, 1) := dk_61 (dk_at dksJ2_grow_2_0 5 rfl rfl)
theorem dJ2_grow_2_6 : decode cJ2_grow_2 6 = .ok (.iload_n 2, 1) := dk_28 (dk_at dksJ2_grow_2_0 6 rfl rfl)
theorem dJ2_grow_2_7 : decode cJ2_grow_2 7 = .ok (.ifCond .gt 13, 3) := dk_157 0 13 (dk_at dksJ2_grow_2_0 7 rfl rfl)
theorem dJ2_grow_2_10 : decode cJ2_grow_2 10 = .ok (.aload_n 0, 1) := dk_42 (dk_at dksJ2_grow_2_0 10 rfl rfl)
theorem dJ2_grow_2_11 : decode cJ2_grow_2 11 = .ok (.getfield 9, 3) := dk_180 0 9 (dk_at dksJ2_grow_2_0 11 rfl rfl)
theorem dJ2_grow_2_17 : decode cJ2_grow_2 17 = .ok (.if_acmp .eq 28, 3) := dk_165 0 28 (dk_at dksJ2_grow_2_0 17 rfl rfl)
theorem dJ2_grow_2_20 : decode cJ2_grow_2 20 = .ok (.iload_n 2, 1) := dk_28 (dk_at dksJ2_grow_2_0 20 rfl rfl)
theorem dJ2_grow_2_21 : decode cJ2_grow_2 21 = .ok (.iload_n 1, 1) := dk_27 (dk_at dksJ2_grow_2_0 21 rfl rfl)
theorem dJ2_grow_2_22 : decode cJ2_grow_2 22 = .ok (.iload_n 2, 1) := dk_28 (dk_at dksJ2_grow_2_0 22 rfl rfl)
theorem dJ2_grow_2_23 : decode cJ2_grow_2 23 = .ok (.isub, 1) := dk_100 (dk_at dksJ2_grow_2_0 23 rfl rfl)
theorem dJ2_grow_2_24 : decode cJ2_grow_2 24 = .ok (.iload_n 2, 1) := dk_28 (dk_at dksJ2_grow_2_1 0 rfl rfl)
theorem dJ2_grow_2_25 : decode cJ2_grow_2 25 = .ok (.iconst 1, 1) := dk_4 (dk_at dksJ2_grow_2_1 1 rfl rfl)
theorem dJ2_grow_2_26 : decode cJ2_grow_2 26 = .ok (.ishr, 1) := dk_122 (dk_at dksJ2_grow_2_1 2 rfl rfl)
theorem dJ2_grow_2_27 : decode cJ2_grow_2 27 = .ok (.invokestatic 73, 3) := dk_184 0 73 (dk_at dksJ2_grow_2_1 3 rfl rfl)
theorem dJ2_grow_2_30 : decode cJ2_grow_2 30 = .ok (.istore_n 3, 1) := dk_62 (dk_at dksJ2_grow_2_1 6 rfl rfl)
theorem dJ2_grow_2_31 : decode cJ2_grow_2 31 = .ok (.aload_n 0, 1) := dk_42 (dk_at dksJ2_grow_2_1 7 rfl rfl)
theorem dJ2_grow_2_32 : decode cJ2_grow_2 32 = .ok (.aload_n 0, 1) := dk_42 (dk_at dksJ2_grow_2_1 8 rfl rfl)
theorem dJ2_grow_2_33 : decode cJ2_grow_2 33 = .ok (.getfield 9, 3) := dk_180 0 9 (dk_at dksJ2_grow_2_1 9 rfl rfl)
theorem dJ2_grow_2_36 : decode cJ2_grow_2 36 = .ok (.iload_n 3, 1) := dk_29 (dk_at dksJ2_grow_2_1 12 rfl rfl)
theorem dJ2_grow_2_37 : decode cJ2_grow_2 37 = .ok (.invokestatic 66, 3) := dk_184 0 66 (dk_at dksJ2_grow_2_1 13 rfl rfl)
theorem dJ2_grow_2_40 : decode cJ2_grow_2 40 = .ok (.dup_x1, 1) := dk_90 (dk_at dksJ2_grow_2_1 16 rfl rfl)
theorem dJ2_grow_2_41 : decode cJ2_grow_2 41 = .ok (.putfield 9, 3) := dk_181 0 9 (dk_at dksJ2_grow_2_1 17 rfl rfl)
theorem dJ2_grow_2_44 : decode cJ2_grow_2 44 = .ok (.areturn, 1) := dk_176 (dk_at dksJ2_grow_2_1 20 rfl rfl)
theorem dJ2_grow_2_45 : decode cJ2_grow_2 45 = .ok (.aload_n 0, 1) := dk_42 (dk_at dksJ2_grow_2_1 21 rfl rfl)
theorem dJ2_grow_2_46 : decode cJ2_grow_2 46 = .ok (.bipush 10, 2) := dk_16 10 (dk_at dksJ2_grow_2_1 22 rfl rfl)
theorem dJ2_grow_2_48 : decode cJ2_grow_2 48 = .ok (.iload_n 1, 1) := dk_27 (dk_at dksJ2_grow_2_2 0 rfl rfl)
theorem dJ2_grow_2_49 : decode cJ2_grow_2 49 = .ok (.invokestatic 79, 3) := dk_184 0 79 (dk_at dksJ2_grow_2_2 1 rfl rfl)
theorem dJ2_grow_2_52 : decode cJ2_grow_2 52 = .ok (.anewarray 7, 3) := dk_189 0 7 (dk_at dksJ2_grow_2_2 4 rfl rfl)
theorem dJ2_grow_2_55 : decode cJ2_grow_2 55 = .ok (.dup_x1, 1) := dk_90 (dk_at dksJ2_grow_2_2 7 rfl rfl)
theorem dJ2_grow_2_56 : decode cJ2_grow_2 56 = .ok (.putfield 9, 3) := dk_181 0 9 (dk_at dksJ2_grow_2_2 8 rfl rfl)
theorem dJ2_grow_2_59 : decode cJ2_grow_2 59 = .ok (.areturn, 1) := dk_176 (dk_at dksJ2_grow_2_2 11 rfl rfl)
theorem c_46_0 : LkP (OkP 46) [(0, o_aload 0 1), (1, o_get 19), (4, o_alen), (5, o_istore 2 1), (6, o_iload 2 1), (7, o_if (fun x => decide (0 < x)) 20), (10, o_aload 0 1), (11, o_get 19), (17, o_acmp true 45), (20, o_iload 2 1), (21, o_iload 1 1), (22, o_iload 2 1), (23, o_iop (fun x y => x - y)), (24, o_iload 2 1), (25, o_push 1 (.int 1)), (26, o_iop (fun x y => x >>> (y &&& 31))), (27, o_cs 2 3 false none), (30, o_istore 3 1), (31, o_aload 0 1), (32, o_aload 0 1), (33, o_get 19), (36, o_iload 3 1), (37, o_cs 13 2 false none), (40, o_dupx1), (41, o_put 19 0), (44, o_ret 0), (45, o_aload 0 1), (46, o_push 2 (.int 10)), (48, o_iload 1 1), (49, o_cs 6 2 false none), (52, o_newa 5 3), (55, o_dupx1), (56, o_put 19 0), (59, o_ret 0)] := lkp_c (P := OkP 46) ⟨(PuOK.ok (ok_aload_n dJ2_grow_2_0 rfl)), m_aload⟩ (
  lkp_c (P := OkP 46) ⟨ok_get ⟨"java/util/ArrayList", q573, Or.inl rfl⟩ dJ2_grow_2_1, m_get⟩ (
  lkp_c (P := OkP 46) ⟨ok_alen dJ2_grow_2_4, m_alen⟩ (
  lkp_c (P := OkP 46) ⟨(PuOK.ok (ok_istore_n dJ2_grow_2_5 rfl)), m_istore⟩ (
  lkp_c (P := OkP 46) ⟨(PuOK.ok (ok_iload_n dJ2_grow_2_6 rfl)), m_iload⟩ (
  lkp_c (P := OkP 46) ⟨(PuOK.ok (ok_if_gt dJ2_grow_2_7 rfl)), m_if⟩ (
  lkp_c (P := OkP 46) ⟨(PuOK.ok (ok_aload_n dJ2_grow_2_10 rfl)), m_aload⟩ (
  lkp_c (P := OkP 46) ⟨ok_get ⟨"java/util/ArrayList", q573, Or.inl rfl⟩ dJ2_grow_2_11, m_get⟩ (
  lkp_c (P := OkP 46) ⟨(PuOK.ok (ok_acmp_eq dJ2_grow_2_17 rfl)), m_acmp⟩ (
  lkp_c (P := OkP 46) ⟨(PuOK.ok (ok_iload_n dJ2_grow_2_20 rfl)), m_iload⟩ (
  lkp_c (P := OkP 46) ⟨(PuOK.ok (ok_iload_n dJ2_grow_2_21 rfl)), m_iload⟩ (
  lkp_c (P := OkP 46) ⟨(PuOK.ok (ok_iload_n dJ2_grow_2_22 rfl)), m_iload⟩ (
  lkp_c (P := OkP 46) ⟨(PuOK.ok (ok_isub dJ2_grow_2_23)), m_iop⟩ (
  lkp_c (P := OkP 46) ⟨(PuOK.ok (ok_iload_n dJ2_grow_2_24 rfl)), m_iload⟩ (
  lkp_c (P := OkP 46) ⟨(PuOK.ok (ok_iconst dJ2_grow_2_25 rfl)), m_push⟩ (
  lkp_c (P := OkP 46) ⟨(PuOK.ok (ok_ishr dJ2_grow_2_26)), m_iop⟩ (
  lkp_c (P := OkP 46) ⟨ok_cs (tg_S ⟨rfl, by decide⟩ q1548 q353 q129 q354 ⟨cn_2.1, cn_2.2, pd_25⟩ dJ2_grow_2_27) hd_no, m_cs⟩ (
  lkp_c (P := OkP 46) ⟨(PuOK.ok (ok_istore_n dJ2_grow_2_30 rfl)), m_istore⟩ (
  lkp_c (P := OkP 46) ⟨(PuOK.ok (ok_aload_n dJ2_grow_2_31 rfl)), m_aload⟩ (
  lkp_c (P := OkP 46) ⟨(PuOK.ok (ok_aload_n dJ2_grow_2_32 rfl)), m_aload⟩ (
  lkp_c (P := OkP 46) ⟨ok_get ⟨"java/util/ArrayList", q573, Or.inl rfl⟩ dJ2_grow_2_33, m_get⟩ (
  lkp_c (P := OkP 46) ⟨(PuOK.ok (ok_iload_n dJ2_grow_2_36 rfl)), m_iload⟩ (
  lkp_c (P := OkP 46) ⟨ok_cs (tg_S ⟨rfl, by decide⟩ q1549 q1550 q131 q1551 ⟨cn_4.1, cn_4.2, pd_26⟩ dJ2_grow_2_37) hd_no, m_cs⟩ (
  lkp_c (P := OkP 46) ⟨(PuOK.ok (ok_dupx1 dJ2_grow_2_40)), m_dupx1⟩ (
  lkp_c (P := OkP 46) ⟨ok_put ⟨"java/util/ArrayList", q573, Or.inl rfl⟩ rfl fd_19 rfl dJ2_grow_2_41, m_put⟩ (
  lkp_c (P := OkP 46) ⟨ok_aret rfl (Or.inr ⟨_, rfl⟩) dJ2_grow_2_44, m_ret⟩ (
  lkp_c (P := OkP 46) ⟨(PuOK.ok (ok_aload_n dJ2_grow_2_45 rfl)), m_aload⟩ (
  lkp_c (P := OkP 46) ⟨(PuOK.ok (ok_bipush dJ2_grow_2_46 rfl)), m_push⟩ (
  lkp_c (P := OkP 46) ⟨(PuOK.ok (ok_iload_n dJ2_grow_2_48 rfl)), m_iload⟩ (
  lkp_c (P := OkP 46) ⟨ok_cs (tg_S ⟨rfl, by decide⟩ q1558 q356 q130 q357 ⟨cn_1.1, cn_1.2, pd_1⟩ dJ2_grow_2_49) hd_no, m_cs⟩ (
  lkp_c (P := OkP 46) ⟨ok_anew (by decide) (by decide) rfl q239 q240 dJ2_grow_2_52, m_newa⟩ (
  lkp_c (P := OkP 46) ⟨(PuOK.ok (ok_dupx1 dJ2_grow_2_55)), m_dupx1⟩ (
  lkp_c (P := OkP 46) ⟨ok_put ⟨"java/util/ArrayList", q573, Or.inl rfl⟩ rfl fd_19 rfl dJ2_grow_2_56, m_put⟩ (
  lkp_c (P := OkP 46) ⟨ok_aret rfl (Or.inr ⟨_, rfl⟩) dJ2_grow_2_59, m_ret⟩ (
  trivial))))))))))))))))))))))))))))))))))
theorem mt_46 : MtOK TB NT IT 46 := ⟨by decide +kernel, rfl, (fun h => by cases h), Or.inl ⟨rfl, rfl⟩, rfl, by decide, lk2_all (P := OkP 46) ⟨c_46_0, trivial⟩⟩
def dkwJ2_get_0 : List UInt8 := [27, 42, 180, 0, 48, 184, 0, 118, 87, 42, 27, 182, 0, 123, 176]
abbrev dktJ2_get_0 : List UInt8 := dkwJ2_get_0 ++ []
theorem dksJ2_get_0 : cJ2_get.data.toList.drop 0 = dktJ2_get_0 := by decide +kernel
theorem dJ2_get_0 : decode cJ2_get 0 = .ok (.iload_n 1, 1) := dk_27 (dk_at dksJ2_get_0 0 rfl rfl)
theorem dJ2_get_1 : decode cJ2_get 1 = .ok (.aload_n 0, 1) := dk_42 (dk_at dksJ2_get_0 1 rfl rfl)
theorem dJ2_get_2 : decode cJ2_get 2 = .ok (.getfield 48, 3) := dk_180 0 48 (dk_at dksJ2_get_0 2 rfl rfl)
theorem dJ2_get_5 : decode cJ2_get 5 = .ok (.invokestatic 118, 3) := dk_184 0 118 (dk_at dksJ2_get_0 5 rfl rfl)
theorem dJ2_get_8 : decode cJ2_get 8 = .ok (.pop, 1) := dk_87 (dk_at dksJ2_get_0 8 rfl rfl)
theorem dJ2_get_9 : decode cJ2_get 9 = .ok (.aload_n 0, 1) := dk_42 (dk_at dksJ2_get_0 9 rfl rfl)
theorem dJ2_get_10 : decode cJ2_get 10 = .ok (.iload_n 1, 1) := dk_27 (dk_at dksJ2_get_0 10 rfl rfl)
theorem dJ2_get_11 : decode cJ2_get 11 = .ok (.invokevirtual 123, 3) := dk_182 0 123 (dk_at dksJ2_get_0 11 rfl rfl)
theorem dJ2_get_14 : decode cJ2_get 14 = .ok (.areturn, 1) := dk_176 (dk_at dksJ2_get_0 14 rfl rfl)
theorem c_47_0 : LkP (OkP 47) [(0, o_iload 1 1), (1, o_aload 0 1), (2, o_get 20), (5, o_cs 70 2 false none), (8, o_pop), (9, o_aload 0 1), (10, o_iload 1 1), (11, o_cv [(3, 48)] 1 3 false none), (14, o_ret 0)] := lkp_c (P := OkP 47) ⟨(PuOK.ok (ok_iload_n dJ2_get_0 rfl)), m_iload⟩ (
  lkp_c (P := OkP 47) ⟨(PuOK.ok (ok_aload_n dJ2_get_1 rfl)), m_aload⟩ (
  lkp_c (P := OkP 47) ⟨ok_get ⟨"java/util/ArrayList", q576, Or.inl rfl⟩ dJ2_get_2, m_get⟩ (
  lkp_c (P := OkP 47) ⟨ok_cs (tg_S ⟨rfl, by decide⟩ q1810 q1811 q153 q1812 ⟨cn_16.1, cn_16.2, pd_1⟩ dJ2_get_5) hd_no, m_cs⟩ (
  lkp_c (P := OkP 47) ⟨(PuOK.ok (ok_pop dJ2_get_8)), m_pop⟩ (
  lkp_c (P := OkP 47) ⟨(PuOK.ok (ok_aload_n dJ2_get_9 rfl)), m_aload⟩ (
  lkp_c (P := OkP 47) ⟨(PuOK.ok (ok_iload_n dJ2_get_10 rfl)), m_iload⟩ (
  lkp_c (P := OkP 47) ⟨ok_cv (List.forall_mem_cons.mpr ⟨tg_V (ci := 3) (r := CLr 3) (y := 48) rfl ⟨rfl, by decide⟩ rfl q1814 q1815 q1816 q120 q1817 ⟨cn_15.1, cn_15.2, pd_27⟩ dJ2_get_11, (List.forall_mem_nil _)⟩) hd_no, m_cv⟩ (
  lkp_c (P := OkP 47) ⟨ok_aret rfl (Or.inl ⟨_, rfl⟩) dJ2_get_14, m_ret⟩ (
  trivial)))))))))
theorem mt_47 : MtOK TB NT IT 47 := ⟨by decide +kernel, rfl, (fun h => by cases h), Or.inl ⟨rfl, rfl⟩, rfl, by decide, lk2_all (P := OkP 47) ⟨c_47_0, trivial⟩⟩
def dkwJ2_elementData_0 : List UInt8 := [42, 180, 0, 9, 27, 50, 176]
abbrev dktJ2_elementData_0 : List UInt8 := dkwJ2_elementData_0 ++ []
theorem dksJ2_elementData_0 : cJ2_elementData.data.toList.drop 0 = dktJ2_elementData_0 := by decide +kernel
theorem dJ2_elementData_0 : decode cJ2_elementData 0 = .ok (.aload_n 0, 1) := dk_42 (dk_at dksJ2_elementData_0 0 rfl rfl)
theorem dJ2_elementData_1 : decode cJ2_elementData 1 = .ok (.getfield 9, 3) := dk_180 0 9 (dk_at dksJ2_elementData_0 1 rfl rfl)
theorem dJ2_elementData_4 : decode cJ2_elementData 4 = .ok (.iload_n 1, 1) := dk_27 (dk_at dksJ2_elementData_0 4 rfl rfl)
theorem dJ2_elementData_5 : decode cJ2_elementData 5 = .ok (.aaload, 1) := dk_50 (dk_at dksJ2_elementData_0 5 rfl rfl)
theorem dJ2_elementData_6 : decode cJ2_elementData 6 = .ok (.areturn, 1) := dk_176 (dk_at dksJ2_elementData_0 6 rfl rfl)
theorem c_48_0 : LkP (OkP 48) [(0, o_aload 0 1), (1, o_get 19), (4, o_iload 1 1), (5, o_rdQ), (6, o_ret 0)] := lkp_c (P := OkP 48) ⟨(PuOK.ok (ok_aload_n dJ2_elementData_0 rfl)), m_aload⟩ (
  lkp_c (P := OkP 48) ⟨ok_get ⟨"java/util/ArrayList", q573, Or.inl rfl⟩ dJ2_elementData_1, m_get⟩ (
  lkp_c (P := OkP 48) ⟨(PuOK.ok (ok_iload_n dJ2_elementData_4 rfl)), m_iload⟩ (
  lkp_c (P := OkP 48) ⟨ok_aald dJ2_elementData_5, m_rdQ⟩ (
  lkp_c (P := OkP 48) ⟨ok_aret rfl (Or.inl ⟨_, rfl⟩) dJ2_elementData_6, m_ret⟩ (
  trivial)))))
theorem mt_48 : MtOK TB NT IT 48 := ⟨by decide +kernel, rfl, (fun h => by cases h), Or.inl ⟨rfl, rfl⟩, rfl, by decide, lk2_all (P := OkP 48) ⟨c_48_0, trivial⟩⟩
def dkwJ23_init_1 : List UInt8 := [181, 0, 22, 177]
abbrev dktJ23_init_1 : List UInt8 := dkwJ23_init_1 ++ []
def dkwJ23_init_0 : List UInt8 := [42, 43, 181, 0, 1, 42, 183, 0, 7, 42, 2, 181, 0, 13, 42, 42, 180, 0, 1, 180, 0, 17]
abbrev dktJ23_init_0 : List UInt8 := dkwJ23_init_0 ++ dktJ23_init_1
theorem dksJ23_init_0 : cJ23_init.data.toList.drop 0 = dktJ23_init_0 := by decide +kernel
theorem dksJ23_init_1 : cJ23_init.data.toList.drop 22 = dktJ23_init_1 := dk_seg dksJ23_init_0 22 rfl rfl
theorem dJ23_init_0 : decode cJ23_init 0 = .ok (.aload_n 0, 1) := dk_42 (dk_at dksJ23_init_0 0 rfl rfl)
theorem dJ23_init_1 : decode cJ23_init 1 = .ok (.aload_n 1, 1) := dk_43 (dk_at dksJ23_init_0 1 rfl rfl)
theorem dJ23_init_2 : decode cJ23_init 2 = .ok (.putfield 1, 3) := dk_181 0 1 (dk_at dksJ23_init_0 2 rfl rfl)
theorem dJ23_init_5 : decode cJ23_init 5 = .ok (.aload_n 0, 1) := dk_42 (dk_at dksJ23_init_0 5 rfl rfl)
theorem dJ23_init_6 : decode cJ23_init 6 = .ok (.invokespecial 7, 3) := dk_183 0 7 (dk_at dksJ23_init_0 6 rfl rfl)
theorem dJ23_init_9 : decode cJ23_init 9 = .ok (.aload_n 0, 1) := dk_42 (dk_at dksJ23_init_0 9 rfl rfl)
theorem dJ23_init_10 : decode cJ23_init 10 = .ok (.iconst (-1), 1) := dk_2 (dk_at dksJ23_init_0 10 rfl rfl)
theorem dJ23_init_11 : decode cJ23_init 11 = .ok (.putfield 13, 3) := dk_181 0 13 (dk_at dksJ23_init_0 11 rfl rfl)
theorem dJ23_init_14 : decode cJ23_init 14 = .ok (.aload_n 0, 1) := dk_42 (dk_at dksJ23_init_0 14 rfl rfl)
theorem dJ23_init_15 : decode cJ23_init 15 = .ok (.aload_n 0, 1) := dk_42 (dk_at dksJ23_init_0 15 rfl rfl)
theorem dJ23_init_16 : decode cJ23_init 16 = .ok (.getfield 1, 3) := dk_180 0 1 (dk_at dksJ23_init_0 16 rfl rfl)
theorem dJ23_init_19 : decode cJ23_init 19 = .ok (.getfield 17, 3) := dk_180 0 17 (dk_at dksJ23_init_0 19 rfl rfl)
theorem dJ23_init_22 : decode cJ23_init 22 = .ok (.putfield 22, 3) := dk_181 0 22 (dk_at dksJ23_init_1 0 rfl rfl)
theorem dJ23_init_25 : decode cJ23_init 25 = .ok (.return_, 1) := dk_177 (dk_at dksJ23_init_1 3 rfl rfl)
theorem c_49_0 : LkP (OkP 49) [(0, o_aload 0 1), (1, o_aload 1 1), (2, o_put 40 0), (5, o_aload 0 1), (6, o_oi), (9, o_aload 0 1), (10, o_push 1 (.int (-1))), (11, o_put 38 1), (14, o_aload 0 1), (15, o_aload 0 1), (16, o_get 40), (19, o_get 18), (22, o_put 39 1), (25, o_vret)] := lkp_c (P := OkP 49) ⟨(PuOK.ok (ok_aload_n dJ23_init_0 rfl)), m_aload⟩ (
  lkp_c (P := OkP 49) ⟨(PuOK.ok (ok_aload_n dJ23_init_1 rfl)), m_aload⟩ (
  lkp_c (P := OkP 49) ⟨ok_putF q701 rfl rfl rfl fd_40 rfl dJ23_init_2, m_put⟩ (
  lkp_c (P := OkP 49) ⟨(PuOK.ok (ok_aload_n dJ23_init_5 rfl)), m_aload⟩ (
  lkp_c (P := OkP 49) ⟨ok_oi q697 q188 q_oi dJ23_init_6, m_oi⟩ (
  lkp_c (P := OkP 49) ⟨(PuOK.ok (ok_aload_n dJ23_init_9 rfl)), m_aload⟩ (
  lkp_c (P := OkP 49) ⟨(PuOK.ok (ok_iconst dJ23_init_10 rfl)), m_push⟩ (
  lkp_c (P := OkP 49) ⟨ok_put ⟨"java/util/ArrayList$Itr", q699, Or.inl rfl⟩ rfl fd_38 rfl dJ23_init_11, m_put⟩ (
  lkp_c (P := OkP 49) ⟨(PuOK.ok (ok_aload_n dJ23_init_14 rfl)), m_aload⟩ (
  lkp_c (P := OkP 49) ⟨(PuOK.ok (ok_aload_n dJ23_init_15 rfl)), m_aload⟩ (
  lkp_c (P := OkP 49) ⟨ok_get ⟨"java/util/ArrayList$Itr", q701, Or.inl rfl⟩ dJ23_init_16, m_get⟩ (
  lkp_c (P := OkP 49) ⟨ok_get ⟨"java/util/ArrayList", q578, Or.inr q579⟩ dJ23_init_19, m_get⟩ (
  lkp_c (P := OkP 49) ⟨ok_put ⟨"java/util/ArrayList$Itr", q700, Or.inl rfl⟩ rfl fd_39 rfl dJ23_init_22, m_put⟩ (
  lkp_c (P := OkP 49) ⟨ok_vret rfl dJ23_init_25, m_vret⟩ (
  trivial))))))))))))))
theorem mt_49 : MtOK TB NT IT 49 := ⟨by decide +kernel, rfl, fun _ => rfl, Or.inl ⟨rfl, rfl⟩, rfl, by decide, lk2_all (P := OkP 49) ⟨c_49_0, trivial⟩⟩
def dkwJ23_hasNext_0 : List UInt8 := [42, 180, 0, 25, 42, 180, 0, 1, 180, 0, 28, 159, 0, 7, 4, 167, 0, 4, 3, 172]
abbrev dktJ23_hasNext_0 : List UInt8 := dkwJ23_hasNext_0 ++ []
theorem dksJ23_hasNext_0 : cJ23_hasNext.data.toList.drop 0 = dktJ23_hasNext_0 := by decide +kernel
theorem dJ23_hasNext_0 : decode cJ23_hasNext 0 = .ok (.aload_n 0, 1) := dk_42 (dk_at dksJ23_hasNext_0 0 rfl rfl)
theorem dJ23_hasNext_1 : decode cJ23_hasNext 1 = .ok (.getfield 25, 3) := dk_180 0 25 (dk_at dksJ23_hasNext_0 1 rfl rfl)
theorem dJ23_hasNext_4 : decode cJ23_hasNext 4 = .ok (.aload_n 0, 1) := dk_42 (dk_at dksJ23_hasNext_0 4 rfl rfl)
theorem dJ23_hasNext_5 : decode cJ23_hasNext 5 = .ok (.getfield 1, 3) := dk_180 0 1 (dk_at dksJ23_hasNext_0 5 rfl rfl)
theorem dJ23_hasNext_8 : decode cJ23_hasNext 8 = .ok (.getfield 28, 3) := dk_180 0 28 (dk_at dksJ23_hasNext_0 8 rfl rfl)
theorem dJ23_hasNext_11 : decode cJ23_hasNext 11 = .ok (.if_icmp .eq 7, 3) := dk_159 0 7 (dk_at dksJ23_hasNext_0 11 rfl rfl)
theorem dJ23_hasNext_14 : decode cJ23_hasNext 14 = .ok (.iconst 1, 1) := dk_4 (dk_at dksJ23_hasNext_0 14 rfl rfl)
theorem dJ23_hasNext_15 : decode cJ23_hasNext 15 = .ok (.goto 4, 3) := dk_167 0 4 (dk_at dksJ23_hasNext_0 15 rfl rfl)
theorem dJ23_hasNext_18 : decode cJ23_hasNext 18 = .ok (.iconst 0, 1) := dk_3 (dk_at dksJ23_hasNext_0 18 rfl rfl)
theorem dJ23_hasNext_19 : decode cJ23_hasNext 19 = .ok (.ireturn, 1) := dk_172 (dk_at dksJ23_hasNext_0 19 rfl rfl)
theorem c_50_0 : LkP (OkP 50) [(0, o_aload 0 1), (1, o_get 37), (4, o_aload 0 1), (5, o_get 40), (8, o_get 20), (11, o_icmp (fun x y => decide (x = y)) 18), (14, o_push 1 (.int 1)), (15, o_goto 19), (18, o_push 1 (.int 0)), (19, o_ret 5)] := lkp_c (P := OkP 50) ⟨(PuOK.ok (ok_aload_n dJ23_hasNext_0 rfl)), m_aload⟩ (
  lkp_c (P := OkP 50) ⟨ok_get ⟨"java/util/ArrayList$Itr", q698, Or.inl rfl⟩ dJ23_hasNext_1, m_get⟩ (
  lkp_c (P := OkP 50) ⟨(PuOK.ok (ok_aload_n dJ23_hasNext_4 rfl)), m_aload⟩ (
  lkp_c (P := OkP 50) ⟨ok_get ⟨"java/util/ArrayList$Itr", q701, Or.inl rfl⟩ dJ23_hasNext_5, m_get⟩ (
  lkp_c (P := OkP 50) ⟨ok_getN ⟨"java/util/ArrayList", "java/util/ArrayList", q575, Or.inl rfl⟩ dJ23_hasNext_8, m_get⟩ (
  lkp_c (P := OkP 50) ⟨(PuOK.ok (ok_icmp_eq dJ23_hasNext_11 rfl)), m_icmp⟩ (
  lkp_c (P := OkP 50) ⟨(PuOK.ok (ok_iconst dJ23_hasNext_14 rfl)), m_push⟩ (
  lkp_c (P := OkP 50) ⟨(PuOK.ok (ok_goto dJ23_hasNext_15 rfl)), m_goto⟩ (
  lkp_c (P := OkP 50) ⟨(PuOK.ok (ok_iconst dJ23_hasNext_18 rfl)), m_push⟩ (
  lkp_c (P := OkP 50) ⟨ok_iret rfl rfl (by decide) dJ23_hasNext_19, m_ret⟩ (
  trivial))))))))))
theorem mt_50 : MtOK TB NT IT 50 := ⟨by decide +kernel, rfl, (fun h => by cases h), Or.inl ⟨rfl, rfl⟩, rfl, by decide, lk2_all (P := OkP 50) ⟨c_50_0, trivial⟩⟩
def dkwJ23_next_2 : List UInt8 := [183, 0, 43, 191, 42, 27, 4, 96, 181, 0, 25, 44, 42, 27, 90, 181, 0, 13, 50, 176]
abbrev dktJ23_next_2 : List UInt8 := dkwJ23_next_2 ++ []
def dkwJ23_next_1 : List UInt8 := [183, 0, 36, 191, 42, 180, 0, 1, 180, 0, 37, 77, 27, 44, 190, 161, 0, 11, 187, 0, 41, 89]
abbrev dktJ23_next_1 : List UInt8 := dkwJ23_next_1 ++ dktJ23_next_2
def dkwJ23_next_0 : List UInt8 := [42, 182, 0, 31, 42, 180, 0, 25, 60, 27, 42, 180, 0, 1, 180, 0, 28, 161, 0, 11, 187, 0, 34, 89]
abbrev dktJ23_next_0 : List UInt8 := dkwJ23_next_0 ++ dktJ23_next_1
theorem dksJ23_next_0 : cJ23_next.data.toList.drop 0 = dktJ23_next_0 := by decide +kernel
theorem dksJ23_next_1 : cJ23_next.data.toList.drop 24 = dktJ23_next_1 := dk_seg dksJ23_next_0 24 rfl rfl
theorem dksJ23_next_2 : cJ23_next.data.toList.drop 46 = dktJ23_next_2 := dk_seg dksJ23_next_1 22 rfl rfl
theorem dJ23_next_0 : decode cJ23_next 0 = .ok (.aload_n 0, 1) := dk_42 (dk_at dksJ23_next_0 0 rfl rfl)
theorem dJ23_next_1 : decode cJ23_next 1 = .ok (.invokevirtual 31, 3) := dk_182 0 31 (dk_at dksJ23_next_0 1 rfl rfl)
theorem dJ23_next_4 : decode cJ23_next 4 = .ok (.aload_n 0, 1) := dk_42 (dk_at dksJ23_next_0 4 rfl rfl)
theorem dJ23_next_5 : decode cJ23_next 5 = .ok (.getfield 25, 3) := dk_180 0 25 (dk_at dksJ23_next_0 5 rfl rfl)
theorem dJ23_next_8 : decode cJ23_next 8 = .ok (.istore_n 1, 1) := dk_60 (dk_at dksJ23_next_0 8 rfl rfl)
theorem dJ23_next_9 : decode cJ23_next 9 = .ok (.iload_n 1, 1) := dk_27 (dk_at dksJ23_next_0 9 rfl rfl)
theorem dJ23_next_10 : decode cJ23_next 10 = .ok (.aload_n 0, 1) := dk_42 (dk_at dksJ23_next_0 10 rfl rfl)
theorem dJ23_next_11 : decode cJ23_next 11 = .ok (.getfield 1, 3) := dk_180 0 1 (dk_at dksJ23_next_0 11 rfl rfl)
theorem dJ23_next_14 : decode cJ23_next 14 = .ok (.getfield 28, 3) := dk_180 0 28 (dk_at dksJ23_next_0 14 rfl rfl)
theorem dJ23_next_17 : decode cJ23_next 17 = .ok (.if_icmp .lt 11, 3) := dk_161 0 11 (dk_at dksJ23_next_0 17 rfl rfl)
theorem dJ23_next_23 : decode cJ23_next 23 = .ok (.dup, 1) := dk_89 (dk_at dksJ23_next_0 23 rfl rfl)
theorem dJ23_next_28 : decode cJ23_next 28 = .ok (.aload_n 0, 1) := dk_42 (dk_at dksJ23_next_1 4 rfl rfl)
theorem dJ23_next_29 : decode cJ23_next 29 = .ok (.getfield 1, 3) := dk_180 0 1 (dk_at dksJ23_next_1 5 rfl rfl)
theorem dJ23_next_32 : decode cJ23_next 32 = .ok (.getfield 37, 3) := dk_180 0 37 (dk_at dksJ23_next_1 8 rfl rfl)
theorem dJ23_next_35 : decode cJ23_next 35 = .ok (.astore_n 2, 1) := dk_77 (dk_at dksJ23_next_1 11 rfl rfl)
theorem dJ23_next_36 : decode cJ23_next 36 = .ok (.iload_n 1, 1) := dk_27 (dk_at dksJ23_next_1 12 rfl rfl)
theorem dJ23_next_37 : decode cJ23_next 37 = .ok (.aload_n 2, 1) := dk_44 (dk_at dksJ23_next_1 13 rfl rfl)
theorem dJ23_next_38 : decode cJ23_next 38 = .ok (.arraylength, 1) := dk_190 (dk_at dksJ23_next_1 14 rfl rfl)
theorem dJ23_next_39 : decode cJ23_next 39 = .ok (.if_icmp .lt 11, 3) := dk_161 0 11 (dk_at dksJ23_next_1 15 rfl rfl)
theorem dJ23_next_45 : decode cJ23_next 45 = .ok (.dup, 1) := dk_89 (dk_at dksJ23_next_1 21 rfl rfl)
theorem dJ23_next_50 : decode cJ23_next 50 = .ok (.aload_n 0, 1) := dk_42 (dk_at dksJ23_next_2 4 rfl rfl)
theorem dJ23_next_51 : decode cJ23_next 51 = .ok (.iload_n 1, 1) := dk_27 (dk_at dksJ23_next_2 5 rfl rfl)
theorem dJ23_next_52 : decode cJ23_next 52 = .ok (.iconst 1, 1) := dk_4 (dk_at dksJ23_next_2 6 rfl rfl)
theorem dJ23_next_53 : decode cJ23_next 53 = .ok (.iadd, 1) := dk_96 (dk_at dksJ23_next_2 7 rfl rfl)
theorem dJ23_next_54 : decode cJ23_next 54 = .ok (.putfield 25, 3) := dk_181 0 25 (dk_at dksJ23_next_2 8 rfl rfl)
theorem dJ23_next_57 : decode cJ23_next 57 = .ok (.aload_n 2, 1) := dk_44 (dk_at dksJ23_next_2 11 rfl rfl)
theorem dJ23_next_58 : decode cJ23_next 58 = .ok (.aload_n 0, 1) := dk_42 (dk_at dksJ23_next_2 12 rfl rfl)
theorem dJ23_next_59 : decode cJ23_next 59 = .ok (.iload_n 1, 1) := dk_27 (dk_at dksJ23_next_2 13 rfl rfl)
theorem dJ23_next_60 : decode cJ23_next 60 = .ok (.dup_x1, 1) := dk_90 (dk_at dksJ23_next_2 14 rfl rfl)
theorem dJ23_next_61 : decode cJ23_next 61 = .ok (.putfield 13, 3) := dk_181 0 13 (dk_at dksJ23_next_2 15 rfl rfl)
theorem dJ23_next_64 : decode cJ23_next 64 = .ok (.aaload, 1) := dk_50 (dk_at dksJ23_next_2 18 rfl rfl)
theorem dJ23_next_65 : decode cJ23_next 65 = .ok (.areturn, 1) := dk_176 (dk_at dksJ23_next_2 19 rfl rfl)
theorem c_51_0 : LkP (OkP 51) [(0, o_aload 0 1), (1, o_cv [(7, 52)] 0 3 true none), (4, o_aload 0 1), (5, o_get 37), (8, o_istore 1 1), (9, o_iload 1 1), (10, o_aload 0 1), (11, o_get 40), (14, o_get 20), (17, o_icmp (fun x y => decide (x < y)) 28), (23, o_dup), (28, o_aload 0 1), (29, o_get 40), (32, o_get 19), (35, o_astore 2 1), (36, o_iload 1 1), (37, o_aload 2 1), (38, o_alen), (39, o_icmp (fun x y => decide (x < y)) 50), (45, o_dup), (50, o_aload 0 1), (51, o_iload 1 1), (52, o_push 1 (.int 1)), (53, o_iop (fun x y => x + y)), (54, o_put 37 1), (57, o_aload 2 1), (58, o_aload 0 1), (59, o_iload 1 1), (60, o_dupx1), (61, o_put 38 1)] := lkp_c (P := OkP 51) ⟨(PuOK.ok (ok_aload_n dJ23_next_0 rfl)), m_aload⟩ (
  lkp_c (P := OkP 51) ⟨ok_cv (List.forall_mem_cons.mpr ⟨tg_V (ci := 7) (r := CLr 7) (y := 52) rfl ⟨rfl, by decide⟩ rfl q752 q753 q754 q150 q755 ⟨cn_14.1, cn_14.2, pd_0⟩ dJ23_next_1, (List.forall_mem_nil _)⟩) hd_no, m_cv⟩ (
  lkp_c (P := OkP 51) ⟨(PuOK.ok (ok_aload_n dJ23_next_4 rfl)), m_aload⟩ (
  lkp_c (P := OkP 51) ⟨ok_get ⟨"java/util/ArrayList$Itr", q698, Or.inl rfl⟩ dJ23_next_5, m_get⟩ (
  lkp_c (P := OkP 51) ⟨(PuOK.ok (ok_istore_n dJ23_next_8 rfl)), m_istore⟩ (
  lkp_c (P := OkP 51) ⟨(PuOK.ok (ok_iload_n dJ23_next_9 rfl)), m_iload⟩ (
  lkp_c (P := OkP 51) ⟨(PuOK.ok (ok_aload_n dJ23_next_10 rfl)), m_aload⟩ (
  lkp_c (P := OkP 51) ⟨ok_get ⟨"java/util/ArrayList$Itr", q701, Or.inl rfl⟩ dJ23_next_11, m_get⟩ (
  lkp_c (P := OkP 51) ⟨ok_getN ⟨"java/util/ArrayList", "java/util/ArrayList", q575, Or.inl rfl⟩ dJ23_next_14, m_get⟩ (
  lkp_c (P := OkP 51) ⟨(PuOK.ok (ok_icmp_lt dJ23_next_17 rfl)), m_icmp⟩ (
  lkp_c (P := OkP 51) ⟨(PuOK.ok (ok_dup dJ23_next_23)), m_dup⟩ (
  lkp_c (P := OkP 51) ⟨(PuOK.ok (ok_aload_n dJ23_next_28 rfl)), m_aload⟩ (
  lkp_c (P := OkP 51) ⟨ok_get ⟨"java/util/ArrayList$Itr", q701, Or.inl rfl⟩ dJ23_next_29, m_get⟩ (
  lkp_c (P := OkP 51) ⟨ok_get ⟨"java/util/ArrayList", q574, Or.inl rfl⟩ dJ23_next_32, m_get⟩ (
  lkp_c (P := OkP 51) ⟨(PuOK.ok (ok_astore_n dJ23_next_35 rfl)), m_astore⟩ (
  lkp_c (P := OkP 51) ⟨(PuOK.ok (ok_iload_n dJ23_next_36 rfl)), m_iload⟩ (
  lkp_c (P := OkP 51) ⟨(PuOK.ok (ok_aload_n dJ23_next_37 rfl)), m_aload⟩ (
  lkp_c (P := OkP 51) ⟨ok_alen dJ23_next_38, m_alen⟩ (
  lkp_c (P := OkP 51) ⟨(PuOK.ok (ok_icmp_lt dJ23_next_39 rfl)), m_icmp⟩ (
  lkp_c (P := OkP 51) ⟨(PuOK.ok (ok_dup dJ23_next_45)), m_dup⟩ (
  lkp_c (P := OkP 51) ⟨(PuOK.ok (ok_aload_n dJ23_next_50 rfl)), m_aload⟩ (
  lkp_c (P := OkP 51) ⟨(PuOK.ok (ok_iload_n dJ23_next_51 rfl)), m_iload⟩ (
  lkp_c (P := OkP 51) ⟨(PuOK.ok (ok_iconst dJ23_next_52 rfl)), m_push⟩ (
  lkp_c (P := OkP 51) ⟨(PuOK.ok (ok_iadd dJ23_next_53)), m_iop⟩ (
  lkp_c (P := OkP 51) ⟨ok_put ⟨"java/util/ArrayList$Itr", q698, Or.inl rfl⟩ rfl fd_37 rfl dJ23_next_54, m_put⟩ (
  lkp_c (P := OkP 51) ⟨(PuOK.ok (ok_aload_n dJ23_next_57 rfl)), m_aload⟩ (
  lkp_c (P := OkP 51) ⟨(PuOK.ok (ok_aload_n dJ23_next_58 rfl)), m_aload⟩ (
  lkp_c (P := OkP 51) ⟨(PuOK.ok (ok_iload_n dJ23_next_59 rfl)), m_iload⟩ (
  lkp_c (P := OkP 51) ⟨(PuOK.ok (ok_dupx1 dJ23_next_60)), m_dupx1⟩ (
  lkp_c (P := OkP 51) ⟨ok_put ⟨"java/util/ArrayList$Itr", q699, Or.inl rfl⟩ rfl fd_38 rfl dJ23_next_61, m_put⟩ (
  trivial))))))))))))))))))))))))))))))
theorem c_51_1 : LkP (OkP 51) [(64, o_rdQ), (65, o_ret 0)] := lkp_c (P := OkP 51) ⟨ok_aald dJ23_next_64, m_rdQ⟩ (
  lkp_c (P := OkP 51) ⟨ok_aret rfl (Or.inl ⟨_, rfl⟩) dJ23_next_65, m_ret⟩ (
  trivial))
theorem mt_51 : MtOK TB NT IT 51 := ⟨by decide +kernel, rfl, (fun h => by cases h), Or.inl ⟨rfl, rfl⟩, rfl, by decide, lk2_all (P := OkP 51) ⟨c_51_0, c_51_1, trivial⟩⟩
def dkwJ23_checkForComodification_0 : List UInt8 := [42, 180, 0, 1, 180, 0, 17, 42, 180, 0, 22, 159, 0, 11, 187, 0, 41, 89, 183, 0, 43, 191, 177]
abbrev dktJ23_checkForComodification_0 : List UInt8 := dkwJ23_checkForComodification_0 ++ []
theorem dksJ23_checkForComodification_0 : cJ23_checkForComodification.data.toList.drop 0 = dktJ23_checkForComodification_0 := by decide +kernel
theorem dJ23_checkForComodification_0 : decode cJ23_checkForComodification 0 = .ok (.aload_n 0, 1) := dk_42 (dk_at dksJ23_checkForComodification_0 0 rfl rfl)
theorem dJ23_checkForComodification_1 : decode cJ23_checkForComodification 1 = .ok (.getfield 1, 3) := dk_180 0 1 (dk_at dksJ23_checkForComodification_0 1 rfl rfl)
theorem dJ23_checkForComodification_4 : decode cJ23_checkForComodification 4 = .ok (.getfield 17, 3) := dk_180 0 17 (dk_at dksJ23_checkForComodification_0 4 rfl rfl)
theorem dJ23_checkForComodification_7 : decode cJ23_checkForComodification 7 = .ok (.aload_n 0, 1) := dk_42 (dk_at dksJ23_checkForComodification_0 7 rfl rfl)
theorem dJ23_checkForComodification_8 : decode cJ23_checkForComodification 8 = .ok (.getfield 22, 3) := dk_180 0 22 (dk_at dksJ23_checkForComodification_0 8 rfl rfl)
theorem dJ23_checkForComodification_11 : decode cJ23_checkForComodification 11 = .ok (.if_icmp .eq 11, 3) := dk_159 0 11 (dk_at dksJ23_checkForComodification_0 11 rfl rfl)
theorem dJ23_checkForComodification_17 : decode cJ23_checkForComodification 17 = .ok (.dup, 1) := dk_89 (dk_at dksJ23_checkForComodification_0 17 rfl rfl)
theorem dJ23_checkForComodification_22 : decode cJ23_checkForComodification 22 = .ok (.return_, 1) := dk_177 (dk_at dksJ23_checkForComodification_0 22 rfl rfl)
theorem c_52_0 : LkP (OkP 52) [(0, o_aload 0 1), (1, o_get 40), (4, o_get 18), (7, o_aload 0 1), (8, o_get 39), (11, o_icmp (fun x y => decide (x = y)) 22), (17, o_dup), (22, o_vret)] := lkp_c (P := OkP 52) ⟨(PuOK.ok (ok_aload_n dJ23_checkForComodification_0 rfl)), m_aload⟩ (
  lkp_c (P := OkP 52) ⟨ok_get ⟨"java/util/ArrayList$Itr", q701, Or.inl rfl⟩ dJ23_checkForComodification_1, m_get⟩ (
  lkp_c (P := OkP 52) ⟨ok_get ⟨"java/util/ArrayList", q578, Or.inr q579⟩ dJ23_checkForComodification_4, m_get⟩ (
  lkp_c (P := OkP 52) ⟨(PuOK.ok (ok_aload_n dJ23_checkForComodification_7 rfl)), m_aload⟩ (
  lkp_c (P := OkP 52) ⟨ok_get ⟨"java/util/ArrayList$Itr", q700, Or.inl rfl⟩ dJ23_checkForComodification_8, m_get⟩ (
  lkp_c (P := OkP 52) ⟨(PuOK.ok (ok_icmp_eq dJ23_checkForComodification_11 rfl)), m_icmp⟩ (
  lkp_c (P := OkP 52) ⟨(PuOK.ok (ok_dup dJ23_checkForComodification_17)), m_dup⟩ (
  lkp_c (P := OkP 52) ⟨ok_vret rfl dJ23_checkForComodification_22, m_vret⟩ (
  trivial))))))))
theorem mt_52 : MtOK TB NT IT 52 := ⟨by decide +kernel, rfl, (fun h => by cases h), Or.inl ⟨rfl, rfl⟩, rfl, by decide, lk2_all (P := OkP 52) ⟨c_52_0, trivial⟩⟩
def dkwJ25_successor_2 : List UInt8 := [44, 43, 180, 0, 114, 166, 0, 13, 43, 77, 43, 180, 0, 124, 76, 167, 255, 237, 43, 176]
abbrev dktJ25_successor_2 : List UInt8 := dkwJ25_successor_2 ++ []
def dkwJ25_successor_1 : List UInt8 := [198, 0, 11, 43, 180, 0, 111, 76, 167, 255, 244, 43, 176, 42, 180, 0, 124, 76, 42, 77, 43, 198, 0, 21]
abbrev dktJ25_successor_1 : List UInt8 := dkwJ25_successor_1 ++ dktJ25_successor_2
def dkwJ25_successor_0 : List UInt8 := [42, 199, 0, 5, 1, 176, 42, 180, 0, 114, 198, 0, 25, 42, 180, 0, 114, 76, 43, 180, 0, 111]
abbrev dktJ25_successor_0 : List UInt8 := dkwJ25_successor_0 ++ dktJ25_successor_1
theorem dksJ25_successor_0 : cJ25_successor.data.toList.drop 0 = dktJ25_successor_0 := by decide +kernel
theorem dksJ25_successor_1 : cJ25_successor.data.toList.drop 22 = dktJ25_successor_1 := dk_seg dksJ25_successor_0 22 rfl rfl
theorem dksJ25_successor_2 : cJ25_successor.data.toList.drop 46 = dktJ25_successor_2 := dk_seg dksJ25_successor_1 24 rfl rfl
theorem dJ25_successor_0 : decode cJ25_successor 0 = .ok (.aload_n 0, 1) := dk_42 (dk_at dksJ25_successor_0 0 rfl rfl)
theorem dJ25_successor_1 : decode cJ25_successor 1 = .ok (.ifnonnull 5, 3) := dk_199 0 5 (dk_at dksJ25_successor_0 1 rfl rfl)
theorem dJ25_successor_4 : decode cJ25_successor 4 = .ok (.aconst_null, 1) := dk_1 (dk_at dksJ25_successor_0 4 rfl rfl)
theorem dJ25_successor_5 : decode cJ25_successor 5 = .ok (.areturn, 1) := dk_176 (dk_at dksJ25_successor_0 5 rfl rfl)
theorem dJ25_successor_6 : decode cJ25_successor 6 = .ok (.aload_n 0, 1) := dk_42 (dk_at dksJ25_successor_0 6 rfl rfl)
theorem dJ25_successor_7 : decode cJ25_successor 7 = .ok (.getfield 114, 3) := dk_180 0 114 (dk_at dksJ25_successor_0 7 rfl rfl)
theorem dJ25_successor_10 : decode cJ25_successor 10 = .ok (.ifnull 25, 3) := dk_198 0 25 (dk_at dksJ25_successor_0 10 rfl rfl)
theorem dJ25_successor_13 : decode cJ25_successor 13 = .ok (.aload_n 0, 1) := dk_42 (dk_at dksJ25_successor_0 13 rfl rfl)
theorem dJ25_successor_14 : decode cJ25_successor 14 = .ok (.getfield 114, 3) := dk_180 0 114 (dk_at dksJ25_successor_0 14 rfl rfl)
theorem dJ25_successor_17 : decode cJ25_successor 17 = .ok (.astore_n 1, 1) := dk_76 (dk_at dksJ25_successor_0 17 rfl rfl)
theorem dJ25_successor_18 : decode cJ25_successor 18 = .ok (.aload_n 1, 1) := dk_43 (dk_at dksJ25_successor_0 18 rfl rfl)
theorem dJ25_successor_19 : decode cJ25_successor 19 = .ok (.getfield 111, 3) := dk_180 0 111 (dk_at dksJ25_successor_0 19 rfl rfl)
theorem dJ25_successor_22 : decode cJ25_successor 22 = .ok (.ifnull 11, 3) := dk_198 0 11 (dk_at dksJ25_successor_1 0 rfl rfl)
theorem dJ25_successor_25 : decode cJ25_successor 25 = .ok (.aload_n 1, 1) := dk_43 (dk_at dksJ25_successor_1 3 rfl rfl)
theorem dJ25_successor_26 : decode cJ25_successor 26 = .ok (.getfield 111, 3) := dk_180 0 111 (dk_at dksJ25_successor_1 4 rfl rfl)
theorem dJ25_successor_29 : decode cJ25_successor 29 = .ok (.astore_n 1, 1) := dk_76 (dk_at dksJ25_successor_1 7 rfl rfl)
theorem dJ25_successor_30 : decode cJ25_successor 30 = .ok (.goto (-12), 3) := dk_167 255 244 (dk_at dksJ25_successor_1 8 rfl rfl)
theorem dJ25_successor_33 : decode cJ25_successor 33 = .ok (.aload_n 1, 1) := dk_43 (dk_at dksJ25_successor_1 11 rfl rfl)
theorem dJ25_successor_34 : decode cJ25_successor 34 = .ok (.areturn, 1) := dk_176 (dk_at dksJ25_successor_1 12 rfl rfl)
theorem dJ25_successor_35 : decode cJ25_successor 35 = .ok (.aload_n 0, 1) := dk_42 (dk_at dksJ25_successor_1 13 rfl rfl)
theorem dJ25_successor_36 : decode cJ25_successor 36 = .ok (.getfield 124, 3) := dk_180 0 124 (dk_at dksJ25_successor_1 14 rfl rfl)
theorem dJ25_successor_39 : decode cJ25_successor 39 = .ok (.astore_n 1, 1) := dk_76 (dk_at dksJ25_successor_1 17 rfl rfl)
theorem dJ25_successor_40 : decode cJ25_successor 40 = .ok (.aload_n 0, 1) := dk_42 (dk_at dksJ25_successor_1 18 rfl rfl)
theorem dJ25_successor_41 : decode cJ25_successor 41 = .ok (.astore_n 2, 1) := dk_77 (dk_at dksJ25_successor_1 19 rfl rfl)
theorem dJ25_successor_42 : decode cJ25_successor 42 = .ok (.aload_n 1, 1) := dk_43 (dk_at dksJ25_successor_1 20 rfl rfl)
theorem dJ25_successor_43 : decode cJ25_successor 43 = .ok (.ifnull 21, 3) := dk_198 0 21 (dk_at dksJ25_successor_1 21 rfl rfl)
theorem dJ25_successor_46 : decode cJ25_successor 46 = .ok (.aload_n 2, 1) := dk_44 (dk_at dksJ25_successor_2 0 rfl rfl)
theorem dJ25_successor_47 : decode cJ25_successor 47 = .ok (.aload_n 1, 1) := dk_43 (dk_at dksJ25_successor_2 1 rfl rfl)
theorem dJ25_successor_48 : decode cJ25_successor 48 = .ok (.getfield 114, 3) := dk_180 0 114 (dk_at dksJ25_successor_2 2 rfl rfl)
theorem dJ25_successor_51 : decode cJ25_successor 51 = .ok (.if_acmp .ne 13, 3) := dk_166 0 13 (dk_at dksJ25_successor_2 5 rfl rfl)
theorem dJ25_successor_54 : decode cJ25_successor 54 = .ok (.aload_n 1, 1) := dk_43 (dk_at dksJ25_successor_2 8 rfl rfl)
theorem dJ25_successor_55 : decode cJ25_successor 55 = .ok (.astore_n 2, 1) := dk_77 (dk_at dksJ25_successor_2 9 rfl rfl)
theorem dJ25_successor_56 : decode cJ25_successor 56 = .ok (.aload_n 1, 1) := dk_43 (dk_at dksJ25_successor_2 10 rfl rfl)
theorem dJ25_successor_57 : decode cJ25_successor 57 = .ok (.getfield 124, 3) := dk_180 0 124 (dk_at dksJ25_successor_2 11 rfl rfl)
theorem dJ25_successor_60 : decode cJ25_successor 60 = .ok (.astore_n 1, 1) := dk_76 (dk_at dksJ25_successor_2 14 rfl rfl)
theorem dJ25_successor_61 : decode cJ25_successor 61 = .ok (.goto (-19), 3) := dk_167 255 237 (dk_at dksJ25_successor_2 15 rfl rfl)
theorem dJ25_successor_64 : decode cJ25_successor 64 = .ok (.aload_n 1, 1) := dk_43 (dk_at dksJ25_successor_2 18 rfl rfl)
theorem dJ25_successor_65 : decode cJ25_successor 65 = .ok (.areturn, 1) := dk_176 (dk_at dksJ25_successor_2 19 rfl rfl)
theorem c_53_0 : LkP (OkP 53) [(0, o_aload 0 1), (1, o_ifnonnull 6), (4, o_push 1 .null), (5, o_ret 0), (6, o_aload 0 1), (7, o_get 113), (10, o_ifnull 35), (13, o_aload 0 1), (14, o_get 113), (17, o_astore 1 1), (18, o_aload 1 1), (19, o_get 112), (22, o_ifnull 33), (25, o_aload 1 1), (26, o_get 112), (29, o_astore 1 1), (30, o_goto 18), (33, o_aload 1 1), (34, o_ret 0), (35, o_aload 0 1), (36, o_get 114), (39, o_astore 1 1), (40, o_aload 0 1), (41, o_astore 2 1), (42, o_aload 1 1), (43, o_ifnull 64), (46, o_aload 2 1), (47, o_aload 1 1), (48, o_get 113), (51, o_acmp false 64), (54, o_aload 1 1), (55, o_astore 2 1), (56, o_aload 1 1), (57, o_get 114), (60, o_astore 1 1), (61, o_goto 42)] := lkp_c (P := OkP 53) ⟨(PuOK.ok (ok_aload_n dJ25_successor_0 rfl)), m_aload⟩ (
  lkp_c (P := OkP 53) ⟨(PuOK.ok (ok_ifnonnull dJ25_successor_1 rfl)), m_ifnonnull⟩ (
  lkp_c (P := OkP 53) ⟨(PuOK.ok (ok_null dJ25_successor_4)), m_push⟩ (
  lkp_c (P := OkP 53) ⟨ok_aret rfl (Or.inl ⟨_, rfl⟩) dJ25_successor_5, m_ret⟩ (
  lkp_c (P := OkP 53) ⟨(PuOK.ok (ok_aload_n dJ25_successor_6 rfl)), m_aload⟩ (
  lkp_c (P := OkP 53) ⟨ok_get ⟨"java/util/TreeMap$Entry", q2304, Or.inl rfl⟩ dJ25_successor_7, m_get⟩ (
  lkp_c (P := OkP 53) ⟨(PuOK.ok (ok_ifnull dJ25_successor_10 rfl)), m_ifnull⟩ (
  lkp_c (P := OkP 53) ⟨(PuOK.ok (ok_aload_n dJ25_successor_13 rfl)), m_aload⟩ (
  lkp_c (P := OkP 53) ⟨ok_get ⟨"java/util/TreeMap$Entry", q2304, Or.inl rfl⟩ dJ25_successor_14, m_get⟩ (
  lkp_c (P := OkP 53) ⟨(PuOK.ok (ok_astore_n dJ25_successor_17 rfl)), m_astore⟩ (
  lkp_c (P := OkP 53) ⟨(PuOK.ok (ok_aload_n dJ25_successor_18 rfl)), m_aload⟩ (
  lkp_c (P := OkP 53) ⟨ok_get ⟨"java/util/TreeMap$Entry", q2303, Or.inl rfl⟩ dJ25_successor_19, m_get⟩ (
  lkp_c (P := OkP 53) ⟨(PuOK.ok (ok_ifnull dJ25_successor_22 rfl)), m_ifnull⟩ (
  lkp_c (P := OkP 53) ⟨(PuOK.ok (ok_aload_n dJ25_successor_25 rfl)), m_aload⟩ (
  lkp_c (P := OkP 53) ⟨ok_get ⟨"java/util/TreeMap$Entry", q2303, Or.inl rfl⟩ dJ25_successor_26, m_get⟩ (
  lkp_c (P := OkP 53) ⟨(PuOK.ok (ok_astore_n dJ25_successor_29 rfl)), m_astore⟩ (
  lkp_c (P := OkP 53) ⟨(PuOK.ok (ok_goto dJ25_successor_30 rfl)), m_goto⟩ (
  lkp_c (P := OkP 53) ⟨(PuOK.ok (ok_aload_n dJ25_successor_33 rfl)), m_aload⟩ (
  lkp_c (P := OkP 53) ⟨ok_aret rfl (Or.inl ⟨_, rfl⟩) dJ25_successor_34, m_ret⟩ (
  lkp_c (P := OkP 53) ⟨(PuOK.ok (ok_aload_n dJ25_successor_35 rfl)), m_aload⟩ (
  lkp_c (P := OkP 53) ⟨ok_get ⟨"java/util/TreeMap$Entry", q2306, Or.inl rfl⟩ dJ25_successor_36, m_get⟩ (
  lkp_c (P := OkP 53) ⟨(PuOK.ok (ok_astore_n dJ25_successor_39 rfl)), m_astore⟩ (
  lkp_c (P := OkP 53) ⟨(PuOK.ok (ok_aload_n dJ25_successor_40 rfl)), m_aload⟩ (
  lkp_c (P := OkP 53) ⟨(PuOK.ok (ok_astore_n dJ25_successor_41 rfl)), m_astore⟩ (
  lkp_c (P := OkP 53) ⟨(PuOK.ok (ok_aload_n dJ25_successor_42 rfl)), m_aload⟩ (
  lkp_c (P := OkP 53) ⟨(PuOK.ok (ok_ifnull dJ25_successor_43 rfl)), m_ifnull⟩ (
  lkp_c (P := OkP 53) ⟨(PuOK.ok (ok_aload_n dJ25_successor_46 rfl)), m_aload⟩ (
  lkp_c (P := OkP 53) ⟨(PuOK.ok (ok_aload_n dJ25_successor_47 rfl)), m_aload⟩ (
  lkp_c (P := OkP 53) ⟨ok_get ⟨"java/util/TreeMap$Entry", q2304, Or.inl rfl⟩ dJ25_successor_48, m_get⟩ (
  lkp_c (P := OkP 53) ⟨(PuOK.ok (ok_acmp_ne dJ25_successor_51 rfl)), m_acmp⟩ (
  lkp_c (P := OkP 53) ⟨(PuOK.ok (ok_aload_n dJ25_successor_54 rfl)), m_aload⟩ (
  lkp_c (P := OkP 53) ⟨(PuOK.ok (ok_astore_n dJ25_successor_55 rfl)), m_astore⟩ (
  lkp_c (P := OkP 53) ⟨(PuOK.ok (ok_aload_n dJ25_successor_56 rfl)), m_aload⟩ (
  lkp_c (P := OkP 53) ⟨ok_get ⟨"java/util/TreeMap$Entry", q2306, Or.inl rfl⟩ dJ25_successor_57, m_get⟩ (
  lkp_c (P := OkP 53) ⟨(PuOK.ok (ok_astore_n dJ25_successor_60 rfl)), m_astore⟩ (
  lkp_c (P := OkP 53) ⟨(PuOK.ok (ok_goto dJ25_successor_61 rfl)), m_goto⟩ (
  trivial))))))))))))))))))))))))))))))))))))
theorem c_53_1 : LkP (OkP 53) [(64, o_aload 1 1), (65, o_ret 0)] := lkp_c (P := OkP 53) ⟨(PuOK.ok (ok_aload_n dJ25_successor_64 rfl)), m_aload⟩ (
  lkp_c (P := OkP 53) ⟨ok_aret rfl (Or.inl ⟨_, rfl⟩) dJ25_successor_65, m_ret⟩ (
  trivial))
theorem mt_53 : MtOK TB NT IT 53 := ⟨by decide +kernel, rfl, (fun h => by cases h), Or.inl ⟨rfl, rfl⟩, rfl, by decide, lk2_all (P := OkP 53) ⟨c_53_0, c_53_1, trivial⟩⟩
def dkwJ25_init_0 : List UInt8 := [42, 183, 0, 1, 42, 3, 181, 0, 7, 42, 3, 181, 0, 13, 42, 1, 181, 0, 16, 177]
abbrev dktJ25_init_0 : List UInt8 := dkwJ25_init_0 ++ []
theorem dksJ25_init_0 : cJ25_init.data.toList.drop 0 = dktJ25_init_0 := by decide +kernel
theorem dJ25_init_0 : decode cJ25_init 0 = .ok (.aload_n 0, 1) := dk_42 (dk_at dksJ25_init_0 0 rfl rfl)
theorem dJ25_init_1 : decode cJ25_init 1 = .ok (.invokespecial 1, 3) := dk_183 0 1 (dk_at dksJ25_init_0 1 rfl rfl)
theorem dJ25_init_4 : decode cJ25_init 4 = .ok (.aload_n 0, 1) := dk_42 (dk_at dksJ25_init_0 4 rfl rfl)
theorem dJ25_init_5 : decode cJ25_init 5 = .ok (.iconst 0, 1) := dk_3 (dk_at dksJ25_init_0 5 rfl rfl)
theorem dJ25_init_6 : decode cJ25_init 6 = .ok (.putfield 7, 3) := dk_181 0 7 (dk_at dksJ25_init_0 6 rfl rfl)
theorem dJ25_init_9 : decode cJ25_init 9 = .ok (.aload_n 0, 1) := dk_42 (dk_at dksJ25_init_0 9 rfl rfl)
theorem dJ25_init_10 : decode cJ25_init 10 = .ok (.iconst 0, 1) := dk_3 (dk_at dksJ25_init_0 10 rfl rfl)
theorem dJ25_init_11 : decode cJ25_init 11 = .ok (.putfield 13, 3) := dk_181 0 13 (dk_at dksJ25_init_0 11 rfl rfl)
theorem dJ25_init_14 : decode cJ25_init 14 = .ok (.aload_n 0, 1) := dk_42 (dk_at dksJ25_init_0 14 rfl rfl)
theorem dJ25_init_15 : decode cJ25_init 15 = .ok (.aconst_null, 1) := dk_1 (dk_at dksJ25_init_0 15 rfl rfl)
theorem dJ25_init_16 : decode cJ25_init 16 = .ok (.putfield 16, 3) := dk_181 0 16 (dk_at dksJ25_init_0 16 rfl rfl)
theorem dJ25_init_19 : decode cJ25_init 19 = .ok (.return_, 1) := dk_177 (dk_at dksJ25_init_0 19 rfl rfl)
theorem c_54_0 : LkP (OkP 54) [(0, o_aload 0 1), (1, o_ci 27 0), (4, o_aload 0 1), (5, o_push 1 (.int 0)), (6, o_put 104 1), (9, o_aload 0 1), (10, o_push 1 (.int 0)), (11, o_put 105 1), (14, o_aload 0 1), (15, o_push 1 .null), (16, o_put 102 0), (19, o_vret)] := lkp_c (P := OkP 54) ⟨(PuOK.ok (ok_aload_n dJ25_init_0 rfl)), m_aload⟩ (
  lkp_c (P := OkP 54) ⟨ok_ci (tg_I (rt := none) ⟨rfl, by decide⟩ rfl q2229 q594 q137 q595 ⟨cn_8.1, cn_8.2, pd_0⟩ dJ25_init_1) hd_no, m_ci⟩ (
  lkp_c (P := OkP 54) ⟨(PuOK.ok (ok_aload_n dJ25_init_4 rfl)), m_aload⟩ (
  lkp_c (P := OkP 54) ⟨(PuOK.ok (ok_iconst dJ25_init_5 rfl)), m_push⟩ (
  lkp_c (P := OkP 54) ⟨ok_put ⟨"java/util/TreeMap", q2232, Or.inl rfl⟩ rfl fd_104 rfl dJ25_init_6, m_put⟩ (
  lkp_c (P := OkP 54) ⟨(PuOK.ok (ok_aload_n dJ25_init_9 rfl)), m_aload⟩ (
  lkp_c (P := OkP 54) ⟨(PuOK.ok (ok_iconst dJ25_init_10 rfl)), m_push⟩ (
  lkp_c (P := OkP 54) ⟨ok_put ⟨"java/util/TreeMap", q2233, Or.inl rfl⟩ rfl fd_105 rfl dJ25_init_11, m_put⟩ (
  lkp_c (P := OkP 54) ⟨(PuOK.ok (ok_aload_n dJ25_init_14 rfl)), m_aload⟩ (
  lkp_c (P := OkP 54) ⟨(PuOK.ok (ok_null dJ25_init_15)), m_push⟩ (
  lkp_c (P := OkP 54) ⟨ok_putF q2230 rfl rfl rfl fd_102 rfl dJ25_init_16, m_put⟩ (
  lkp_c (P := OkP 54) ⟨ok_vret rfl dJ25_init_19, m_vret⟩ (
  trivial))))))))))))
theorem mt_54 : MtOK TB NT IT 54 := ⟨by decide +kernel, rfl, fun _ => rfl, Or.inl ⟨rfl, rfl⟩, rfl, by decide, lk2_all (P := OkP 54) ⟨c_54_0, trivial⟩⟩
def dkwJ25_put_0 : List UInt8 := [42, 43, 44, 4, 182, 0, 127, 176]
abbrev dktJ25_put_0 : List UInt8 := dkwJ25_put_0 ++ []
theorem dksJ25_put_0 : cJ25_put.data.toList.drop 0 = dktJ25_put_0 := by decide +kernel
theorem dJ25_put_0 : decode cJ25_put 0 = .ok (.aload_n 0, 1) := dk_42 (dk_at dksJ25_put_0 0 rfl rfl)
theorem dJ25_put_1 : decode cJ25_put 1 = .ok (.aload_n 1, 1) := dk_43 (dk_at dksJ25_put_0 1 rfl rfl)
theorem dJ25_put_2 : decode cJ25_put 2 = .ok (.aload_n 2, 1) := dk_44 (dk_at dksJ25_put_0 2 rfl rfl)
theorem dJ25_put_3 : decode cJ25_put 3 = .ok (.iconst 1, 1) := dk_4 (dk_at dksJ25_put_0 3 rfl rfl)
theorem dJ25_put_4 : decode cJ25_put 4 = .ok (.invokevirtual 127, 3) := dk_182 0 127 (dk_at dksJ25_put_0 4 rfl rfl)
theorem dJ25_put_7 : decode cJ25_put 7 = .ok (.areturn, 1) := dk_176 (dk_at dksJ25_put_0 7 rfl rfl)
theorem c_55_0 : LkP (OkP 55) [(0, o_aload 0 1), (1, o_aload 1 1), (2, o_aload 2 1), (3, o_push 1 (.int 1)), (4, o_cv [(20, 56)] 3 3 false none), (7, o_ret 0)] := lkp_c (P := OkP 55) ⟨(PuOK.ok (ok_aload_n dJ25_put_0 rfl)), m_aload⟩ (
  lkp_c (P := OkP 55) ⟨(PuOK.ok (ok_aload_n dJ25_put_1 rfl)), m_aload⟩ (
  lkp_c (P := OkP 55) ⟨(PuOK.ok (ok_aload_n dJ25_put_2 rfl)), m_aload⟩ (
  lkp_c (P := OkP 55) ⟨(PuOK.ok (ok_iconst dJ25_put_3 rfl)), m_push⟩ (
  lkp_c (P := OkP 55) ⟨ok_cv (List.forall_mem_cons.mpr ⟨tg_V (ci := 20) (r := CLr 20) (y := 56) rfl ⟨rfl, by decide⟩ rfl q2275 q2277 qs26 q152 q2278 ⟨cn_17.1, cn_17.2, pd_28⟩ dJ25_put_4, (List.forall_mem_nil _)⟩) hd_no, m_cv⟩ (
  lkp_c (P := OkP 55) ⟨ok_aret rfl (Or.inl ⟨_, rfl⟩) dJ25_put_7, m_ret⟩ (
  trivial))))))
theorem mt_55 : MtOK TB NT IT 55 := ⟨by decide +kernel, rfl, (fun h => by cases h), Or.inl ⟨rfl, rfl⟩, rfl, by decide, lk2_all (P := OkP 55) ⟨c_55_0, trivial⟩⟩
def dkwJ25_put_2_9 : List UInt8 := [4, 167, 0, 4, 3, 182, 0, 139, 1, 176]
abbrev dktJ25_put_2_9 : List UInt8 := dkwJ25_put_2_9 ++ []
def dkwJ25_put_2_8 : List UInt8 := [25, 4, 44, 181, 0, 58, 25, 9, 176, 25, 4, 199, 255, 181, 42, 43, 44, 25, 6, 21, 5, 156, 0, 7]
abbrev dktJ25_put_2_8 : List UInt8 := dkwJ25_put_2_8 ++ dktJ25_put_2_9
def dkwJ25_put_2_7 : List UInt8 := [180, 0, 114, 58, 4, 167, 0, 28, 25, 4, 180, 0, 58, 58, 9, 29, 154, 0, 8, 25, 9, 199, 0, 9]
abbrev dktJ25_put_2_7 : List UInt8 := dkwJ25_put_2_7 ++ dktJ25_put_2_8
def dkwJ25_put_2_6 : List UInt8 := [21, 5, 156, 0, 13, 25, 4, 180, 0, 111, 58, 4, 167, 0, 43, 21, 5, 158, 0, 13, 25, 4]
abbrev dktJ25_put_2_6 : List UInt8 := dkwJ25_put_2_6 ++ dktJ25_put_2_7
def dkwJ25_put_2_5 : List UInt8 := [192, 0, 99, 58, 8, 25, 4, 58, 6, 25, 8, 25, 4, 180, 0, 105, 185, 0, 107, 2, 0, 54, 5]
abbrev dktJ25_put_2_5 : List UInt8 := dkwJ25_put_2_5 ++ dktJ25_put_2_6
def dkwJ25_put_2_4 : List UInt8 := [25, 4, 44, 181, 0, 58, 25, 8, 176, 25, 4, 199, 255, 180, 167, 0, 92, 43, 184, 0, 95, 87, 43]
abbrev dktJ25_put_2_4 : List UInt8 := dkwJ25_put_2_4 ++ dktJ25_put_2_5
def dkwJ25_put_2_3 : List UInt8 := [180, 0, 114, 58, 4, 167, 0, 28, 25, 4, 180, 0, 58, 58, 8, 29, 154, 0, 8, 25, 8, 199, 0, 9]
abbrev dktJ25_put_2_3 : List UInt8 := dkwJ25_put_2_3 ++ dktJ25_put_2_4
def dkwJ25_put_2_2 : List UInt8 := [54, 5, 21, 5, 156, 0, 13, 25, 4, 180, 0, 111, 58, 4, 167, 0, 43, 21, 5, 158, 0, 13, 25, 4]
abbrev dktJ25_put_2_2 : List UInt8 := dkwJ25_put_2_2 ++ dktJ25_put_2_3
def dkwJ25_put_2_1 : List UInt8 := [58, 7, 25, 7, 198, 0, 85, 25, 4, 58, 6, 25, 7, 43, 25, 4, 180, 0, 105, 185, 0, 117, 3, 0]
abbrev dktJ25_put_2_1 : List UInt8 := dkwJ25_put_2_1 ++ dktJ25_put_2_2
def dkwJ25_put_2_0 : List UInt8 := [42, 180, 0, 101, 58, 4, 25, 4, 199, 0, 11, 42, 43, 44, 182, 0, 135, 1, 176, 42, 180, 0, 16]
abbrev dktJ25_put_2_0 : List UInt8 := dkwJ25_put_2_0 ++ dktJ25_put_2_1
theorem dksJ25_put_2_0 : cJ25_put_2.data.toList.drop 0 = dktJ25_put_2_0 := by decide +kernel
theorem dksJ25_put_2_1 : cJ25_put_2.data.toList.drop 23 = dktJ25_put_2_1 := dk_seg dksJ25_put_2_0 23 rfl rfl
theorem dksJ25_put_2_2 : cJ25_put_2.data.toList.drop 47 = dktJ25_put_2_2 := dk_seg dksJ25_put_2_1 24 rfl rfl
theorem dksJ25_put_2_3 : cJ25_put_2.data.toList.drop 71 = dktJ25_put_2_3 := dk_seg dksJ25_put_2_2 24 rfl rfl
theorem dksJ25_put_2_4 : cJ25_put_2.data.toList.drop 95 = dktJ25_put_2_4 := dk_seg dksJ25_put_2_3 24 rfl rfl
theorem dksJ25_put_2_5 : cJ25_put_2.data.toList.drop 118 = dktJ25_put_2_5 := dk_seg dksJ25_put_2_4 23 rfl rfl
theorem dksJ25_put_2_6 : cJ25_put_2.data.toList.drop 141 = dktJ25_put_2_6 := dk_seg dksJ25_put_2_5 23 rfl rfl
theorem dksJ25_put_2_7 : cJ25_put_2.data.toList.drop 163 = dktJ25_put_2_7 := dk_seg dksJ25_put_2_6 22 rfl rfl
theorem dksJ25_put_2_8 : cJ25_put_2.data.toList.drop 187 = dktJ25_put_2_8 := dk_seg dksJ25_put_2_7 24 rfl rfl
theorem dksJ25_put_2_9 : cJ25_put_2.data.toList.drop 211 = dktJ25_put_2_9 := dk_seg dksJ25_put_2_8 24 rfl rfl
theorem dJ25_put_2_0 : decode cJ25_put_2 0 = .ok (.aload_n 0, 1) := dk_42 (dk_at dksJ25_put_2_0 0 rfl rfl)
theorem dJ25_put_2_1 : decode cJ25_put_2 1 = .ok (.getfield 101, 3) := dk_180 0 101 (dk_at dksJ25_put_2_0 1 rfl rfl)
theorem dJ25_put_2_4 : decode cJ25_put_2 4 = .ok (.astore 4, 2) := dk_58 4 (dk_at dksJ25_put_2_0 4 rfl rfl)
theorem dJ25_put_2_6 : decode cJ25_put_2 6 = .ok (.aload 4, 2) := dk_25 4 (dk_at dksJ25_put_2_0 6 rfl rfl)
theorem dJ25_put_2_8 : decode cJ25_put_2 8 = .ok (.ifnonnull 11, 3) := dk_199 0 11 (dk_at dksJ25_put_2_0 8 rfl rfl)
theorem dJ25_put_2_11 : decode cJ25_put_2 11 = .ok (.aload_n 0, 1) := dk_42 (dk_at dksJ25_put_2_0 11 rfl rfl)
theorem dJ25_put_2_12 : decode cJ25_put_2 12 = .ok (.aload_n 1, 1) := dk_43 (dk_at dksJ25_put_2_0 12 rfl rfl)
theorem dJ25_put_2_13 : decode cJ25_put_2 13 = .ok (.aload_n 2, 1) := dk_44 (dk_at dksJ25_put_2_0 13 rfl rfl)
theorem dJ25_put_2_14 : decode cJ25_put_2 14 = .ok (.invokevirtual 135, 3) := dk_182 0 135 (dk_at dksJ25_put_2_0 14 rfl rfl)
theorem dJ25_put_2_17 : decode cJ25_put_2 17 = .ok (.aconst_null, 1) := dk_1 (dk_at dksJ25_put_2_0 17 rfl rfl)
theorem dJ25_put_2_18 : decode cJ25_put_2 18 = .ok (.areturn, 1) := dk_176 (dk_at dksJ25_put_2_0 18 rfl rfl)
theorem dJ25_put_2_19 : decode cJ25_put_2 19 = .ok (.aload_n 0, 1) := dk_42 (dk_at dksJ25_put_2_0 19 rfl rfl)
theorem dJ25_put_2_20 : decode cJ25_put_2 20 = .ok (.getfield 16, 3) := dk_180 0 16 (dk_at dksJ25_put_2_0 20 rfl rfl)
theorem dJ25_put_2_23 : decode cJ25_put_2 23 = .ok (.astore 7, 2) := dk_58 7 (dk_at dksJ25_put_2_1 0 rfl rfl)
theorem dJ25_put_2_25 : decode cJ25_put_2 25 = .ok (.aload 7, 2) := dk_25 7 (dk_at dksJ25_put_2_1 2 rfl rfl)
theorem dJ25_put_2_27 : decode cJ25_put_2 27 = .ok (.ifnull 85, 3) := dk_198 0 85 (dk_at dksJ25_put_2_1 4 rfl rfl)
theorem dJ25_put_2_30 : decode cJ25_put_2 30 = .ok (.aload 4, 2) := dk_25 4 (dk_at dksJ25_put_2_1 7 rfl rfl)
theorem dJ25_put_2_32 : decode cJ25_put_2 32 = .ok (.astore 6, 2) := dk_58 6 (dk_at dksJ25_put_2_1 9 rfl rfl)
theorem dJ25_put_2_34 : decode cJ25_put_2 34 = .ok (.aload 7, 2) := dk_25 7 (dk_at dksJ25_put_2_1 11 rfl rfl)
theorem dJ25_put_2_36 : decode cJ25_put_2 36 = .ok (.aload_n 1, 1) := dk_43 (dk_at dksJ25_put_2_1 13 rfl rfl)
theorem dJ25_put_2_37 : decode cJ25_put_2 37 = .ok (.aload 4, 2) := dk_25 4 (dk_at dksJ25_put_2_1 14 rfl rfl)
theorem dJ25_put_2_39 : decode cJ25_put_2 39 = .ok (.getfield 105, 3) := dk_180 0 105 (dk_at dksJ25_put_2_1 16 rfl rfl)
theorem dJ25_put_2_42 : decode cJ25_put_2 42 = .ok (.invokeinterface 117 3, 5) := by decide +kernel
theorem dJ25_put_2_47 : decode cJ25_put_2 47 = .ok (.istore 5, 2) := dk_54 5 (dk_at dksJ25_put_2_2 0 rfl rfl)
theorem dJ25_put_2_49 : decode cJ25_put_2 49 = .ok (.iload 5, 2) := dk_21 5 (dk_at dksJ25_put_2_2 2 rfl rfl)
theorem dJ25_put_2_51 : decode cJ25_put_2 51 = .ok (.ifCond .ge 13, 3) := dk_156 0 13 (dk_at dksJ25_put_2_2 4 rfl rfl)
theorem dJ25_put_2_54 : decode cJ25_put_2 54 = .ok (.aload 4, 2) := dk_25 4 (dk_at dksJ25_put_2_2 7 rfl rfl)
theorem dJ25_put_2_56 : decode cJ25_put_2 56 = .ok (.getfield 111, 3) := dk_180 0 111 (dk_at dksJ25_put_2_2 9 rfl rfl)
theorem dJ25_put_2_59 : decode cJ25_put_2 59 = .ok (.astore 4, 2) := dk_58 4 (dk_at dksJ25_put_2_2 12 rfl rfl)
theorem dJ25_put_2_61 : decode cJ25_put_2 61 = .ok (.goto 43, 3) := dk_167 0 43 (dk_at dksJ25_put_2_2 14 rfl rfl)
theorem dJ25_put_2_64 : decode cJ25_put_2 64 = .ok (.iload 5, 2) := dk_21 5 (dk_at dksJ25_put_2_2 17 rfl rfl)
theorem dJ25_put_2_66 : decode cJ25_put_2 66 = .ok (.ifCond .le 13, 3) := dk_158 0 13 (dk_at dksJ25_put_2_2 19 rfl rfl)
theorem dJ25_put_2_69 : decode cJ25_put_2 69 = .ok (.aload 4, 2) := dk_25 4 (dk_at dksJ25_put_2_2 22 rfl rfl)
theorem dJ25_put_2_71 : decode cJ25_put_2 71 = .ok (.getfield 114, 3) := dk_180 0 114 (dk_at dksJ25_put_2_3 0 rfl rfl)
theorem dJ25_put_2_74 : decode cJ25_put_2 74 = .ok (.astore 4, 2) := dk_58 4 (dk_at dksJ25_put_2_3 3 rfl rfl)
theorem dJ25_put_2_76 : decode cJ25_put_2 76 = .ok (.goto 28, 3) := dk_167 0 28 (dk_at dksJ25_put_2_3 5 rfl rfl)
theorem dJ25_put_2_79 : decode cJ25_put_2 79 = .ok (.aload 4, 2) := dk_25 4 (dk_at dksJ25_put_2_3 8 rfl rfl)
theorem dJ25_put_2_81 : decode cJ25_put_2 81 = .ok (.getfield 58, 3) := dk_180 0 58 (dk_at dksJ25_put_2_3 10 rfl rfl)
theorem dJ25_put_2_84 : decode cJ25_put_2 84 = .ok (.astore 8, 2) := dk_58 8 (dk_at dksJ25_put_2_3 13 rfl rfl)
theorem dJ25_put_2_86 : decode cJ25_put_2 86 = .ok (.iload_n 3, 1) := dk_29 (dk_at dksJ25_put_2_3 15 rfl rfl)
theorem dJ25_put_2_87 : decode cJ25_put_2 87 = .ok (.ifCond .ne 8, 3) := dk_154 0 8 (dk_at dksJ25_put_2_3 16 rfl rfl)
theorem dJ25_put_2_90 : decode cJ25_put_2 90 = .ok (.aload 8, 2) := dk_25 8 (dk_at dksJ25_put_2_3 19 rfl rfl)
theorem dJ25_put_2_92 : decode cJ25_put_2 92 = .ok (.ifnonnull 9, 3) := dk_199 0 9 (dk_at dksJ25_put_2_3 21 rfl rfl)
theorem dJ25_put_2_95 : decode cJ25_put_2 95 = .ok (.aload 4, 2) := dk_25 4 (dk_at dksJ25_put_2_4 0 rfl rfl)
theorem dJ25_put_2_97 : decode cJ25_put_2 97 = .ok (.aload_n 2, 1) := dk_44 (dk_at dksJ25_put_2_4 2 rfl rfl)
theorem dJ25_put_2_98 : decode cJ25_put_2 98 = .ok (.putfield 58, 3) := dk_181 0 58 (dk_at dksJ25_put_2_4 3 rfl rfl)
theorem dJ25_put_2_101 : decode cJ25_put_2 101 = .ok (.aload 8, 2) := dk_25 8 (dk_at dksJ25_put_2_4 6 rfl rfl)
theorem dJ25_put_2_103 : decode cJ25_put_2 103 = .ok (.areturn, 1) := dk_176 (dk_at dksJ25_put_2_4 8 rfl rfl)
theorem dJ25_put_2_104 : decode cJ25_put_2 104 = .ok (.aload 4, 2) := dk_25 4 (dk_at dksJ25_put_2_4 9 rfl rfl)
theorem dJ25_put_2_106 : decode cJ25_put_2 106 = .ok (.ifnonnull (-76), 3) := dk_199 255 180 (dk_at dksJ25_put_2_4 11 rfl rfl)
theorem dJ25_put_2_109 : decode cJ25_put_2 109 = .ok (.goto 92, 3) := dk_167 0 92 (dk_at dksJ25_put_2_4 14 rfl rfl)
theorem dJ25_put_2_112 : decode cJ25_put_2 112 = .ok (.aload_n 1, 1) := dk_43 (dk_at dksJ25_put_2_4 17 rfl rfl)
theorem dJ25_put_2_113 : decode cJ25_put_2 113 = .ok (.invokestatic 95, 3) := dk_184 0 95 (dk_at dksJ25_put_2_4 18 rfl rfl)
theorem dJ25_put_2_116 : decode cJ25_put_2 116 = .ok (.pop, 1) := dk_87 (dk_at dksJ25_put_2_4 21 rfl rfl)
theorem dJ25_put_2_117 : decode cJ25_put_2 117 = .ok (.aload_n 1, 1) := dk_43 (dk_at dksJ25_put_2_4 22 rfl rfl)
theorem dJ25_put_2_118 : decode cJ25_put_2 118 = .ok (.checkcast 99, 3) := dk_192 0 99 (dk_at dksJ25_put_2_5 0 rfl rfl)
theorem dJ25_put_2_121 : decode cJ25_put_2 121 = .ok (.astore 8, 2) := dk_58 8 (dk_at dksJ25_put_2_5 3 rfl rfl)
theorem dJ25_put_2_123 : decode cJ25_put_2 123 = .ok (.aload 4, 2) := dk_25 4 (dk_at dksJ25_put_2_5 5 rfl rfl)
theorem dJ25_put_2_125 : decode cJ25_put_2 125 = .ok (.astore 6, 2) := dk_58 6 (dk_at dksJ25_put_2_5 7 rfl rfl)
theorem dJ25_put_2_127 : decode cJ25_put_2 127 = .ok (.aload 8, 2) := dk_25 8 (dk_at dksJ25_put_2_5 9 rfl rfl)
theorem dJ25_put_2_129 : decode cJ25_put_2 129 = .ok (.aload 4, 2) := dk_25 4 (dk_at dksJ25_put_2_5 11 rfl rfl)
theorem dJ25_put_2_131 : decode cJ25_put_2 131 = .ok (.getfield 105, 3) := dk_180 0 105 (dk_at dksJ25_put_2_5 13 rfl rfl)
theorem dJ25_put_2_134 : decode cJ25_put_2 134 = .ok (.invokeinterface 107 2, 5) := by decide +kernel
theorem dJ25_put_2_139 : decode cJ25_put_2 139 = .ok (.istore 5, 2) := dk_54 5 (dk_at dksJ25_put_2_5 21 rfl rfl)
theorem dJ25_put_2_141 : decode cJ25_put_2 141 = .ok (.iload 5, 2) := dk_21 5 (dk_at dksJ25_put_2_6 0 rfl rfl)
theorem dJ25_put_2_143 : decode cJ25_put_2 143 = .ok (.ifCond .ge 13, 3) := dk_156 0 13 (dk_at dksJ25_put_2_6 2 rfl rfl)
theorem dJ25_put_2_146 : decode cJ25_put_2 146 = .ok (.aload 4, 2) := dk_25 4 (dk_at dksJ25_put_2_6 5 rfl rfl)
theorem dJ25_put_2_148 : decode cJ25_put_2 148 = .ok (.getfield 111, 3) := dk_180 0 111 (dk_at dksJ25_put_2_6 7 rfl rfl)
theorem dJ25_put_2_151 : decode cJ25_put_2 151 = .ok (.astore 4, 2) := dk_58 4 (dk_at dksJ25_put_2_6 10 rfl rfl)
theorem dJ25_put_2_153 : decode cJ25_put_2 153 = .ok (.goto 43, 3) := dk_167 0 43 (dk_at dksJ25_put_2_6 12 rfl rfl)
theorem dJ25_put_2_156 : decode cJ25_put_2 156 = .ok (.iload 5, 2) := dk_21 5 (dk_at dksJ25_put_2_6 15 rfl rfl)
theorem dJ25_put_2_158 : decode cJ25_put_2 158 = .ok (.ifCond .le 13, 3) := dk_158 0 13 (dk_at dksJ25_put_2_6 17 rfl rfl)
theorem dJ25_put_2_161 : decode cJ25_put_2 161 = .ok (.aload 4, 2) := dk_25 4 (dk_at dksJ25_put_2_6 20 rfl rfl)
theorem dJ25_put_2_163 : decode cJ25_put_2 163 = .ok (.getfield 114, 3) := dk_180 0 114 (dk_at dksJ25_put_2_7 0 rfl rfl)
theorem dJ25_put_2_166 : decode cJ25_put_2 166 = .ok (.astore 4, 2) := dk_58 4 (dk_at dksJ25_put_2_7 3 rfl rfl)
theorem dJ25_put_2_168 : decode cJ25_put_2 168 = .ok (.goto 28, 3) := dk_167 0 28 (dk_at dksJ25_put_2_7 5 rfl rfl)
theorem dJ25_put_2_171 : decode cJ25_put_2 171 = .ok (.aload 4, 2) := dk_25 4 (dk_at dksJ25_put_2_7 8 rfl rfl)
theorem dJ25_put_2_173 : decode cJ25_put_2 173 = .ok (.getfield 58, 3) := dk_180 0 58 (dk_at dksJ25_put_2_7 10 rfl rfl)
theorem dJ25_put_2_176 : decode cJ25_put_2 176 = .ok (.astore 9, 2) := dk_58 9 (dk_at dksJ25_put_2_7 13 rfl rfl)
theorem dJ25_put_2_178 : decode cJ25_put_2 178 = .ok (.iload_n 3, 1) := dk_29 (dk_at dksJ25_put_2_7 15 rfl rfl)
theorem dJ25_put_2_179 : decode cJ25_put_2 179 = .ok (.ifCond .ne 8, 3) := dk_154 0 8 (dk_at dksJ25_put_2_7 16 rfl rfl)
theorem dJ25_put_2_182 : decode cJ25_put_2 182 = .ok (.aload 9, 2) := dk_25 9 (dk_at dksJ25_put_2_7 19 rfl rfl)
theorem dJ25_put_2_184 : decode cJ25_put_2 184 = .ok (.ifnonnull 9, 3) := dk_199 0 9 (dk_at dksJ25_put_2_7 21 rfl rfl)
theorem dJ25_put_2_187 : decode cJ25_put_2 187 = .ok (.aload 4, 2) := dk_25 4 (dk_at dksJ25_put_2_8 0 rfl rfl)
theorem dJ25_put_2_189 : decode cJ25_put_2 189 = .ok (.aload_n 2, 1) := dk_44 (dk_at dksJ25_put_2_8 2 rfl rfl)
theorem dJ25_put_2_190 : decode cJ25_put_2 190 = .ok (.putfield 58, 3) := dk_181 0 58 (dk_at dksJ25_put_2_8 3 rfl rfl)
theorem dJ25_put_2_193 : decode cJ25_put_2 193 = .ok (.aload 9, 2) := dk_25 9 (dk_at dksJ25_put_2_8 6 rfl rfl)
theorem dJ25_put_2_195 : decode cJ25_put_2 195 = .ok (.areturn, 1) := dk_176 (dk_at dksJ25_put_2_8 8 rfl rfl)
theorem dJ25_put_2_196 : decode cJ25_put_2 196 = .ok (.aload 4, 2) := dk_25 4 (dk_at dksJ25_put_2_8 9 rfl rfl)
theorem dJ25_put_2_198 : decode cJ25_put_2 198 = .ok (.ifnonnull (-75), 3) := dk_199 255 181 (dk_at dksJ25_put_2_8 11 rfl rfl)
theorem dJ25_put_2_201 : decode cJ25_put_2 201 = .ok (.aload_n 0, 1) := dk_42 (dk_at dksJ25_put_2_8 14 rfl rfl)
theorem dJ25_put_2_202 : decode cJ25_put_2 202 = .ok (.aload_n 1, 1) := dk_43 (dk_at dksJ25_put_2_8 15 rfl rfl)
theorem dJ25_put_2_203 : decode cJ25_put_2 203 = .ok (.aload_n 2, 1) := dk_44 (dk_at dksJ25_put_2_8 16 rfl rfl)
theorem dJ25_put_2_204 : decode cJ25_put_2 204 = .ok (.aload 6, 2) := dk_25 6 (dk_at dksJ25_put_2_8 17 rfl rfl)
theorem dJ25_put_2_206 : decode cJ25_put_2 206 = .ok (.iload 5, 2) := dk_21 5 (dk_at dksJ25_put_2_8 19 rfl rfl)
theorem dJ25_put_2_208 : decode cJ25_put_2 208 = .ok (.ifCond .ge 7, 3) := dk_156 0 7 (dk_at dksJ25_put_2_8 21 rfl rfl)
theorem dJ25_put_2_211 : decode cJ25_put_2 211 = .ok (.iconst 1, 1) := dk_4 (dk_at dksJ25_put_2_9 0 rfl rfl)
theorem dJ25_put_2_212 : decode cJ25_put_2 212 = .ok (.goto 4, 3) := dk_167 0 4 (dk_at dksJ25_put_2_9 1 rfl rfl)
theorem dJ25_put_2_215 : decode cJ25_put_2 215 = .ok (.iconst 0, 1) := dk_3 (dk_at dksJ25_put_2_9 4 rfl rfl)
theorem dJ25_put_2_216 : decode cJ25_put_2 216 = .ok (.invokevirtual 139, 3) := dk_182 0 139 (dk_at dksJ25_put_2_9 5 rfl rfl)
theorem dJ25_put_2_219 : decode cJ25_put_2 219 = .ok (.aconst_null, 1) := dk_1 (dk_at dksJ25_put_2_9 8 rfl rfl)
theorem dJ25_put_2_220 : decode cJ25_put_2 220 = .ok (.areturn, 1) := dk_176 (dk_at dksJ25_put_2_9 9 rfl rfl)
theorem c_56_0 : LkP (OkP 56) [(0, o_aload 0 1), (1, o_get 103), (4, o_astore 4 2), (6, o_aload 4 2), (8, o_ifnonnull 19), (11, o_aload 0 1), (12, o_aload 1 1), (13, o_aload 2 1), (14, o_cv [(20, 57)] 2 3 true none), (17, o_push 1 .null), (18, o_ret 0), (19, o_aload 0 1), (20, o_get 102), (23, o_astore 7 2), (25, o_aload 7 2), (27, o_ifnull 112), (30, o_aload 4 2), (32, o_astore 6 2), (34, o_aload 7 2), (36, o_aload 1 1), (37, o_aload 4 2), (39, o_get 110), (42, o_cv [(19, 239)] 2 5 false none), (47, o_istore 5 2), (49, o_iload 5 2), (51, o_if (fun x => decide (0 ≤ x)) 64), (54, o_aload 4 2), (56, o_get 112), (59, o_astore 4 2), (61, o_goto 104)] := lkp_c (P := OkP 56) ⟨(PuOK.ok (ok_aload_n dJ25_put_2_0 rfl)), m_aload⟩ (
  lkp_c (P := OkP 56) ⟨ok_get ⟨"java/util/TreeMap", q2231, Or.inl rfl⟩ dJ25_put_2_1, m_get⟩ (
  lkp_c (P := OkP 56) ⟨(PuOK.ok (ok_astore dJ25_put_2_4)), m_astore⟩ (
  lkp_c (P := OkP 56) ⟨(PuOK.ok (ok_aload dJ25_put_2_6)), m_aload⟩ (
  lkp_c (P := OkP 56) ⟨(PuOK.ok (ok_ifnonnull dJ25_put_2_8 rfl)), m_ifnonnull⟩ (
  lkp_c (P := OkP 56) ⟨(PuOK.ok (ok_aload_n dJ25_put_2_11 rfl)), m_aload⟩ (
  lkp_c (P := OkP 56) ⟨(PuOK.ok (ok_aload_n dJ25_put_2_12 rfl)), m_aload⟩ (
  lkp_c (P := OkP 56) ⟨(PuOK.ok (ok_aload_n dJ25_put_2_13 rfl)), m_aload⟩ (
  lkp_c (P := OkP 56) ⟨ok_cv (List.forall_mem_cons.mpr ⟨tg_V (ci := 20) (r := CLr 20) (y := 57) rfl ⟨rfl, by decide⟩ rfl q2279 q2281 qs27 q152 q2282 ⟨cn_17.1, cn_17.2, pd_29⟩ dJ25_put_2_14, (List.forall_mem_nil _)⟩) hd_no, m_cv⟩ (
  lkp_c (P := OkP 56) ⟨(PuOK.ok (ok_null dJ25_put_2_17)), m_push⟩ (
  lkp_c (P := OkP 56) ⟨ok_aret rfl (Or.inl ⟨_, rfl⟩) dJ25_put_2_18, m_ret⟩ (
  lkp_c (P := OkP 56) ⟨(PuOK.ok (ok_aload_n dJ25_put_2_19 rfl)), m_aload⟩ (
  lkp_c (P := OkP 56) ⟨ok_get ⟨"java/util/TreeMap", q2230, Or.inl rfl⟩ dJ25_put_2_20, m_get⟩ (
  lkp_c (P := OkP 56) ⟨(PuOK.ok (ok_astore dJ25_put_2_23)), m_astore⟩ (
  lkp_c (P := OkP 56) ⟨(PuOK.ok (ok_aload dJ25_put_2_25)), m_aload⟩ (
  lkp_c (P := OkP 56) ⟨(PuOK.ok (ok_ifnull dJ25_put_2_27 rfl)), m_ifnull⟩ (
  lkp_c (P := OkP 56) ⟨(PuOK.ok (ok_aload dJ25_put_2_30)), m_aload⟩ (
  lkp_c (P := OkP 56) ⟨(PuOK.ok (ok_astore dJ25_put_2_32)), m_astore⟩ (
  lkp_c (P := OkP 56) ⟨(PuOK.ok (ok_aload dJ25_put_2_34)), m_aload⟩ (
  lkp_c (P := OkP 56) ⟨(PuOK.ok (ok_aload_n dJ25_put_2_36 rfl)), m_aload⟩ (
  lkp_c (P := OkP 56) ⟨(PuOK.ok (ok_aload dJ25_put_2_37)), m_aload⟩ (
  lkp_c (P := OkP 56) ⟨ok_get ⟨"java/util/TreeMap$Entry", q2299, Or.inl rfl⟩ dJ25_put_2_39, m_get⟩ (
  lkp_c (P := OkP 56) ⟨ok_cv (List.forall_mem_cons.mpr ⟨tg_F (ci := 19) (r := CLr 19) (y := 239) rfl ⟨rfl, by decide⟩ q2291 q2162 q2164 q160 q2166 q2160 q2159 q2165 q2163 q2161 ⟨cn_18.1, cn_18.2, pd_30⟩ dJ25_put_2_42, (List.forall_mem_nil _)⟩) hd_no, m_cv⟩ (
  lkp_c (P := OkP 56) ⟨(PuOK.ok (ok_istore dJ25_put_2_47)), m_istore⟩ (
  lkp_c (P := OkP 56) ⟨(PuOK.ok (ok_iload dJ25_put_2_49)), m_iload⟩ (
  lkp_c (P := OkP 56) ⟨(PuOK.ok (ok_if_ge dJ25_put_2_51 rfl)), m_if⟩ (
  lkp_c (P := OkP 56) ⟨(PuOK.ok (ok_aload dJ25_put_2_54)), m_aload⟩ (
  lkp_c (P := OkP 56) ⟨ok_get ⟨"java/util/TreeMap$Entry", q2303, Or.inl rfl⟩ dJ25_put_2_56, m_get⟩ (
  lkp_c (P := OkP 56) ⟨(PuOK.ok (ok_astore dJ25_put_2_59)), m_astore⟩ (
  lkp_c (P := OkP 56) ⟨(PuOK.ok (ok_goto dJ25_put_2_61 rfl)), m_goto⟩ (
  trivial))))))))))))))))))))))))))))))
theorem c_56_1 : LkP (OkP 56) [(64, o_iload 5 2), (66, o_if (fun x => decide (x ≤ 0)) 79), (69, o_aload 4 2), (71, o_get 113), (74, o_astore 4 2), (76, o_goto 104), (79, o_aload 4 2), (81, o_get 111), (84, o_astore 8 2), (86, o_iload 3 1), (87, o_if (fun x => decide (¬ x = 0)) 95), (90, o_aload 8 2), (92, o_ifnonnull 101), (95, o_aload 4 2), (97, o_aload 2 1), (98, o_put 111 0), (101, o_aload 8 2), (103, o_ret 0), (104, o_aload 4 2), (106, o_ifnonnull 30), (109, o_goto 201), (112, o_aload 1 1), (113, o_cs 71 1 false none), (116, o_pop), (117, o_aload 1 1), (118, o_cast [4, 5, 21]), (121, o_astore 8 2), (123, o_aload 4 2), (125, o_astore 6 2), (127, o_aload 8 2)] := lkp_c (P := OkP 56) ⟨(PuOK.ok (ok_iload dJ25_put_2_64)), m_iload⟩ (
  lkp_c (P := OkP 56) ⟨(PuOK.ok (ok_if_le dJ25_put_2_66 rfl)), m_if⟩ (
  lkp_c (P := OkP 56) ⟨(PuOK.ok (ok_aload dJ25_put_2_69)), m_aload⟩ (
  lkp_c (P := OkP 56) ⟨ok_get ⟨"java/util/TreeMap$Entry", q2304, Or.inl rfl⟩ dJ25_put_2_71, m_get⟩ (
  lkp_c (P := OkP 56) ⟨(PuOK.ok (ok_astore dJ25_put_2_74)), m_astore⟩ (
  lkp_c (P := OkP 56) ⟨(PuOK.ok (ok_goto dJ25_put_2_76 rfl)), m_goto⟩ (
  lkp_c (P := OkP 56) ⟨(PuOK.ok (ok_aload dJ25_put_2_79)), m_aload⟩ (
  lkp_c (P := OkP 56) ⟨ok_get ⟨"java/util/TreeMap$Entry", q2302, Or.inl rfl⟩ dJ25_put_2_81, m_get⟩ (
  lkp_c (P := OkP 56) ⟨(PuOK.ok (ok_astore dJ25_put_2_84)), m_astore⟩ (
  lkp_c (P := OkP 56) ⟨(PuOK.ok (ok_iload_n dJ25_put_2_86 rfl)), m_iload⟩ (
  lkp_c (P := OkP 56) ⟨(PuOK.ok (ok_if_ne dJ25_put_2_87 rfl)), m_if⟩ (
  lkp_c (P := OkP 56) ⟨(PuOK.ok (ok_aload dJ25_put_2_90)), m_aload⟩ (
  lkp_c (P := OkP 56) ⟨(PuOK.ok (ok_ifnonnull dJ25_put_2_92 rfl)), m_ifnonnull⟩ (
  lkp_c (P := OkP 56) ⟨(PuOK.ok (ok_aload dJ25_put_2_95)), m_aload⟩ (
  lkp_c (P := OkP 56) ⟨(PuOK.ok (ok_aload_n dJ25_put_2_97 rfl)), m_aload⟩ (
  lkp_c (P := OkP 56) ⟨ok_put ⟨"java/util/TreeMap$Entry", q2302, Or.inl rfl⟩ rfl fd_111 rfl dJ25_put_2_98, m_put⟩ (
  lkp_c (P := OkP 56) ⟨(PuOK.ok (ok_aload dJ25_put_2_101)), m_aload⟩ (
  lkp_c (P := OkP 56) ⟨ok_aret rfl (Or.inl ⟨_, rfl⟩) dJ25_put_2_103, m_ret⟩ (
  lkp_c (P := OkP 56) ⟨(PuOK.ok (ok_aload dJ25_put_2_104)), m_aload⟩ (
  lkp_c (P := OkP 56) ⟨(PuOK.ok (ok_ifnonnull dJ25_put_2_106 rfl)), m_ifnonnull⟩ (
  lkp_c (P := OkP 56) ⟨(PuOK.ok (ok_goto dJ25_put_2_109 rfl)), m_goto⟩ (
  lkp_c (P := OkP 56) ⟨(PuOK.ok (ok_aload_n dJ25_put_2_112 rfl)), m_aload⟩ (
  lkp_c (P := OkP 56) ⟨ok_cs (tg_S ⟨rfl, by decide⟩ q2322 q2323 q153 q2324 ⟨cn_16.1, cn_16.2, pd_31⟩ dJ25_put_2_113) hd_no, m_cs⟩ (
  lkp_c (P := OkP 56) ⟨(PuOK.ok (ok_pop dJ25_put_2_116)), m_pop⟩ (
  lkp_c (P := OkP 56) ⟨(PuOK.ok (ok_aload_n dJ25_put_2_117 rfl)), m_aload⟩ (
  lkp_c (P := OkP 56) ⟨ok_cast q2287 cst_3 dJ25_put_2_118, m_cast⟩ (
  lkp_c (P := OkP 56) ⟨(PuOK.ok (ok_astore dJ25_put_2_121)), m_astore⟩ (
  lkp_c (P := OkP 56) ⟨(PuOK.ok (ok_aload dJ25_put_2_123)), m_aload⟩ (
  lkp_c (P := OkP 56) ⟨(PuOK.ok (ok_astore dJ25_put_2_125)), m_astore⟩ (
  lkp_c (P := OkP 56) ⟨(PuOK.ok (ok_aload dJ25_put_2_127)), m_aload⟩ (
  trivial))))))))))))))))))))))))))))))
theorem c_56_2 : LkP (OkP 56) [(129, o_aload 4 2), (131, o_get 110), (134, o_cvs [(21, 22)] 1 5 false), (139, o_istore 5 2), (141, o_iload 5 2), (143, o_if (fun x => decide (0 ≤ x)) 156), (146, o_aload 4 2), (148, o_get 112), (151, o_astore 4 2), (153, o_goto 196), (156, o_iload 5 2), (158, o_if (fun x => decide (x ≤ 0)) 171), (161, o_aload 4 2), (163, o_get 113), (166, o_astore 4 2), (168, o_goto 196), (171, o_aload 4 2), (173, o_get 111), (176, o_astore 9 2), (178, o_iload 3 1), (179, o_if (fun x => decide (¬ x = 0)) 187), (182, o_aload 9 2), (184, o_ifnonnull 193), (187, o_aload 4 2), (189, o_aload 2 1), (190, o_put 111 0)] := lkp_c (P := OkP 56) ⟨(PuOK.ok (ok_aload dJ25_put_2_129)), m_aload⟩ (
  lkp_c (P := OkP 56) ⟨ok_get ⟨"java/util/TreeMap$Entry", q2299, Or.inl rfl⟩ dJ25_put_2_131, m_get⟩ (
  lkp_c (P := OkP 56) ⟨ok_cvs (List.forall_mem_cons.mpr ⟨tg_F (ci := 21) (r := CLr 21) (y := 22) rfl ⟨rfl, by decide⟩ q2289 q1054 q1056 q136 q1058 q1052 q1051 q1057 q1055 q1053 ⟨cn_19.1, cn_19.2, pd_11⟩ dJ25_put_2_134, (List.forall_mem_nil _)⟩) hd_no, m_cvs⟩ (
  lkp_c (P := OkP 56) ⟨(PuOK.ok (ok_istore dJ25_put_2_139)), m_istore⟩ (
  lkp_c (P := OkP 56) ⟨(PuOK.ok (ok_iload dJ25_put_2_141)), m_iload⟩ (
  lkp_c (P := OkP 56) ⟨(PuOK.ok (ok_if_ge dJ25_put_2_143 rfl)), m_if⟩ (
  lkp_c (P := OkP 56) ⟨(PuOK.ok (ok_aload dJ25_put_2_146)), m_aload⟩ (
  lkp_c (P := OkP 56) ⟨ok_get ⟨"java/util/TreeMap$Entry", q2303, Or.inl rfl⟩ dJ25_put_2_148, m_get⟩ (
  lkp_c (P := OkP 56) ⟨(PuOK.ok (ok_astore dJ25_put_2_151)), m_astore⟩ (
  lkp_c (P := OkP 56) ⟨(PuOK.ok (ok_goto dJ25_put_2_153 rfl)), m_goto⟩ (
  lkp_c (P := OkP 56) ⟨(PuOK.ok (ok_iload dJ25_put_2_156)), m_iload⟩ (
  lkp_c (P := OkP 56) ⟨(PuOK.ok (ok_if_le dJ25_put_2_158 rfl)), m_if⟩ (
  lkp_c (P := OkP 56) ⟨(PuOK.ok (ok_aload dJ25_put_2_161)), m_aload⟩ (
  lkp_c (P := OkP 56) ⟨ok_get ⟨"java/util/TreeMap$Entry", q2304, Or.inl rfl⟩ dJ25_put_2_163, m_get⟩ (
  lkp_c (P := OkP 56) ⟨(PuOK.ok (ok_astore dJ25_put_2_166)), m_astore⟩ (
  lkp_c (P := OkP 56) ⟨(PuOK.ok (ok_goto dJ25_put_2_168 rfl)), m_goto⟩ (
  lkp_c (P := OkP 56) ⟨(PuOK.ok (ok_aload dJ25_put_2_171)), m_aload⟩ (
  lkp_c (P := OkP 56) ⟨ok_get ⟨"java/util/TreeMap$Entry", q2302, Or.inl rfl⟩ dJ25_put_2_173, m_get⟩ (
  lkp_c (P := OkP 56) ⟨(PuOK.ok (ok_astore dJ25_put_2_176)), m_astore⟩ (
  lkp_c (P := OkP 56) ⟨(PuOK.ok (ok_iload_n dJ25_put_2_178 rfl)), m_iload⟩ (
  lkp_c (P := OkP 56) ⟨(PuOK.ok (ok_if_ne dJ25_put_2_179 rfl)), m_if⟩ (
  lkp_c (P := OkP 56) ⟨(PuOK.ok (ok_aload dJ25_put_2_182)), m_aload⟩ (
  lkp_c (P := OkP 56) ⟨(PuOK.ok (ok_ifnonnull dJ25_put_2_184 rfl)), m_ifnonnull⟩ (
  lkp_c (P := OkP 56) ⟨(PuOK.ok (ok_aload dJ25_put_2_187)), m_aload⟩ (
  lkp_c (P := OkP 56) ⟨(PuOK.ok (ok_aload_n dJ25_put_2_189 rfl)), m_aload⟩ (
  lkp_c (P := OkP 56) ⟨ok_put ⟨"java/util/TreeMap$Entry", q2302, Or.inl rfl⟩ rfl fd_111 rfl dJ25_put_2_190, m_put⟩ (
  trivial))))))))))))))))))))))))))
theorem c_56_3 : LkP (OkP 56) [(193, o_aload 9 2), (195, o_ret 0), (196, o_aload 4 2), (198, o_ifnonnull 123), (201, o_aload 0 1), (202, o_aload 1 1), (203, o_aload 2 1), (204, o_aload 6 2), (206, o_iload 5 2), (208, o_if (fun x => decide (0 ≤ x)) 215), (211, o_push 1 (.int 1)), (212, o_goto 216), (215, o_push 1 (.int 0)), (216, o_cv [(20, 59)] 4 3 true none), (219, o_push 1 .null), (220, o_ret 0)] := lkp_c (P := OkP 56) ⟨(PuOK.ok (ok_aload dJ25_put_2_193)), m_aload⟩ (
  lkp_c (P := OkP 56) ⟨ok_aret rfl (Or.inl ⟨_, rfl⟩) dJ25_put_2_195, m_ret⟩ (
  lkp_c (P := OkP 56) ⟨(PuOK.ok (ok_aload dJ25_put_2_196)), m_aload⟩ (
  lkp_c (P := OkP 56) ⟨(PuOK.ok (ok_ifnonnull dJ25_put_2_198 rfl)), m_ifnonnull⟩ (
  lkp_c (P := OkP 56) ⟨(PuOK.ok (ok_aload_n dJ25_put_2_201 rfl)), m_aload⟩ (
  lkp_c (P := OkP 56) ⟨(PuOK.ok (ok_aload_n dJ25_put_2_202 rfl)), m_aload⟩ (
  lkp_c (P := OkP 56) ⟨(PuOK.ok (ok_aload_n dJ25_put_2_203 rfl)), m_aload⟩ (
  lkp_c (P := OkP 56) ⟨(PuOK.ok (ok_aload dJ25_put_2_204)), m_aload⟩ (
  lkp_c (P := OkP 56) ⟨(PuOK.ok (ok_iload dJ25_put_2_206)), m_iload⟩ (
  lkp_c (P := OkP 56) ⟨(PuOK.ok (ok_if_ge dJ25_put_2_208 rfl)), m_if⟩ (
  lkp_c (P := OkP 56) ⟨(PuOK.ok (ok_iconst dJ25_put_2_211 rfl)), m_push⟩ (
  lkp_c (P := OkP 56) ⟨(PuOK.ok (ok_goto dJ25_put_2_212 rfl)), m_goto⟩ (
  lkp_c (P := OkP 56) ⟨(PuOK.ok (ok_iconst dJ25_put_2_215 rfl)), m_push⟩ (
  lkp_c (P := OkP 56) ⟨ok_cv (List.forall_mem_cons.mpr ⟨tg_V (ci := 20) (r := CLr 20) (y := 59) rfl ⟨rfl, by decide⟩ rfl q2327 q2329 qs28 q152 q2330 ⟨cn_17.1, cn_17.2, pd_32⟩ dJ25_put_2_216, (List.forall_mem_nil _)⟩) hd_no, m_cv⟩ (
  lkp_c (P := OkP 56) ⟨(PuOK.ok (ok_null dJ25_put_2_219)), m_push⟩ (
  lkp_c (P := OkP 56) ⟨ok_aret rfl (Or.inl ⟨_, rfl⟩) dJ25_put_2_220, m_ret⟩ (
  trivial))))))))))))))))
theorem mt_56 : MtOK TB NT IT 56 := ⟨by decide +kernel, rfl, (fun h => by cases h), Or.inl ⟨rfl, rfl⟩, rfl, by decide, lk2_all (P := OkP 56) ⟨c_56_0, c_56_1, c_56_2, c_56_3, trivial⟩⟩
def dkwJ25_addEntryToEmptyMap_1 : List UInt8 := [181, 0, 7, 42, 89, 180, 0, 13, 4, 96, 181, 0, 13, 177]
abbrev dktJ25_addEntryToEmptyMap_1 : List UInt8 := dkwJ25_addEntryToEmptyMap_1 ++ []
def dkwJ25_addEntryToEmptyMap_0 : List UInt8 := [42, 43, 43, 182, 0, 123, 87, 42, 187, 0, 59, 89, 43, 44, 1, 183, 0, 167, 181, 0, 101, 42, 4]
abbrev dktJ25_addEntryToEmptyMap_0 : List UInt8 := dkwJ25_addEntryToEmptyMap_0 ++ dktJ25_addEntryToEmptyMap_1
theorem dksJ25_addEntryToEmptyMap_0 : cJ25_addEntryToEmptyMap.data.toList.drop 0 = dktJ25_addEntryToEmptyMap_0 := by decide +kernel
theorem dksJ25_addEntryToEmptyMap_1 : cJ25_addEntryToEmptyMap.data.toList.drop 23 = dktJ25_addEntryToEmptyMap_1 := dk_seg dksJ25_addEntryToEmptyMap_0 23 rfl rfl
theorem dJ25_addEntryToEmptyMap_0 : decode cJ25_addEntryToEmptyMap 0 = .ok (.aload_n 0, 1) := dk_42 (dk_at dksJ25_addEntryToEmptyMap_0 0 rfl rfl)
theorem dJ25_addEntryToEmptyMap_1 : decode cJ25_addEntryToEmptyMap 1 = .ok (.aload_n 1, 1) := dk_43 (dk_at dksJ25_addEntryToEmptyMap_0 1 rfl rfl)
theorem dJ25_addEntryToEmptyMap_2 : decode cJ25_addEntryToEmptyMap 2 = .ok (.aload_n 1, 1) := dk_43 (dk_at dksJ25_addEntryToEmptyMap_0 2 rfl rfl)
theorem dJ25_addEntryToEmptyMap_3 : decode cJ25_addEntryToEmptyMap 3 = .ok (.invokevirtual 123, 3) := dk_182 0 123 (dk_at dksJ25_addEntryToEmptyMap_0 3 rfl rfl)
theorem dJ25_addEntryToEmptyMap_6 : decode cJ25_addEntryToEmptyMap 6 = .ok (.pop, 1) := dk_87 (dk_at dksJ25_addEntryToEmptyMap_0 6 rfl rfl)
theorem dJ25_addEntryToEmptyMap_7 : decode cJ25_addEntryToEmptyMap 7 = .ok (.aload_n 0, 1) := dk_42 (dk_at dksJ25_addEntryToEmptyMap_0 7 rfl rfl)
theorem dJ25_addEntryToEmptyMap_8 : decode cJ25_addEntryToEmptyMap 8 = .ok (.new 59, 3) := dk_187 0 59 (dk_at dksJ25_addEntryToEmptyMap_0 8 rfl rfl)
theorem dJ25_addEntryToEmptyMap_11 : decode cJ25_addEntryToEmptyMap 11 = .ok (.dup, 1) := dk_89 (dk_at dksJ25_addEntryToEmptyMap_0 11 rfl rfl)
theorem dJ25_addEntryToEmptyMap_12 : decode cJ25_addEntryToEmptyMap 12 = .ok (.aload_n 1, 1) := dk_43 (dk_at dksJ25_addEntryToEmptyMap_0 12 rfl rfl)
theorem dJ25_addEntryToEmptyMap_13 : decode cJ25_addEntryToEmptyMap 13 = .ok (.aload_n 2, 1) := dk_44 (dk_at dksJ25_addEntryToEmptyMap_0 13 rfl rfl)
theorem dJ25_addEntryToEmptyMap_14 : decode cJ25_addEntryToEmptyMap 14 = .ok (.aconst_null, 1) := dk_1 (dk_at dksJ25_addEntryToEmptyMap_0 14 rfl rfl)
theorem dJ25_addEntryToEmptyMap_15 : decode cJ25_addEntryToEmptyMap 15 = .ok (.invokespecial 167, 3) := dk_183 0 167 (dk_at dksJ25_addEntryToEmptyMap_0 15 rfl rfl)
theorem dJ25_addEntryToEmptyMap_18 : decode cJ25_addEntryToEmptyMap 18 = .ok (.putfield 101, 3) := dk_181 0 101 (dk_at dksJ25_addEntryToEmptyMap_0 18 rfl rfl)
theorem dJ25_addEntryToEmptyMap_21 : decode cJ25_addEntryToEmptyMap 21 = .ok (.aload_n 0, 1) := dk_42 (dk_at dksJ25_addEntryToEmptyMap_0 21 rfl rfl)
theorem dJ25_addEntryToEmptyMap_22 : decode cJ25_addEntryToEmptyMap 22 = .ok (.iconst 1, 1) := dk_4 (dk_at dksJ25_addEntryToEmptyMap_0 22 rfl rfl)
theorem dJ25_addEntryToEmptyMap_23 : decode cJ25_addEntryToEmptyMap 23 = .ok (.putfield 7, 3) := dk_181 0 7 (dk_at dksJ25_addEntryToEmptyMap_1 0 rfl rfl)
theorem dJ25_addEntryToEmptyMap_26 : decode cJ25_addEntryToEmptyMap 26 = .ok (.aload_n 0, 1) := dk_42 (dk_at dksJ25_addEntryToEmptyMap_1 3 rfl rfl)
theorem dJ25_addEntryToEmptyMap_27 : decode cJ25_addEntryToEmptyMap 27 = .ok (.dup, 1) := dk_89 (dk_at dksJ25_addEntryToEmptyMap_1 4 rfl rfl)
theorem dJ25_addEntryToEmptyMap_28 : decode cJ25_addEntryToEmptyMap 28 = .ok (.getfield 13, 3) := dk_180 0 13 (dk_at dksJ25_addEntryToEmptyMap_1 5 rfl rfl)
theorem dJ25_addEntryToEmptyMap_31 : decode cJ25_addEntryToEmptyMap 31 = .ok (.iconst 1, 1) := dk_4 (dk_at dksJ25_addEntryToEmptyMap_1 8 rfl rfl)
theorem dJ25_addEntryToEmptyMap_32 : decode cJ25_addEntryToEmptyMap 32 = .ok (.iadd, 1) := dk_96 (dk_at dksJ25_addEntryToEmptyMap_1 9 rfl rfl)
theorem dJ25_addEntryToEmptyMap_33 : decode cJ25_addEntryToEmptyMap 33 = .ok (.putfield 13, 3) := dk_181 0 13 (dk_at dksJ25_addEntryToEmptyMap_1 10 rfl rfl)
theorem dJ25_addEntryToEmptyMap_36 : decode cJ25_addEntryToEmptyMap 36 = .ok (.return_, 1) := dk_177 (dk_at dksJ25_addEntryToEmptyMap_1 13 rfl rfl)
theorem c_57_0 : LkP (OkP 57) [(0, o_aload 0 1), (1, o_aload 1 1), (2, o_aload 1 1), (3, o_cv [(20, 58)] 2 3 false none), (6, o_pop), (7, o_aload 0 1), (8, o_new 22 6 dv22), (11, o_dup), (12, o_aload 1 1), (13, o_aload 2 1), (14, o_push 1 .null), (15, o_ci 83 3), (18, o_put 103 0), (21, o_aload 0 1), (22, o_push 1 (.int 1)), (23, o_put 104 1), (26, o_aload 0 1), (27, o_dup), (28, o_get 105), (31, o_push 1 (.int 1)), (32, o_iop (fun x y => x + y)), (33, o_put 105 1), (36, o_vret)] := lkp_c (P := OkP 57) ⟨(PuOK.ok (ok_aload_n dJ25_addEntryToEmptyMap_0 rfl)), m_aload⟩ (
  lkp_c (P := OkP 57) ⟨(PuOK.ok (ok_aload_n dJ25_addEntryToEmptyMap_1 rfl)), m_aload⟩ (
  lkp_c (P := OkP 57) ⟨(PuOK.ok (ok_aload_n dJ25_addEntryToEmptyMap_2 rfl)), m_aload⟩ (
  lkp_c (P := OkP 57) ⟨ok_cv (List.forall_mem_cons.mpr ⟨tg_V (ci := 20) (r := CLr 20) (y := 58) rfl ⟨rfl, by decide⟩ rfl q2283 q2284 q2285 q152 q2286 ⟨cn_17.1, cn_17.2, pd_30⟩ dJ25_addEntryToEmptyMap_3, (List.forall_mem_nil _)⟩) hd_no, m_cv⟩ (
  lkp_c (P := OkP 57) ⟨(PuOK.ok (ok_pop dJ25_addEntryToEmptyMap_6)), m_pop⟩ (
  lkp_c (P := OkP 57) ⟨(PuOK.ok (ok_aload_n dJ25_addEntryToEmptyMap_7 rfl)), m_aload⟩ (
  lkp_c (P := OkP 57) ⟨ok_new (ci := 22) (r := CLr 22) rfl dvok_22 q2292 q2293 q166 dJ25_addEntryToEmptyMap_8, m_new⟩ (
  lkp_c (P := OkP 57) ⟨(PuOK.ok (ok_dup dJ25_addEntryToEmptyMap_11)), m_dup⟩ (
  lkp_c (P := OkP 57) ⟨(PuOK.ok (ok_aload_n dJ25_addEntryToEmptyMap_12 rfl)), m_aload⟩ (
  lkp_c (P := OkP 57) ⟨(PuOK.ok (ok_aload_n dJ25_addEntryToEmptyMap_13 rfl)), m_aload⟩ (
  lkp_c (P := OkP 57) ⟨(PuOK.ok (ok_null dJ25_addEntryToEmptyMap_14)), m_push⟩ (
  lkp_c (P := OkP 57) ⟨ok_ci (tg_I (rt := none) ⟨rfl, by decide⟩ rfl q2294 q2295 q166 q2296 ⟨cn_20.1, cn_20.2, pd_33⟩ dJ25_addEntryToEmptyMap_15) hd_no, m_ci⟩ (
  lkp_c (P := OkP 57) ⟨ok_put ⟨"java/util/TreeMap", q2231, Or.inl rfl⟩ rfl fd_103 rfl dJ25_addEntryToEmptyMap_18, m_put⟩ (
  lkp_c (P := OkP 57) ⟨(PuOK.ok (ok_aload_n dJ25_addEntryToEmptyMap_21 rfl)), m_aload⟩ (
  lkp_c (P := OkP 57) ⟨(PuOK.ok (ok_iconst dJ25_addEntryToEmptyMap_22 rfl)), m_push⟩ (
  lkp_c (P := OkP 57) ⟨ok_put ⟨"java/util/TreeMap", q2232, Or.inl rfl⟩ rfl fd_104 rfl dJ25_addEntryToEmptyMap_23, m_put⟩ (
  lkp_c (P := OkP 57) ⟨(PuOK.ok (ok_aload_n dJ25_addEntryToEmptyMap_26 rfl)), m_aload⟩ (
  lkp_c (P := OkP 57) ⟨(PuOK.ok (ok_dup dJ25_addEntryToEmptyMap_27)), m_dup⟩ (
  lkp_c (P := OkP 57) ⟨ok_get ⟨"java/util/TreeMap", q2233, Or.inl rfl⟩ dJ25_addEntryToEmptyMap_28, m_get⟩ (
  lkp_c (P := OkP 57) ⟨(PuOK.ok (ok_iconst dJ25_addEntryToEmptyMap_31 rfl)), m_push⟩ (
  lkp_c (P := OkP 57) ⟨(PuOK.ok (ok_iadd dJ25_addEntryToEmptyMap_32)), m_iop⟩ (
  lkp_c (P := OkP 57) ⟨ok_put ⟨"java/util/TreeMap", q2233, Or.inl rfl⟩ rfl fd_105 rfl dJ25_addEntryToEmptyMap_33, m_put⟩ (
  lkp_c (P := OkP 57) ⟨ok_vret rfl dJ25_addEntryToEmptyMap_36, m_vret⟩ (
  trivial)))))))))))))))))))))))
theorem mt_57 : MtOK TB NT IT 57 := ⟨by decide +kernel, rfl, (fun h => by cases h), Or.inl ⟨rfl, rfl⟩, rfl, by decide, lk2_all (P := OkP 57) ⟨c_57_0, trivial⟩⟩
def dkwJ25_compare_1 : List UInt8 := [43, 44, 185, 0, 117, 3, 0, 172]
abbrev dktJ25_compare_1 : List UInt8 := dkwJ25_compare_1 ++ []
def dkwJ25_compare_0 : List UInt8 := [42, 180, 0, 16, 199, 0, 16, 43, 192, 0, 99, 44, 185, 0, 107, 2, 0, 167, 0, 14, 42, 180, 0, 16]
abbrev dktJ25_compare_0 : List UInt8 := dkwJ25_compare_0 ++ dktJ25_compare_1
theorem dksJ25_compare_0 : cJ25_compare.data.toList.drop 0 = dktJ25_compare_0 := by decide +kernel
theorem dksJ25_compare_1 : cJ25_compare.data.toList.drop 24 = dktJ25_compare_1 := dk_seg dksJ25_compare_0 24 rfl rfl
theorem dJ25_compare_0 : decode cJ25_compare 0 = .ok (.aload_n 0, 1) := dk_42 (dk_at dksJ25_compare_0 0 rfl rfl)
theorem dJ25_compare_1 : decode cJ25_compare 1 = .ok (.getfield 16, 3) := dk_180 0 16 (dk_at dksJ25_compare_0 1 rfl rfl)
theorem dJ25_compare_4 : decode cJ25_compare 4 = .ok (.ifnonnull 16, 3) := dk_199 0 16 (dk_at dksJ25_compare_0 4 rfl rfl)
theorem dJ25_compare_7 : decode cJ25_compare 7 = .ok (.aload_n 1, 1) := dk_43 (dk_at dksJ25_compare_0 7 rfl rfl)
theorem dJ25_compare_8 : decode cJ25_compare 8 = .ok (.checkcast 99, 3) := dk_192 0 99 (dk_at dksJ25_compare_0 8 rfl rfl)
theorem dJ25_compare_11 : decode cJ25_compare 11 = .ok (.aload_n 2, 1) := dk_44 (dk_at dksJ25_compare_0 11 rfl rfl)
theorem dJ25_compare_12 : decode cJ25_compare 12 = .ok (.invokeinterface 107 2, 5) := by decide +kernel
theorem dJ25_compare_17 : decode cJ25_compare 17 = .ok (.goto 14, 3) := dk_167 0 14 (dk_at dksJ25_compare_0 17 rfl rfl)
theorem dJ25_compare_20 : decode cJ25_compare 20 = .ok (.aload_n 0, 1) := dk_42 (dk_at dksJ25_compare_0 20 rfl rfl)
theorem dJ25_compare_21 : decode cJ25_compare 21 = .ok (.getfield 16, 3) := dk_180 0 16 (dk_at dksJ25_compare_0 21 rfl rfl)
theorem dJ25_compare_24 : decode cJ25_compare 24 = .ok (.aload_n 1, 1) := dk_43 (dk_at dksJ25_compare_1 0 rfl rfl)
theorem dJ25_compare_25 : decode cJ25_compare 25 = .ok (.aload_n 2, 1) := dk_44 (dk_at dksJ25_compare_1 1 rfl rfl)
theorem dJ25_compare_26 : decode cJ25_compare 26 = .ok (.invokeinterface 117 3, 5) := by decide +kernel
theorem dJ25_compare_31 : decode cJ25_compare 31 = .ok (.ireturn, 1) := dk_172 (dk_at dksJ25_compare_1 7 rfl rfl)
theorem c_58_0 : LkP (OkP 58) [(0, o_aload 0 1), (1, o_get 102), (4, o_ifnonnull 20), (7, o_aload 1 1), (8, o_cast [4, 5, 21]), (11, o_aload 2 1), (12, o_cvs [(21, 22)] 1 5 false), (17, o_goto 31), (20, o_aload 0 1), (21, o_get 102), (24, o_aload 1 1), (25, o_aload 2 1), (26, o_cv [(19, 239)] 2 5 false none), (31, o_ret 1)] := lkp_c (P := OkP 58) ⟨(PuOK.ok (ok_aload_n dJ25_compare_0 rfl)), m_aload⟩ (
  lkp_c (P := OkP 58) ⟨ok_get ⟨"java/util/TreeMap", q2230, Or.inl rfl⟩ dJ25_compare_1, m_get⟩ (
  lkp_c (P := OkP 58) ⟨(PuOK.ok (ok_ifnonnull dJ25_compare_4 rfl)), m_ifnonnull⟩ (
  lkp_c (P := OkP 58) ⟨(PuOK.ok (ok_aload_n dJ25_compare_7 rfl)), m_aload⟩ (
  lkp_c (P := OkP 58) ⟨ok_cast q2287 cst_3 dJ25_compare_8, m_cast⟩ (
  lkp_c (P := OkP 58) ⟨(PuOK.ok (ok_aload_n dJ25_compare_11 rfl)), m_aload⟩ (
  lkp_c (P := OkP 58) ⟨ok_cvs (List.forall_mem_cons.mpr ⟨tg_F (ci := 21) (r := CLr 21) (y := 22) rfl ⟨rfl, by decide⟩ q2289 q1054 q1056 q136 q1058 q1052 q1051 q1057 q1055 q1053 ⟨cn_19.1, cn_19.2, pd_11⟩ dJ25_compare_12, (List.forall_mem_nil _)⟩) hd_no, m_cvs⟩ (
  lkp_c (P := OkP 58) ⟨(PuOK.ok (ok_goto dJ25_compare_17 rfl)), m_goto⟩ (
  lkp_c (P := OkP 58) ⟨(PuOK.ok (ok_aload_n dJ25_compare_20 rfl)), m_aload⟩ (
  lkp_c (P := OkP 58) ⟨ok_get ⟨"java/util/TreeMap", q2230, Or.inl rfl⟩ dJ25_compare_21, m_get⟩ (
  lkp_c (P := OkP 58) ⟨(PuOK.ok (ok_aload_n dJ25_compare_24 rfl)), m_aload⟩ (
  lkp_c (P := OkP 58) ⟨(PuOK.ok (ok_aload_n dJ25_compare_25 rfl)), m_aload⟩ (
  lkp_c (P := OkP 58) ⟨ok_cv (List.forall_mem_cons.mpr ⟨tg_F (ci := 19) (r := CLr 19) (y := 239) rfl ⟨rfl, by decide⟩ q2291 q2162 q2164 q160 q2166 q2160 q2159 q2165 q2163 q2161 ⟨cn_18.1, cn_18.2, pd_30⟩ dJ25_compare_26, (List.forall_mem_nil _)⟩) hd_no, m_cv⟩ (
  lkp_c (P := OkP 58) ⟨ok_iret rfl rfl (by decide) dJ25_compare_31, m_ret⟩ (
  trivial))))))))))))))
theorem mt_58 : MtOK TB NT IT 58 := ⟨by decide +kernel, rfl, (fun h => by cases h), Or.inl ⟨rfl, rfl⟩, rfl, by decide, lk2_all (P := OkP 58) ⟨c_58_0, trivial⟩⟩
def dkwJ25_addEntry_2 : List UInt8 := [181, 0, 7, 42, 89, 180, 0, 13, 4, 96, 181, 0, 13, 177]
abbrev dktJ25_addEntry_2 : List UInt8 := dkwJ25_addEntry_2 ++ []
def dkwJ25_addEntry_1 : List UInt8 := [167, 0, 9, 45, 25, 5, 181, 0, 114, 42, 25, 5, 182, 0, 170, 42, 89, 180, 0, 7, 4, 96]
abbrev dktJ25_addEntry_1 : List UInt8 := dkwJ25_addEntry_1 ++ dktJ25_addEntry_2
def dkwJ25_addEntry_0 : List UInt8 := [187, 0, 59, 89, 43, 44, 45, 183, 0, 167, 58, 5, 21, 4, 153, 0, 12, 45, 25, 5, 181, 0, 111]
abbrev dktJ25_addEntry_0 : List UInt8 := dkwJ25_addEntry_0 ++ dktJ25_addEntry_1
theorem dksJ25_addEntry_0 : cJ25_addEntry.data.toList.drop 0 = dktJ25_addEntry_0 := by decide +kernel
theorem dksJ25_addEntry_1 : cJ25_addEntry.data.toList.drop 23 = dktJ25_addEntry_1 := dk_seg dksJ25_addEntry_0 23 rfl rfl
theorem dksJ25_addEntry_2 : cJ25_addEntry.data.toList.drop 45 = dktJ25_addEntry_2 := dk_seg dksJ25_addEntry_1 22 rfl rfl
theorem dJ25_addEntry_0 : decode cJ25_addEntry 0 = .ok (.new 59, 3) := dk_187 0 59 (dk_at dksJ25_addEntry_0 0 rfl rfl)
theorem dJ25_addEntry_3 : decode cJ25_addEntry 3 = .ok (.dup, 1) := dk_89 (dk_at dksJ25_addEntry_0 3 rfl rfl)
theorem dJ25_addEntry_4 : decode cJ25_addEntry 4 = .ok (.aload_n 1, 1) := dk_43 (dk_at dksJ25_addEntry_0 4 rfl rfl)
theorem dJ25_addEntry_5 : decode cJ25_addEntry 5 = .ok (.aload_n 2, 1) := dk_44 (dk_at dksJ25_addEntry_0 5 rfl rfl)
theorem dJ25_addEntry_6 : decode cJ25_addEntry 6 = .ok (.aload_n 3, 1) := dk_45 (dk_at dksJ25_addEntry_0 6 rfl rfl)
theorem dJ25_addEntry_7 : decode cJ25_addEntry 7 = .ok (.invokespecial 167, 3) := dk_183 0 167 (dk_at dksJ25_addEntry_0 7 rfl rfl)
theorem dJ25_addEntry_10 : decode cJ25_addEntry 10 = .ok (.astore 5, 2) := dk_58 5 (dk_at dksJ25_addEntry_0 10 rfl rfl)
theorem dJ25_addEntry_12 : decode cJ25_addEntry 12 = .ok (.iload 4, 2) := dk_21 4 (dk_at dksJ25_addEntry_0 12 rfl rfl)
theorem dJ25_addEntry_14 : decode cJ25_addEntry 14 = .ok (.ifCond .eq 12, 3) := dk_153 0 12 (dk_at dksJ25_addEntry_0 14 rfl rfl)
theorem dJ25_addEntry_17 : decode cJ25_addEntry 17 = .ok (.aload_n 3, 1) := dk_45 (dk_at dksJ25_addEntry_0 17 rfl rfl)
theorem dJ25_addEntry_18 : decode cJ25_addEntry 18 = .ok (.aload 5, 2) := dk_25 5 (dk_at dksJ25_addEntry_0 18 rfl rfl)
theorem dJ25_addEntry_20 : decode cJ25_addEntry 20 = .ok (.putfield 111, 3) := dk_181 0 111 (dk_at dksJ25_addEntry_0 20 rfl rfl)
theorem dJ25_addEntry_23 : decode cJ25_addEntry 23 = .ok (.goto 9, 3) := dk_167 0 9 (dk_at dksJ25_addEntry_1 0 rfl rfl)
theorem dJ25_addEntry_26 : decode cJ25_addEntry 26 = .ok (.aload_n 3, 1) := dk_45 (dk_at dksJ25_addEntry_1 3 rfl rfl)
theorem dJ25_addEntry_27 : decode cJ25_addEntry 27 = .ok (.aload 5, 2) := dk_25 5 (dk_at dksJ25_addEntry_1 4 rfl rfl)
theorem dJ25_addEntry_29 : decode cJ25_addEntry 29 = .ok (.putfield 114, 3) := dk_181 0 114 (dk_at dksJ25_addEntry_1 6 rfl rfl)
theorem dJ25_addEntry_32 : decode cJ25_addEntry 32 = .ok (.aload_n 0, 1) := dk_42 (dk_at dksJ25_addEntry_1 9 rfl rfl)
theorem dJ25_addEntry_33 : decode cJ25_addEntry 33 = .ok (.aload 5, 2) := dk_25 5 (dk_at dksJ25_addEntry_1 10 rfl rfl)
theorem dJ25_addEntry_35 : decode cJ25_addEntry 35 = .ok (.invokevirtual 170, 3) := dk_182 0 170 (dk_at dksJ25_addEntry_1 12 rfl rfl)
theorem dJ25_addEntry_38 : decode cJ25_addEntry 38 = .ok (.aload_n 0, 1) := dk_42 (dk_at dksJ25_addEntry_1 15 rfl rfl)
theorem dJ25_addEntry_39 : decode cJ25_addEntry 39 = .ok (.dup, 1) := dk_89 (dk_at dksJ25_addEntry_1 16 rfl rfl)
theorem dJ25_addEntry_40 : decode cJ25_addEntry 40 = .ok (.getfield 7, 3) := dk_180 0 7 (dk_at dksJ25_addEntry_1 17 rfl rfl)
theorem dJ25_addEntry_43 : decode cJ25_addEntry 43 = .ok (.iconst 1, 1) := dk_4 (dk_at dksJ25_addEntry_1 20 rfl rfl)
theorem dJ25_addEntry_44 : decode cJ25_addEntry 44 = .ok (.iadd, 1) := dk_96 (dk_at dksJ25_addEntry_1 21 rfl rfl)
theorem dJ25_addEntry_45 : decode cJ25_addEntry 45 = .ok (.putfield 7, 3) := dk_181 0 7 (dk_at dksJ25_addEntry_2 0 rfl rfl)
theorem dJ25_addEntry_48 : decode cJ25_addEntry 48 = .ok (.aload_n 0, 1) := dk_42 (dk_at dksJ25_addEntry_2 3 rfl rfl)
theorem dJ25_addEntry_49 : decode cJ25_addEntry 49 = .ok (.dup, 1) := dk_89 (dk_at dksJ25_addEntry_2 4 rfl rfl)
theorem dJ25_addEntry_50 : decode cJ25_addEntry 50 = .ok (.getfield 13, 3) := dk_180 0 13 (dk_at dksJ25_addEntry_2 5 rfl rfl)
theorem dJ25_addEntry_53 : decode cJ25_addEntry 53 = .ok (.iconst 1, 1) := dk_4 (dk_at dksJ25_addEntry_2 8 rfl rfl)
theorem dJ25_addEntry_54 : decode cJ25_addEntry 54 = .ok (.iadd, 1) := dk_96 (dk_at dksJ25_addEntry_2 9 rfl rfl)
theorem dJ25_addEntry_55 : decode cJ25_addEntry 55 = .ok (.putfield 13, 3) := dk_181 0 13 (dk_at dksJ25_addEntry_2 10 rfl rfl)
theorem dJ25_addEntry_58 : decode cJ25_addEntry 58 = .ok (.return_, 1) := dk_177 (dk_at dksJ25_addEntry_2 13 rfl rfl)
theorem c_59_0 : LkP (OkP 59) [(0, o_new 22 6 dv22), (3, o_dup), (4, o_aload 1 1), (5, o_aload 2 1), (6, o_aload 3 1), (7, o_ci 83 3), (10, o_astore 5 2), (12, o_iload 4 2), (14, o_if (fun x => decide (x = 0)) 26), (17, o_aload 3 1), (18, o_aload 5 2), (20, o_put 112 0), (23, o_goto 32), (26, o_aload 3 1), (27, o_aload 5 2), (29, o_put 113 0), (32, o_aload 0 1), (33, o_aload 5 2), (35, o_cv [(20, 60)] 1 3 true none), (38, o_aload 0 1), (39, o_dup), (40, o_get 104), (43, o_push 1 (.int 1)), (44, o_iop (fun x y => x + y)), (45, o_put 104 1), (48, o_aload 0 1), (49, o_dup), (50, o_get 105), (53, o_push 1 (.int 1)), (54, o_iop (fun x y => x + y)), (55, o_put 105 1), (58, o_vret)] := lkp_c (P := OkP 59) ⟨ok_new (ci := 22) (r := CLr 22) rfl dvok_22 q2292 q2293 q166 dJ25_addEntry_0, m_new⟩ (
  lkp_c (P := OkP 59) ⟨(PuOK.ok (ok_dup dJ25_addEntry_3)), m_dup⟩ (
  lkp_c (P := OkP 59) ⟨(PuOK.ok (ok_aload_n dJ25_addEntry_4 rfl)), m_aload⟩ (
  lkp_c (P := OkP 59) ⟨(PuOK.ok (ok_aload_n dJ25_addEntry_5 rfl)), m_aload⟩ (
  lkp_c (P := OkP 59) ⟨(PuOK.ok (ok_aload_n dJ25_addEntry_6 rfl)), m_aload⟩ (
  lkp_c (P := OkP 59) ⟨ok_ci (tg_I (rt := none) ⟨rfl, by decide⟩ rfl q2294 q2295 q166 q2296 ⟨cn_20.1, cn_20.2, pd_33⟩ dJ25_addEntry_7) hd_no, m_ci⟩ (
  lkp_c (P := OkP 59) ⟨(PuOK.ok (ok_astore dJ25_addEntry_10)), m_astore⟩ (
  lkp_c (P := OkP 59) ⟨(PuOK.ok (ok_iload dJ25_addEntry_12)), m_iload⟩ (
  lkp_c (P := OkP 59) ⟨(PuOK.ok (ok_if_eq dJ25_addEntry_14 rfl)), m_if⟩ (
  lkp_c (P := OkP 59) ⟨(PuOK.ok (ok_aload_n dJ25_addEntry_17 rfl)), m_aload⟩ (
  lkp_c (P := OkP 59) ⟨(PuOK.ok (ok_aload dJ25_addEntry_18)), m_aload⟩ (
  lkp_c (P := OkP 59) ⟨ok_put ⟨"java/util/TreeMap$Entry", q2303, Or.inl rfl⟩ rfl fd_112 rfl dJ25_addEntry_20, m_put⟩ (
  lkp_c (P := OkP 59) ⟨(PuOK.ok (ok_goto dJ25_addEntry_23 rfl)), m_goto⟩ (
  lkp_c (P := OkP 59) ⟨(PuOK.ok (ok_aload_n dJ25_addEntry_26 rfl)), m_aload⟩ (
  lkp_c (P := OkP 59) ⟨(PuOK.ok (ok_aload dJ25_addEntry_27)), m_aload⟩ (
  lkp_c (P := OkP 59) ⟨ok_put ⟨"java/util/TreeMap$Entry", q2304, Or.inl rfl⟩ rfl fd_113 rfl dJ25_addEntry_29, m_put⟩ (
  lkp_c (P := OkP 59) ⟨(PuOK.ok (ok_aload_n dJ25_addEntry_32 rfl)), m_aload⟩ (
  lkp_c (P := OkP 59) ⟨(PuOK.ok (ok_aload dJ25_addEntry_33)), m_aload⟩ (
  lkp_c (P := OkP 59) ⟨ok_cv (List.forall_mem_cons.mpr ⟨tg_V (ci := 20) (r := CLr 20) (y := 60) rfl ⟨rfl, by decide⟩ rfl q2331 q2333 qs29 q152 q2334 ⟨cn_17.1, cn_17.2, pd_34⟩ dJ25_addEntry_35, (List.forall_mem_nil _)⟩) hd_no, m_cv⟩ (
  lkp_c (P := OkP 59) ⟨(PuOK.ok (ok_aload_n dJ25_addEntry_38 rfl)), m_aload⟩ (
  lkp_c (P := OkP 59) ⟨(PuOK.ok (ok_dup dJ25_addEntry_39)), m_dup⟩ (
  lkp_c (P := OkP 59) ⟨ok_get ⟨"java/util/TreeMap", q2232, Or.inl rfl⟩ dJ25_addEntry_40, m_get⟩ (
  lkp_c (P := OkP 59) ⟨(PuOK.ok (ok_iconst dJ25_addEntry_43 rfl)), m_push⟩ (
  lkp_c (P := OkP 59) ⟨(PuOK.ok (ok_iadd dJ25_addEntry_44)), m_iop⟩ (
  lkp_c (P := OkP 59) ⟨ok_put ⟨"java/util/TreeMap", q2232, Or.inl rfl⟩ rfl fd_104 rfl dJ25_addEntry_45, m_put⟩ (
  lkp_c (P := OkP 59) ⟨(PuOK.ok (ok_aload_n dJ25_addEntry_48 rfl)), m_aload⟩ (
  lkp_c (P := OkP 59) ⟨(PuOK.ok (ok_dup dJ25_addEntry_49)), m_dup⟩ (
  lkp_c (P := OkP 59) ⟨ok_get ⟨"java/util/TreeMap", q2233, Or.inl rfl⟩ dJ25_addEntry_50, m_get⟩ (
  lkp_c (P := OkP 59) ⟨(PuOK.ok (ok_iconst dJ25_addEntry_53 rfl)), m_push⟩ (
  lkp_c (P := OkP 59) ⟨(PuOK.ok (ok_iadd dJ25_addEntry_54)), m_iop⟩ (
  lkp_c (P := OkP 59) ⟨ok_put ⟨"java/util/TreeMap", q2233, Or.inl rfl⟩ rfl fd_105 rfl dJ25_addEntry_55, m_put⟩ (
  lkp_c (P := OkP 59) ⟨ok_vret rfl dJ25_addEntry_58, m_vret⟩ (
  trivial))))))))))))))))))))))))))))))))
theorem mt_59 : MtOK TB NT IT 59 := ⟨by decide +kernel, rfl, (fun h => by cases h), Or.inl ⟨rfl, rfl⟩, rfl, by decide, lk2_all (P := OkP 59) ⟨c_59_0, trivial⟩⟩
def dkwJ25_fixAfterInsertion_11 : List UInt8 := [42, 180, 0, 101, 4, 181, 1, 34, 177]
abbrev dktJ25_fixAfterInsertion_11 : List UInt8 := dkwJ25_fixAfterInsertion_11 ++ []
def dkwJ25_fixAfterInsertion_10 : List UInt8 := [184, 1, 38, 184, 1, 38, 3, 184, 1, 51, 42, 43, 184, 1, 38, 184, 1, 38, 182, 1, 55, 167, 255, 6]
abbrev dktJ25_fixAfterInsertion_10 : List UInt8 := dkwJ25_fixAfterInsertion_10 ++ dktJ25_fixAfterInsertion_11
def dkwJ25_fixAfterInsertion_9 : List UInt8 := [166, 0, 13, 43, 184, 1, 38, 76, 42, 43, 182, 1, 58, 43, 184, 1, 38, 4, 184, 1, 51, 43]
abbrev dktJ25_fixAfterInsertion_9 : List UInt8 := dkwJ25_fixAfterInsertion_9 ++ dktJ25_fixAfterInsertion_10
def dkwJ25_fixAfterInsertion_8 : List UInt8 := [184, 1, 51, 43, 184, 1, 38, 184, 1, 38, 76, 167, 0, 54, 43, 43, 184, 1, 38, 184, 1, 41]
abbrev dktJ25_fixAfterInsertion_8 : List UInt8 := dkwJ25_fixAfterInsertion_8 ++ dktJ25_fixAfterInsertion_9
def dkwJ25_fixAfterInsertion_7 : List UInt8 := [154, 0, 38, 43, 184, 1, 38, 4, 184, 1, 51, 44, 4, 184, 1, 51, 43, 184, 1, 38, 184, 1, 38, 3]
abbrev dktJ25_fixAfterInsertion_7 : List UInt8 := dkwJ25_fixAfterInsertion_7 ++ dktJ25_fixAfterInsertion_8
def dkwJ25_fixAfterInsertion_6 : List UInt8 := [184, 1, 38, 182, 1, 58, 167, 255, 113, 43, 184, 1, 38, 184, 1, 38, 184, 1, 41, 77, 44, 184, 1, 47]
abbrev dktJ25_fixAfterInsertion_6 : List UInt8 := dkwJ25_fixAfterInsertion_6 ++ dktJ25_fixAfterInsertion_7
def dkwJ25_fixAfterInsertion_5 : List UInt8 := [43, 184, 1, 38, 4, 184, 1, 51, 43, 184, 1, 38, 184, 1, 38, 3, 184, 1, 51, 42, 43, 184, 1, 38]
abbrev dktJ25_fixAfterInsertion_5 : List UInt8 := dkwJ25_fixAfterInsertion_5 ++ dktJ25_fixAfterInsertion_6
def dkwJ25_fixAfterInsertion_4 : List UInt8 := [167, 0, 54, 43, 43, 184, 1, 38, 184, 1, 44, 166, 0, 13, 43, 184, 1, 38, 76, 42, 43, 182, 1, 55]
abbrev dktJ25_fixAfterInsertion_4 : List UInt8 := dkwJ25_fixAfterInsertion_4 ++ dktJ25_fixAfterInsertion_5
def dkwJ25_fixAfterInsertion_3 : List UInt8 := [184, 1, 51, 43, 184, 1, 38, 184, 1, 38, 3, 184, 1, 51, 43, 184, 1, 38, 184, 1, 38, 76]
abbrev dktJ25_fixAfterInsertion_3 : List UInt8 := dkwJ25_fixAfterInsertion_3 ++ dktJ25_fixAfterInsertion_4
def dkwJ25_fixAfterInsertion_2 : List UInt8 := [184, 1, 38, 184, 1, 44, 77, 44, 184, 1, 47, 154, 0, 38, 43, 184, 1, 38, 4, 184, 1, 51, 44, 4]
abbrev dktJ25_fixAfterInsertion_2 : List UInt8 := dkwJ25_fixAfterInsertion_2 ++ dktJ25_fixAfterInsertion_3
def dkwJ25_fixAfterInsertion_1 : List UInt8 := [154, 0, 234, 43, 184, 1, 38, 43, 184, 1, 38, 184, 1, 38, 184, 1, 41, 166, 0, 110, 43, 184, 1, 38]
abbrev dktJ25_fixAfterInsertion_1 : List UInt8 := dkwJ25_fixAfterInsertion_1 ++ dktJ25_fixAfterInsertion_2
def dkwJ25_fixAfterInsertion_0 : List UInt8 := [43, 3, 181, 1, 34, 43, 198, 0, 252, 43, 42, 180, 0, 101, 165, 0, 244, 43, 180, 0, 124, 180, 1, 34]
abbrev dktJ25_fixAfterInsertion_0 : List UInt8 := dkwJ25_fixAfterInsertion_0 ++ dktJ25_fixAfterInsertion_1
theorem dksJ25_fixAfterInsertion_0 : cJ25_fixAfterInsertion.data.toList.drop 0 = dktJ25_fixAfterInsertion_0 := by decide +kernel
theorem dksJ25_fixAfterInsertion_1 : cJ25_fixAfterInsertion.data.toList.drop 24 = dktJ25_fixAfterInsertion_1 := dk_seg dksJ25_fixAfterInsertion_0 24 rfl rfl
theorem dksJ25_fixAfterInsertion_2 : cJ25_fixAfterInsertion.data.toList.drop 48 = dktJ25_fixAfterInsertion_2 := dk_seg dksJ25_fixAfterInsertion_1 24 rfl rfl
theorem dksJ25_fixAfterInsertion_3 : cJ25_fixAfterInsertion.data.toList.drop 72 = dktJ25_fixAfterInsertion_3 := dk_seg dksJ25_fixAfterInsertion_2 24 rfl rfl
theorem dksJ25_fixAfterInsertion_4 : cJ25_fixAfterInsertion.data.toList.drop 94 = dktJ25_fixAfterInsertion_4 := dk_seg dksJ25_fixAfterInsertion_3 22 rfl rfl
theorem dksJ25_fixAfterInsertion_5 : cJ25_fixAfterInsertion.data.toList.drop 118 = dktJ25_fixAfterInsertion_5 := dk_seg dksJ25_fixAfterInsertion_4 24 rfl rfl
theorem dksJ25_fixAfterInsertion_6 : cJ25_fixAfterInsertion.data.toList.drop 142 = dktJ25_fixAfterInsertion_6 := dk_seg dksJ25_fixAfterInsertion_5 24 rfl rfl
theorem dksJ25_fixAfterInsertion_7 : cJ25_fixAfterInsertion.data.toList.drop 166 = dktJ25_fixAfterInsertion_7 := dk_seg dksJ25_fixAfterInsertion_6 24 rfl rfl
theorem dksJ25_fixAfterInsertion_8 : cJ25_fixAfterInsertion.data.toList.drop 190 = dktJ25_fixAfterInsertion_8 := dk_seg dksJ25_fixAfterInsertion_7 24 rfl rfl
theorem dksJ25_fixAfterInsertion_9 : cJ25_fixAfterInsertion.data.toList.drop 212 = dktJ25_fixAfterInsertion_9 := dk_seg dksJ25_fixAfterInsertion_8 22 rfl rfl
theorem dksJ25_fixAfterInsertion_10 : cJ25_fixAfterInsertion.data.toList.drop 234 = dktJ25_fixAfterInsertion_10 := dk_seg dksJ25_fixAfterInsertion_9 22 rfl rfl
theorem dksJ25_fixAfterInsertion_11 : cJ25_fixAfterInsertion.data.toList.drop 258 = dktJ25_fixAfterInsertion_11 := dk_seg dksJ25_fixAfterInsertion_10 24 rfl rfl
theorem dJ25_fixAfterInsertion_0 : decode cJ25_fixAfterInsertion 0 = .ok (.aload_n 1, 1) := dk_43 (dk_at dksJ25_fixAfterInsertion_0 0 rfl rfl)
theorem dJ25_fixAfterInsertion_1 : decode cJ25_fixAfterInsertion 1 = .ok (.iconst 0, 1) := dk_3 (dk_at dksJ25_fixAfterInsertion_0 1 rfl rfl)
theorem dJ25_fixAfterInsertion_2 : decode cJ25_fixAfterInsertion 2 = .ok (.putfield 290, 3) := dk_181 1 34 (dk_at dksJ25_fixAfterInsertion_0 2 rfl rfl)
theorem dJ25_fixAfterInsertion_5 : decode cJ25_fixAfterInsertion 5 = .ok (.aload_n 1, 1) := dk_43 (dk_at dksJ25_fixAfterInsertion_0 5 rfl rfl)
theorem dJ25_fixAfterInsertion_6 : decode cJ25_fixAfterInsertion 6 = .ok (.ifnull 252, 3) := dk_198 0 252 (dk_at dksJ25_fixAfterInsertion_0 6 rfl rfl)
theorem dJ25_fixAfterInsertion_9 : decode cJ25_fixAfterInsertion 9 = .ok (.aload_n 1, 1) := dk_43 (dk_at dksJ25_fixAfterInsertion_0 9 rfl rfl)
theorem dJ25_fixAfterInsertion_10 : decode cJ25_fixAfterInsertion 10 = .ok (.aload_n 0, 1) := dk_42 (dk_at dksJ25_fixAfterInsertion_0 10 rfl rfl)
theorem dJ25_fixAfterInsertion_11 : decode cJ25_fixAfterInsertion 11 = .ok (.getfield 101, 3) := dk_180 0 101 (dk_at dksJ25_fixAfterInsertion_0 11 rfl rfl)
theorem dJ25_fixAfterInsertion_14 : decode cJ25_fixAfterInsertion 14 = .ok (.if_acmp .eq 244, 3) := dk_165 0 244 (dk_at dksJ25_fixAfterInsertion_0 14 rfl rfl)
theorem dJ25_fixAfterInsertion_17 : decode cJ25_fixAfterInsertion 17 = .ok (.aload_n 1, 1) := dk_43 (dk_at dksJ25_fixAfterInsertion_0 17 rfl rfl)
theorem dJ25_fixAfterInsertion_18 : decode cJ25_fixAfterInsertion 18 = .ok (.getfield 124, 3) := dk_180 0 124 (dk_at dksJ25_fixAfterInsertion_0 18 rfl rfl)
theorem dJ25_fixAfterInsertion_21 : decode cJ25_fixAfterInsertion 21 = .ok (.getfield 290, 3) := dk_180 1 34 (dk_at dksJ25_fixAfterInsertion_0 21 rfl rfl)
theorem dJ25_fixAfterInsertion_24 : decode cJ25_fixAfterInsertion 24 = .ok (.ifCond .ne 234, 3) := dk_154 0 234 (dk_at dksJ25_fixAfterInsertion_1 0 rfl rfl)
theorem dJ25_fixAfterInsertion_27 : decode cJ25_fixAfterInsertion 27 = .ok (.aload_n 1, 1) := dk_43 (dk_at dksJ25_fixAfterInsertion_1 3 rfl rfl)
theorem dJ25_fixAfterInsertion_28 : decode cJ25_fixAfterInsertion 28 = .ok (.invokestatic 294, 3) := dk_184 1 38 (dk_at dksJ25_fixAfterInsertion_1 4 rfl rfl)
theorem dJ25_fixAfterInsertion_31 : decode cJ25_fixAfterInsertion 31 = .ok (.aload_n 1, 1) := dk_43 (dk_at dksJ25_fixAfterInsertion_1 7 rfl rfl)
theorem dJ25_fixAfterInsertion_32 : decode cJ25_fixAfterInsertion 32 = .ok (.invokestatic 294, 3) := dk_184 1 38 (dk_at dksJ25_fixAfterInsertion_1 8 rfl rfl)
theorem dJ25_fixAfterInsertion_35 : decode cJ25_fixAfterInsertion 35 = .ok (.invokestatic 294, 3) := dk_184 1 38 (dk_at dksJ25_fixAfterInsertion_1 11 rfl rfl)
theorem dJ25_fixAfterInsertion_38 : decode cJ25_fixAfterInsertion 38 = .ok (.invokestatic 297, 3) := dk_184 1 41 (dk_at dksJ25_fixAfterInsertion_1 14 rfl rfl)
theorem dJ25_fixAfterInsertion_41 : decode cJ25_fixAfterInsertion 41 = .ok (.if_acmp .ne 110, 3) := dk_166 0 110 (dk_at dksJ25_fixAfterInsertion_1 17 rfl rfl)
theorem dJ25_fixAfterInsertion_44 : decode cJ25_fixAfterInsertion 44 = .ok (.aload_n 1, 1) := dk_43 (dk_at dksJ25_fixAfterInsertion_1 20 rfl rfl)
theorem dJ25_fixAfterInsertion_45 : decode cJ25_fixAfterInsertion 45 = .ok (.invokestatic 294, 3) := dk_184 1 38 (dk_at dksJ25_fixAfterInsertion_1 21 rfl rfl)
theorem dJ25_fixAfterInsertion_48 : decode cJ25_fixAfterInsertion 48 = .ok (.invokestatic 294, 3) := dk_184 1 38 (dk_at dksJ25_fixAfterInsertion_2 0 rfl rfl)
theorem dJ25_fixAfterInsertion_51 : decode cJ25_fixAfterInsertion 51 = .ok (.invokestatic 300, 3) := dk_184 1 44 (dk_at dksJ25_fixAfterInsertion_2 3 rfl rfl)
theorem dJ25_fixAfterInsertion_54 : decode cJ25_fixAfterInsertion 54 = .ok (.astore_n 2, 1) := dk_77 (dk_at dksJ25_fixAfterInsertion_2 6 rfl rfl)
theorem dJ25_fixAfterInsertion_55 : decode cJ25_fixAfterInsertion 55 = .ok (.aload_n 2, 1) := dk_44 (dk_at dksJ25_fixAfterInsertion_2 7 rfl rfl)
theorem dJ25_fixAfterInsertion_56 : decode cJ25_fixAfterInsertion 56 = .ok (.invokestatic 303, 3) := dk_184 1 47 (dk_at dksJ25_fixAfterInsertion_2 8 rfl rfl)
theorem dJ25_fixAfterInsertion_59 : decode cJ25_fixAfterInsertion 59 = .ok (.ifCond .ne 38, 3) := dk_154 0 38 (dk_at dksJ25_fixAfterInsertion_2 11 rfl rfl)
theorem dJ25_fixAfterInsertion_62 : decode cJ25_fixAfterInsertion 62 = .ok (.aload_n 1, 1) := dk_43 (dk_at dksJ25_fixAfterInsertion_2 14 rfl rfl)
theorem dJ25_fixAfterInsertion_63 : decode cJ25_fixAfterInsertion 63 = .ok (.invokestatic 294, 3) := dk_184 1 38 (dk_at dksJ25_fixAfterInsertion_2 15 rfl rfl)
theorem dJ25_fixAfterInsertion_66 : decode cJ25_fixAfterInsertion 66 = .ok (.iconst 1, 1) := dk_4 (dk_at dksJ25_fixAfterInsertion_2 18 rfl rfl)
theorem dJ25_fixAfterInsertion_67 : decode cJ25_fixAfterInsertion 67 = .ok (.invokestatic 307, 3) := dk_184 1 51 (dk_at dksJ25_fixAfterInsertion_2 19 rfl rfl)
theorem dJ25_fixAfterInsertion_70 : decode cJ25_fixAfterInsertion 70 = .ok (.aload_n 2, 1) := dk_44 (dk_at dksJ25_fixAfterInsertion_2 22 rfl rfl)
theorem dJ25_fixAfterInsertion_71 : decode cJ25_fixAfterInsertion 71 = .ok (.iconst 1, 1) := dk_4 (dk_at dksJ25_fixAfterInsertion_2 23 rfl rfl)
theorem dJ25_fixAfterInsertion_72 : decode cJ25_fixAfterInsertion 72 = .ok (.invokestatic 307, 3) := dk_184 1 51 (dk_at dksJ25_fixAfterInsertion_3 0 rfl rfl)
theorem dJ25_fixAfterInsertion_75 : decode cJ25_fixAfterInsertion 75 = .ok (.aload_n 1, 1) := dk_43 (dk_at dksJ25_fixAfterInsertion_3 3 rfl rfl)
theorem dJ25_fixAfterInsertion_76 : decode cJ25_fixAfterInsertion 76 = .ok (.invokestatic 294, 3) := dk_184 1 38 (dk_at dksJ25_fixAfterInsertion_3 4 rfl rfl)
theorem dJ25_fixAfterInsertion_79 : decode cJ25_fixAfterInsertion 79 = .ok (.invokestatic 294, 3) := dk_184 1 38 (dk_at dksJ25_fixAfterInsertion_3 7 rfl rfl)
theorem dJ25_fixAfterInsertion_82 : decode cJ25_fixAfterInsertion 82 = .ok (.iconst 0, 1) := dk_3 (dk_at dksJ25_fixAfterInsertion_3 10 rfl rfl)
theorem dJ25_fixAfterInsertion_83 : decode cJ25_fixAfterInsertion 83 = .ok (.invokestatic 307, 3) := dk_184 1 51 (dk_at dksJ25_fixAfterInsertion_3 11 rfl rfl)
theorem dJ25_fixAfterInsertion_86 : decode cJ25_fixAfterInsertion 86 = .ok (.aload_n 1, 1) := dk_43 (dk_at dksJ25_fixAfterInsertion_3 14 rfl rfl)
theorem dJ25_fixAfterInsertion_87 : decode cJ25_fixAfterInsertion 87 = .ok (.invokestatic 294, 3) := dk_184 1 38 (dk_at dksJ25_fixAfterInsertion_3 15 rfl rfl)
theorem dJ25_fixAfterInsertion_90 : decode cJ25_fixAfterInsertion 90 = .ok (.invokestatic 294, 3) := dk_184 1 38 (dk_at dksJ25_fixAfterInsertion_3 18 rfl rfl)
theorem dJ25_fixAfterInsertion_93 : decode cJ25_fixAfterInsertion 93 = .ok (.astore_n 1, 1) := dk_76 (dk_at dksJ25_fixAfterInsertion_3 21 rfl rfl)
theorem dJ25_fixAfterInsertion_94 : decode cJ25_fixAfterInsertion 94 = .ok (.goto 54, 3) := dk_167 0 54 (dk_at dksJ25_fixAfterInsertion_4 0 rfl rfl)
theorem dJ25_fixAfterInsertion_97 : decode cJ25_fixAfterInsertion 97 = .ok (.aload_n 1, 1) := dk_43 (dk_at dksJ25_fixAfterInsertion_4 3 rfl rfl)
theorem dJ25_fixAfterInsertion_98 : decode cJ25_fixAfterInsertion 98 = .ok (.aload_n 1, 1) := dk_43 (dk_at dksJ25_fixAfterInsertion_4 4 rfl rfl)
theorem dJ25_fixAfterInsertion_99 : decode cJ25_fixAfterInsertion 99 = .ok (.invokestatic 294, 3) := dk_184 1 38 (dk_at dksJ25_fixAfterInsertion_4 5 rfl rfl)
theorem dJ25_fixAfterInsertion_102 : decode cJ25_fixAfterInsertion 102 = .ok (.invokestatic 300, 3) := dk_184 1 44 (dk_at dksJ25_fixAfterInsertion_4 8 rfl rfl)
theorem dJ25_fixAfterInsertion_105 : decode cJ25_fixAfterInsertion 105 = .ok (.if_acmp .ne 13, 3) := dk_166 0 13 (dk_at dksJ25_fixAfterInsertion_4 11 rfl rfl)
theorem dJ25_fixAfterInsertion_108 : decode cJ25_fixAfterInsertion 108 = .ok (.aload_n 1, 1) := dk_43 (dk_at dksJ25_fixAfterInsertion_4 14 rfl rfl)
theorem dJ25_fixAfterInsertion_109 : decode cJ25_fixAfterInsertion 109 = .ok (.invokestatic 294, 3) := dk_184 1 38 (dk_at dksJ25_fixAfterInsertion_4 15 rfl rfl)
theorem dJ25_fixAfterInsertion_112 : decode cJ25_fixAfterInsertion 112 = .ok (.astore_n 1, 1) := dk_76 (dk_at dksJ25_fixAfterInsertion_4 18 rfl rfl)
theorem dJ25_fixAfterInsertion_113 : decode cJ25_fixAfterInsertion 113 = .ok (.aload_n 0, 1) := dk_42 (dk_at dksJ25_fixAfterInsertion_4 19 rfl rfl)
theorem dJ25_fixAfterInsertion_114 : decode cJ25_fixAfterInsertion 114 = .ok (.aload_n 1, 1) := dk_43 (dk_at dksJ25_fixAfterInsertion_4 20 rfl rfl)
theorem dJ25_fixAfterInsertion_115 : decode cJ25_fixAfterInsertion 115 = .ok (.invokevirtual 311, 3) := dk_182 1 55 (dk_at dksJ25_fixAfterInsertion_4 21 rfl rfl)
theorem dJ25_fixAfterInsertion_118 : decode cJ25_fixAfterInsertion 118 = .ok (.aload_n 1, 1) := dk_43 (dk_at dksJ25_fixAfterInsertion_5 0 rfl rfl)
theorem dJ25_fixAfterInsertion_119 : decode cJ25_fixAfterInsertion 119 = .ok (.invokestatic 294, 3) := dk_184 1 38 (dk_at dksJ25_fixAfterInsertion_5 1 rfl rfl)
theorem dJ25_fixAfterInsertion_122 : decode cJ25_fixAfterInsertion 122 = .ok (.iconst 1, 1) := dk_4 (dk_at dksJ25_fixAfterInsertion_5 4 rfl rfl)
theorem dJ25_fixAfterInsertion_123 : decode cJ25_fixAfterInsertion 123 = .ok (.invokestatic 307, 3) := dk_184 1 51 (dk_at dksJ25_fixAfterInsertion_5 5 rfl rfl)
theorem dJ25_fixAfterInsertion_126 : decode cJ25_fixAfterInsertion 126 = .ok (.aload_n 1, 1) := dk_43 (dk_at dksJ25_fixAfterInsertion_5 8 rfl rfl)
theorem dJ25_fixAfterInsertion_127 : decode cJ25_fixAfterInsertion 127 = .ok (.invokestatic 294, 3) := dk_184 1 38 (dk_at dksJ25_fixAfterInsertion_5 9 rfl rfl)
theorem dJ25_fixAfterInsertion_130 : decode cJ25_fixAfterInsertion 130 = .ok (.invokestatic 294, 3) := dk_184 1 38 (dk_at dksJ25_fixAfterInsertion_5 12 rfl rfl)
theorem dJ25_fixAfterInsertion_133 : decode cJ25_fixAfterInsertion 133 = .ok (.iconst 0, 1) := dk_3 (dk_at dksJ25_fixAfterInsertion_5 15 rfl rfl)
theorem dJ25_fixAfterInsertion_134 : decode cJ25_fixAfterInsertion 134 = .ok (.invokestatic 307, 3) := dk_184 1 51 (dk_at dksJ25_fixAfterInsertion_5 16 rfl rfl)
theorem dJ25_fixAfterInsertion_137 : decode cJ25_fixAfterInsertion 137 = .ok (.aload_n 0, 1) := dk_42 (dk_at dksJ25_fixAfterInsertion_5 19 rfl rfl)
theorem dJ25_fixAfterInsertion_138 : decode cJ25_fixAfterInsertion 138 = .ok (.aload_n 1, 1) := dk_43 (dk_at dksJ25_fixAfterInsertion_5 20 rfl rfl)
theorem dJ25_fixAfterInsertion_139 : decode cJ25_fixAfterInsertion 139 = .ok (.invokestatic 294, 3) := dk_184 1 38 (dk_at dksJ25_fixAfterInsertion_5 21 rfl rfl)
theorem dJ25_fixAfterInsertion_142 : decode cJ25_fixAfterInsertion 142 = .ok (.invokestatic 294, 3) := dk_184 1 38 (dk_at dksJ25_fixAfterInsertion_6 0 rfl rfl)
theorem dJ25_fixAfterInsertion_145 : decode cJ25_fixAfterInsertion 145 = .ok (.invokevirtual 314, 3) := dk_182 1 58 (dk_at dksJ25_fixAfterInsertion_6 3 rfl rfl)
theorem dJ25_fixAfterInsertion_148 : decode cJ25_fixAfterInsertion 148 = .ok (.goto (-143), 3) := dk_167 255 113 (dk_at dksJ25_fixAfterInsertion_6 6 rfl rfl)
theorem dJ25_fixAfterInsertion_151 : decode cJ25_fixAfterInsertion 151 = .ok (.aload_n 1, 1) := dk_43 (dk_at dksJ25_fixAfterInsertion_6 9 rfl rfl)
theorem dJ25_fixAfterInsertion_152 : decode cJ25_fixAfterInsertion 152 = .ok (.invokestatic 294, 3) := dk_184 1 38 (dk_at dksJ25_fixAfterInsertion_6 10 rfl rfl)
theorem dJ25_fixAfterInsertion_155 : decode cJ25_fixAfterInsertion 155 = .ok (.invokestatic 294, 3) := dk_184 1 38 (dk_at dksJ25_fixAfterInsertion_6 13 rfl rfl)
theorem dJ25_fixAfterInsertion_158 : decode cJ25_fixAfterInsertion 158 = .ok (.invokestatic 297, 3) := dk_184 1 41 (dk_at dksJ25_fixAfterInsertion_6 16 rfl rfl)
theorem dJ25_fixAfterInsertion_161 : decode cJ25_fixAfterInsertion 161 = .ok (.astore_n 2, 1) := dk_77 (dk_at dksJ25_fixAfterInsertion_6 19 rfl rfl)
theorem dJ25_fixAfterInsertion_162 : decode cJ25_fixAfterInsertion 162 = .ok (.aload_n 2, 1) := dk_44 (dk_at dksJ25_fixAfterInsertion_6 20 rfl rfl)
theorem dJ25_fixAfterInsertion_163 : decode cJ25_fixAfterInsertion 163 = .ok (.invokestatic 303, 3) := dk_184 1 47 (dk_at dksJ25_fixAfterInsertion_6 21 rfl rfl)
theorem dJ25_fixAfterInsertion_166 : decode cJ25_fixAfterInsertion 166 = .ok (.ifCond .ne 38, 3) := dk_154 0 38 (dk_at dksJ25_fixAfterInsertion_7 0 rfl rfl)
theorem dJ25_fixAfterInsertion_169 : decode cJ25_fixAfterInsertion 169 = .ok (.aload_n 1, 1) := dk_43 (dk_at dksJ25_fixAfterInsertion_7 3 rfl rfl)
theorem dJ25_fixAfterInsertion_170 : decode cJ25_fixAfterInsertion 170 = .ok (.invokestatic 294, 3) := dk_184 1 38 (dk_at dksJ25_fixAfterInsertion_7 4 rfl rfl)
theorem dJ25_fixAfterInsertion_173 : decode cJ25_fixAfterInsertion 173 = .ok (.iconst 1, 1) := dk_4 (dk_at dksJ25_fixAfterInsertion_7 7 rfl rfl)
theorem dJ25_fixAfterInsertion_174 : decode cJ25_fixAfterInsertion 174 = .ok (.invokestatic 307, 3) := dk_184 1 51 (dk_at dksJ25_fixAfterInsertion_7 8 rfl rfl)
theorem dJ25_fixAfterInsertion_177 : decode cJ25_fixAfterInsertion 177 = .ok (.aload_n 2, 1) := dk_44 (dk_at dksJ25_fixAfterInsertion_7 11 rfl rfl)
theorem dJ25_fixAfterInsertion_178 : decode cJ25_fixAfterInsertion 178 = .ok (.iconst 1, 1) := dk_4 (dk_at dksJ25_fixAfterInsertion_7 12 rfl rfl)
theorem dJ25_fixAfterInsertion_179 : decode cJ25_fixAfterInsertion 179 = .ok (.invokestatic 307, 3) := dk_184 1 51 (dk_at dksJ25_fixAfterInsertion_7 13 rfl rfl)
theorem dJ25_fixAfterInsertion_182 : decode cJ25_fixAfterInsertion 182 = .ok (.aload_n 1, 1) := dk_43 (dk_at dksJ25_fixAfterInsertion_7 16 rfl rfl)
theorem dJ25_fixAfterInsertion_183 : decode cJ25_fixAfterInsertion 183 = .ok (.invokestatic 294, 3) := dk_184 1 38 (dk_at dksJ25_fixAfterInsertion_7 17 rfl rfl)
theorem dJ25_fixAfterInsertion_186 : decode cJ25_fixAfterInsertion 186 = .ok (.invokestatic 294, 3) := dk_184 1 38 (dk_at dksJ25_fixAfterInsertion_7 20 rfl rfl)
theorem dJ25_fixAfterInsertion_189 : decode cJ25_fixAfterInsertion 189 = .ok (.iconst 0, 1) := dk_3 (dk_at dksJ25_fixAfterInsertion_7 23 rfl rfl)
theorem dJ25_fixAfterInsertion_190 : decode cJ25_fixAfterInsertion 190 = .ok (.invokestatic 307, 3) := dk_184 1 51 (dk_at dksJ25_fixAfterInsertion_8 0 rfl rfl)
theorem dJ25_fixAfterInsertion_193 : decode cJ25_fixAfterInsertion 193 = .ok (.aload_n 1, 1) := dk_43 (dk_at dksJ25_fixAfterInsertion_8 3 rfl rfl)
theorem dJ25_fixAfterInsertion_194 : decode cJ25_fixAfterInsertion 194 = .ok (.invokestatic 294, 3) := dk_184 1 38 (dk_at dksJ25_fixAfterInsertion_8 4 rfl rfl)
theorem dJ25_fixAfterInsertion_197 : decode cJ25_fixAfterInsertion 197 = .ok (.invokestatic 294, 3) := dk_184 1 38 (dk_at dksJ25_fixAfterInsertion_8 7 rfl rfl)
theorem dJ25_fixAfterInsertion_200 : decode cJ25_fixAfterInsertion 200 = .ok (.astore_n 1, 1) := dk_76 (dk_at dksJ25_fixAfterInsertion_8 10 rfl rfl)
theorem dJ25_fixAfterInsertion_201 : decode cJ25_fixAfterInsertion 201 = .ok (.goto 54, 3) := dk_167 0 54 (dk_at dksJ25_fixAfterInsertion_8 11 rfl rfl)
theorem dJ25_fixAfterInsertion_204 : decode cJ25_fixAfterInsertion 204 = .ok (.aload_n 1, 1) := dk_43 (dk_at dksJ25_fixAfterInsertion_8 14 rfl rfl)
theorem dJ25_fixAfterInsertion_205 : decode cJ25_fixAfterInsertion 205 = .ok (.aload_n 1, 1) := dk_43 (dk_at dksJ25_fixAfterInsertion_8 15 rfl rfl)
theorem dJ25_fixAfterInsertion_206 : decode cJ25_fixAfterInsertion 206 = .ok (.invokestatic 294, 3) := dk_184 1 38 (dk_at dksJ25_fixAfterInsertion_8 16 rfl rfl)
theorem dJ25_fixAfterInsertion_209 : decode cJ25_fixAfterInsertion 209 = .ok (.invokestatic 297, 3) := dk_184 1 41 (dk_at dksJ25_fixAfterInsertion_8 19 rfl rfl)
theorem dJ25_fixAfterInsertion_212 : decode cJ25_fixAfterInsertion 212 = .ok (.if_acmp .ne 13, 3) := dk_166 0 13 (dk_at dksJ25_fixAfterInsertion_9 0 rfl rfl)
theorem dJ25_fixAfterInsertion_215 : decode cJ25_fixAfterInsertion 215 = .ok (.aload_n 1, 1) := dk_43 (dk_at dksJ25_fixAfterInsertion_9 3 rfl rfl)
theorem dJ25_fixAfterInsertion_216 : decode cJ25_fixAfterInsertion 216 = .ok (.invokestatic 294, 3) := dk_184 1 38 (dk_at dksJ25_fixAfterInsertion_9 4 rfl rfl)
theorem dJ25_fixAfterInsertion_219 : decode cJ25_fixAfterInsertion 219 = .ok (.astore_n 1, 1) := dk_76 (dk_at dksJ25_fixAfterInsertion_9 7 rfl rfl)
theorem dJ25_fixAfterInsertion_220 : decode cJ25_fixAfterInsertion 220 = .ok (.aload_n 0, 1) := dk_42 (dk_at dksJ25_fixAfterInsertion_9 8 rfl rfl)
theorem dJ25_fixAfterInsertion_221 : decode cJ25_fixAfterInsertion 221 = .ok (.aload_n 1, 1) := dk_43 (dk_at dksJ25_fixAfterInsertion_9 9 rfl rfl)
theorem dJ25_fixAfterInsertion_222 : decode cJ25_fixAfterInsertion 222 = .ok (.invokevirtual 314, 3) := dk_182 1 58 (dk_at dksJ25_fixAfterInsertion_9 10 rfl rfl)
theorem dJ25_fixAfterInsertion_225 : decode cJ25_fixAfterInsertion 225 = .ok (.aload_n 1, 1) := dk_43 (dk_at dksJ25_fixAfterInsertion_9 13 rfl rfl)
theorem dJ25_fixAfterInsertion_226 : decode cJ25_fixAfterInsertion 226 = .ok (.invokestatic 294, 3) := dk_184 1 38 (dk_at dksJ25_fixAfterInsertion_9 14 rfl rfl)
theorem dJ25_fixAfterInsertion_229 : decode cJ25_fixAfterInsertion 229 = .ok (.iconst 1, 1) := dk_4 (dk_at dksJ25_fixAfterInsertion_9 17 rfl rfl)
theorem dJ25_fixAfterInsertion_230 : decode cJ25_fixAfterInsertion 230 = .ok (.invokestatic 307, 3) := dk_184 1 51 (dk_at dksJ25_fixAfterInsertion_9 18 rfl rfl)
theorem dJ25_fixAfterInsertion_233 : decode cJ25_fixAfterInsertion 233 = .ok (.aload_n 1, 1) := dk_43 (dk_at dksJ25_fixAfterInsertion_9 21 rfl rfl)
theorem dJ25_fixAfterInsertion_234 : decode cJ25_fixAfterInsertion 234 = .ok (.invokestatic 294, 3) := dk_184 1 38 (dk_at dksJ25_fixAfterInsertion_10 0 rfl rfl)
theorem dJ25_fixAfterInsertion_237 : decode cJ25_fixAfterInsertion 237 = .ok (.invokestatic 294, 3) := dk_184 1 38 (dk_at dksJ25_fixAfterInsertion_10 3 rfl rfl)
theorem dJ25_fixAfterInsertion_240 : decode cJ25_fixAfterInsertion 240 = .ok (.iconst 0, 1) := dk_3 (dk_at dksJ25_fixAfterInsertion_10 6 rfl rfl)
theorem dJ25_fixAfterInsertion_241 : decode cJ25_fixAfterInsertion 241 = .ok (.invokestatic 307, 3) := dk_184 1 51 (dk_at dksJ25_fixAfterInsertion_10 7 rfl rfl)
theorem dJ25_fixAfterInsertion_244 : decode cJ25_fixAfterInsertion 244 = .ok (.aload_n 0, 1) := dk_42 (dk_at dksJ25_fixAfterInsertion_10 10 rfl rfl)
theorem dJ25_fixAfterInsertion_245 : decode cJ25_fixAfterInsertion 245 = .ok (.aload_n 1, 1) := dk_43 (dk_at dksJ25_fixAfterInsertion_10 11 rfl rfl)
theorem dJ25_fixAfterInsertion_246 : decode cJ25_fixAfterInsertion 246 = .ok (.invokestatic 294, 3) := dk_184 1 38 (dk_at dksJ25_fixAfterInsertion_10 12 rfl rfl)
theorem dJ25_fixAfterInsertion_249 : decode cJ25_fixAfterInsertion 249 = .ok (.invokestatic 294, 3) := dk_184 1 38 (dk_at dksJ25_fixAfterInsertion_10 15 rfl rfl)
theorem dJ25_fixAfterInsertion_252 : decode cJ25_fixAfterInsertion 252 = .ok (.invokevirtual 311, 3) := dk_182 1 55 (dk_at dksJ25_fixAfterInsertion_10 18 rfl rfl)
theorem dJ25_fixAfterInsertion_255 : decode cJ25_fixAfterInsertion 255 = .ok (.goto (-250), 3) := dk_167 255 6 (dk_at dksJ25_fixAfterInsertion_10 21 rfl rfl)
theorem dJ25_fixAfterInsertion_258 : decode cJ25_fixAfterInsertion 258 = .ok (.aload_n 0, 1) := dk_42 (dk_at dksJ25_fixAfterInsertion_11 0 rfl rfl)
theorem dJ25_fixAfterInsertion_259 : decode cJ25_fixAfterInsertion 259 = .ok (.getfield 101, 3) := dk_180 0 101 (dk_at dksJ25_fixAfterInsertion_11 1 rfl rfl)
theorem dJ25_fixAfterInsertion_262 : decode cJ25_fixAfterInsertion 262 = .ok (.iconst 1, 1) := dk_4 (dk_at dksJ25_fixAfterInsertion_11 4 rfl rfl)
theorem dJ25_fixAfterInsertion_263 : decode cJ25_fixAfterInsertion 263 = .ok (.putfield 290, 3) := dk_181 1 34 (dk_at dksJ25_fixAfterInsertion_11 5 rfl rfl)
theorem dJ25_fixAfterInsertion_266 : decode cJ25_fixAfterInsertion 266 = .ok (.return_, 1) := dk_177 (dk_at dksJ25_fixAfterInsertion_11 8 rfl rfl)
theorem c_60_0 : LkP (OkP 60) [(0, o_aload 1 1), (1, o_push 1 (.int 0)), (2, o_put 115 5), (5, o_aload 1 1), (6, o_ifnull 258), (9, o_aload 1 1), (10, o_aload 0 1), (11, o_get 103), (14, o_acmp true 258), (17, o_aload 1 1), (18, o_get 114), (21, o_get 115), (24, o_if (fun x => decide (¬ x = 0)) 258), (27, o_aload 1 1), (28, o_cs 61 1 false none), (31, o_aload 1 1), (32, o_cs 61 1 false none), (35, o_cs 61 1 false none), (38, o_cs 62 1 false none), (41, o_acmp false 151), (44, o_aload 1 1), (45, o_cs 61 1 false none), (48, o_cs 61 1 false none), (51, o_cs 63 1 false none), (54, o_astore 2 1), (55, o_aload 2 1), (56, o_cs 64 1 false none), (59, o_if (fun x => decide (¬ x = 0)) 97), (62, o_aload 1 1), (63, o_cs 61 1 false none)] := lkp_c (P := OkP 60) ⟨(PuOK.ok (ok_aload_n dJ25_fixAfterInsertion_0 rfl)), m_aload⟩ (
  lkp_c (P := OkP 60) ⟨(PuOK.ok (ok_iconst dJ25_fixAfterInsertion_1 rfl)), m_push⟩ (
  lkp_c (P := OkP 60) ⟨ok_put ⟨"java/util/TreeMap$Entry", q2308, Or.inl rfl⟩ rfl fd_115 rfl dJ25_fixAfterInsertion_2, m_put⟩ (
  lkp_c (P := OkP 60) ⟨(PuOK.ok (ok_aload_n dJ25_fixAfterInsertion_5 rfl)), m_aload⟩ (
  lkp_c (P := OkP 60) ⟨(PuOK.ok (ok_ifnull dJ25_fixAfterInsertion_6 rfl)), m_ifnull⟩ (
  lkp_c (P := OkP 60) ⟨(PuOK.ok (ok_aload_n dJ25_fixAfterInsertion_9 rfl)), m_aload⟩ (
  lkp_c (P := OkP 60) ⟨(PuOK.ok (ok_aload_n dJ25_fixAfterInsertion_10 rfl)), m_aload⟩ (
  lkp_c (P := OkP 60) ⟨ok_get ⟨"java/util/TreeMap", q2231, Or.inl rfl⟩ dJ25_fixAfterInsertion_11, m_get⟩ (
  lkp_c (P := OkP 60) ⟨(PuOK.ok (ok_acmp_eq dJ25_fixAfterInsertion_14 rfl)), m_acmp⟩ (
  lkp_c (P := OkP 60) ⟨(PuOK.ok (ok_aload_n dJ25_fixAfterInsertion_17 rfl)), m_aload⟩ (
  lkp_c (P := OkP 60) ⟨ok_get ⟨"java/util/TreeMap$Entry", q2306, Or.inl rfl⟩ dJ25_fixAfterInsertion_18, m_get⟩ (
  lkp_c (P := OkP 60) ⟨ok_get ⟨"java/util/TreeMap$Entry", q2308, Or.inl rfl⟩ dJ25_fixAfterInsertion_21, m_get⟩ (
  lkp_c (P := OkP 60) ⟨(PuOK.ok (ok_if_ne dJ25_fixAfterInsertion_24 rfl)), m_if⟩ (
  lkp_c (P := OkP 60) ⟨(PuOK.ok (ok_aload_n dJ25_fixAfterInsertion_27 rfl)), m_aload⟩ (
  lkp_c (P := OkP 60) ⟨ok_cs (tg_S ⟨rfl, by decide⟩ q2335 q2336 q152 q2337 ⟨cn_17.1, cn_17.2, pd_35⟩ dJ25_fixAfterInsertion_28) hd_no, m_cs⟩ (
  lkp_c (P := OkP 60) ⟨(PuOK.ok (ok_aload_n dJ25_fixAfterInsertion_31 rfl)), m_aload⟩ (
  lkp_c (P := OkP 60) ⟨ok_cs (tg_S ⟨rfl, by decide⟩ q2335 q2336 q152 q2337 ⟨cn_17.1, cn_17.2, pd_35⟩ dJ25_fixAfterInsertion_32) hd_no, m_cs⟩ (
  lkp_c (P := OkP 60) ⟨ok_cs (tg_S ⟨rfl, by decide⟩ q2335 q2336 q152 q2337 ⟨cn_17.1, cn_17.2, pd_35⟩ dJ25_fixAfterInsertion_35) hd_no, m_cs⟩ (
  lkp_c (P := OkP 60) ⟨ok_cs (tg_S ⟨rfl, by decide⟩ q2338 q2339 q152 q2340 ⟨cn_17.1, cn_17.2, pd_35⟩ dJ25_fixAfterInsertion_38) hd_no, m_cs⟩ (
  lkp_c (P := OkP 60) ⟨(PuOK.ok (ok_acmp_ne dJ25_fixAfterInsertion_41 rfl)), m_acmp⟩ (
  lkp_c (P := OkP 60) ⟨(PuOK.ok (ok_aload_n dJ25_fixAfterInsertion_44 rfl)), m_aload⟩ (
  lkp_c (P := OkP 60) ⟨ok_cs (tg_S ⟨rfl, by decide⟩ q2335 q2336 q152 q2337 ⟨cn_17.1, cn_17.2, pd_35⟩ dJ25_fixAfterInsertion_45) hd_no, m_cs⟩ (
  lkp_c (P := OkP 60) ⟨ok_cs (tg_S ⟨rfl, by decide⟩ q2335 q2336 q152 q2337 ⟨cn_17.1, cn_17.2, pd_35⟩ dJ25_fixAfterInsertion_48) hd_no, m_cs⟩ (
  lkp_c (P := OkP 60) ⟨ok_cs (tg_S ⟨rfl, by decide⟩ q2341 q2342 q152 q2343 ⟨cn_17.1, cn_17.2, pd_35⟩ dJ25_fixAfterInsertion_51) hd_no, m_cs⟩ (
  lkp_c (P := OkP 60) ⟨(PuOK.ok (ok_astore_n dJ25_fixAfterInsertion_54 rfl)), m_astore⟩ (
  lkp_c (P := OkP 60) ⟨(PuOK.ok (ok_aload_n dJ25_fixAfterInsertion_55 rfl)), m_aload⟩ (
  lkp_c (P := OkP 60) ⟨ok_cs (tg_S ⟨rfl, by decide⟩ q2344 q2345 q152 q2346 ⟨cn_17.1, cn_17.2, pd_36⟩ dJ25_fixAfterInsertion_56) hd_no, m_cs⟩ (
  lkp_c (P := OkP 60) ⟨(PuOK.ok (ok_if_ne dJ25_fixAfterInsertion_59 rfl)), m_if⟩ (
  lkp_c (P := OkP 60) ⟨(PuOK.ok (ok_aload_n dJ25_fixAfterInsertion_62 rfl)), m_aload⟩ (
  lkp_c (P := OkP 60) ⟨ok_cs (tg_S ⟨rfl, by decide⟩ q2335 q2336 q152 q2337 ⟨cn_17.1, cn_17.2, pd_35⟩ dJ25_fixAfterInsertion_63) hd_no, m_cs⟩ (
  trivial))))))))))))))))))))))))))))))
theorem c_60_1 : LkP (OkP 60) [(66, o_push 1 (.int 1)), (67, o_cs 65 2 true none), (70, o_aload 2 1), (71, o_push 1 (.int 1)), (72, o_cs 65 2 true none), (75, o_aload 1 1), (76, o_cs 61 1 false none), (79, o_cs 61 1 false none), (82, o_push 1 (.int 0)), (83, o_cs 65 2 true none), (86, o_aload 1 1), (87, o_cs 61 1 false none), (90, o_cs 61 1 false none), (93, o_astore 1 1), (94, o_goto 148), (97, o_aload 1 1), (98, o_aload 1 1), (99, o_cs 61 1 false none), (102, o_cs 63 1 false none), (105, o_acmp false 118), (108, o_aload 1 1), (109, o_cs 61 1 false none), (112, o_astore 1 1), (113, o_aload 0 1), (114, o_aload 1 1), (115, o_cv [(20, 66)] 1 3 true none), (118, o_aload 1 1), (119, o_cs 61 1 false none), (122, o_push 1 (.int 1)), (123, o_cs 65 2 true none), (126, o_aload 1 1), (127, o_cs 61 1 false none)] := lkp_c (P := OkP 60) ⟨(PuOK.ok (ok_iconst dJ25_fixAfterInsertion_66 rfl)), m_push⟩ (
  lkp_c (P := OkP 60) ⟨ok_cs (tg_S ⟨rfl, by decide⟩ q2347 q2348 q152 q2349 ⟨cn_17.1, cn_17.2, pd_37⟩ dJ25_fixAfterInsertion_67) hd_no, m_cs⟩ (
  lkp_c (P := OkP 60) ⟨(PuOK.ok (ok_aload_n dJ25_fixAfterInsertion_70 rfl)), m_aload⟩ (
  lkp_c (P := OkP 60) ⟨(PuOK.ok (ok_iconst dJ25_fixAfterInsertion_71 rfl)), m_push⟩ (
  lkp_c (P := OkP 60) ⟨ok_cs (tg_S ⟨rfl, by decide⟩ q2347 q2348 q152 q2349 ⟨cn_17.1, cn_17.2, pd_37⟩ dJ25_fixAfterInsertion_72) hd_no, m_cs⟩ (
  lkp_c (P := OkP 60) ⟨(PuOK.ok (ok_aload_n dJ25_fixAfterInsertion_75 rfl)), m_aload⟩ (
  lkp_c (P := OkP 60) ⟨ok_cs (tg_S ⟨rfl, by decide⟩ q2335 q2336 q152 q2337 ⟨cn_17.1, cn_17.2, pd_35⟩ dJ25_fixAfterInsertion_76) hd_no, m_cs⟩ (
  lkp_c (P := OkP 60) ⟨ok_cs (tg_S ⟨rfl, by decide⟩ q2335 q2336 q152 q2337 ⟨cn_17.1, cn_17.2, pd_35⟩ dJ25_fixAfterInsertion_79) hd_no, m_cs⟩ (
  lkp_c (P := OkP 60) ⟨(PuOK.ok (ok_iconst dJ25_fixAfterInsertion_82 rfl)), m_push⟩ (
  lkp_c (P := OkP 60) ⟨ok_cs (tg_S ⟨rfl, by decide⟩ q2347 q2348 q152 q2349 ⟨cn_17.1, cn_17.2, pd_37⟩ dJ25_fixAfterInsertion_83) hd_no, m_cs⟩ (
  lkp_c (P := OkP 60) ⟨(PuOK.ok (ok_aload_n dJ25_fixAfterInsertion_86 rfl)), m_aload⟩ (
  lkp_c (P := OkP 60) ⟨ok_cs (tg_S ⟨rfl, by decide⟩ q2335 q2336 q152 q2337 ⟨cn_17.1, cn_17.2, pd_35⟩ dJ25_fixAfterInsertion_87) hd_no, m_cs⟩ (
  lkp_c (P := OkP 60) ⟨ok_cs (tg_S ⟨rfl, by decide⟩ q2335 q2336 q152 q2337 ⟨cn_17.1, cn_17.2, pd_35⟩ dJ25_fixAfterInsertion_90) hd_no, m_cs⟩ (
  lkp_c (P := OkP 60) ⟨(PuOK.ok (ok_astore_n dJ25_fixAfterInsertion_93 rfl)), m_astore⟩ (
  lkp_c (P := OkP 60) ⟨(PuOK.ok (ok_goto dJ25_fixAfterInsertion_94 rfl)), m_goto⟩ (
  lkp_c (P := OkP 60) ⟨(PuOK.ok (ok_aload_n dJ25_fixAfterInsertion_97 rfl)), m_aload⟩ (
  lkp_c (P := OkP 60) ⟨(PuOK.ok (ok_aload_n dJ25_fixAfterInsertion_98 rfl)), m_aload⟩ (
  lkp_c (P := OkP 60) ⟨ok_cs (tg_S ⟨rfl, by decide⟩ q2335 q2336 q152 q2337 ⟨cn_17.1, cn_17.2, pd_35⟩ dJ25_fixAfterInsertion_99) hd_no, m_cs⟩ (
  lkp_c (P := OkP 60) ⟨ok_cs (tg_S ⟨rfl, by decide⟩ q2341 q2342 q152 q2343 ⟨cn_17.1, cn_17.2, pd_35⟩ dJ25_fixAfterInsertion_102) hd_no, m_cs⟩ (
  lkp_c (P := OkP 60) ⟨(PuOK.ok (ok_acmp_ne dJ25_fixAfterInsertion_105 rfl)), m_acmp⟩ (
  lkp_c (P := OkP 60) ⟨(PuOK.ok (ok_aload_n dJ25_fixAfterInsertion_108 rfl)), m_aload⟩ (
  lkp_c (P := OkP 60) ⟨ok_cs (tg_S ⟨rfl, by decide⟩ q2335 q2336 q152 q2337 ⟨cn_17.1, cn_17.2, pd_35⟩ dJ25_fixAfterInsertion_109) hd_no, m_cs⟩ (
  lkp_c (P := OkP 60) ⟨(PuOK.ok (ok_astore_n dJ25_fixAfterInsertion_112 rfl)), m_astore⟩ (
  lkp_c (P := OkP 60) ⟨(PuOK.ok (ok_aload_n dJ25_fixAfterInsertion_113 rfl)), m_aload⟩ (
  lkp_c (P := OkP 60) ⟨(PuOK.ok (ok_aload_n dJ25_fixAfterInsertion_114 rfl)), m_aload⟩ (
  lkp_c (P := OkP 60) ⟨ok_cv (List.forall_mem_cons.mpr ⟨tg_V (ci := 20) (r := CLr 20) (y := 66) rfl ⟨rfl, by decide⟩ rfl q2350 q2352 qs30 q152 q2353 ⟨cn_17.1, cn_17.2, pd_34⟩ dJ25_fixAfterInsertion_115, (List.forall_mem_nil _)⟩) hd_no, m_cv⟩ (
  lkp_c (P := OkP 60) ⟨(PuOK.ok (ok_aload_n dJ25_fixAfterInsertion_118 rfl)), m_aload⟩ (
  lkp_c (P := OkP 60) ⟨ok_cs (tg_S ⟨rfl, by decide⟩ q2335 q2336 q152 q2337 ⟨cn_17.1, cn_17.2, pd_35⟩ dJ25_fixAfterInsertion_119) hd_no, m_cs⟩ (
  lkp_c (P := OkP 60) ⟨(PuOK.ok (ok_iconst dJ25_fixAfterInsertion_122 rfl)), m_push⟩ (
  lkp_c (P := OkP 60) ⟨ok_cs (tg_S ⟨rfl, by decide⟩ q2347 q2348 q152 q2349 ⟨cn_17.1, cn_17.2, pd_37⟩ dJ25_fixAfterInsertion_123) hd_no, m_cs⟩ (
  lkp_c (P := OkP 60) ⟨(PuOK.ok (ok_aload_n dJ25_fixAfterInsertion_126 rfl)), m_aload⟩ (
  lkp_c (P := OkP 60) ⟨ok_cs (tg_S ⟨rfl, by decide⟩ q2335 q2336 q152 q2337 ⟨cn_17.1, cn_17.2, pd_35⟩ dJ25_fixAfterInsertion_127) hd_no, m_cs⟩ (
  trivial))))))))))))))))))))))))))))))))
theorem c_60_2 : LkP (OkP 60) [(130, o_cs 61 1 false none), (133, o_push 1 (.int 0)), (134, o_cs 65 2 true none), (137, o_aload 0 1), (138, o_aload 1 1), (139, o_cs 61 1 false none), (142, o_cs 61 1 false none), (145, o_cv [(20, 67)] 1 3 true none), (148, o_goto 5), (151, o_aload 1 1), (152, o_cs 61 1 false none), (155, o_cs 61 1 false none), (158, o_cs 62 1 false none), (161, o_astore 2 1), (162, o_aload 2 1), (163, o_cs 64 1 false none), (166, o_if (fun x => decide (¬ x = 0)) 204), (169, o_aload 1 1), (170, o_cs 61 1 false none), (173, o_push 1 (.int 1)), (174, o_cs 65 2 true none), (177, o_aload 2 1), (178, o_push 1 (.int 1)), (179, o_cs 65 2 true none), (182, o_aload 1 1), (183, o_cs 61 1 false none), (186, o_cs 61 1 false none), (189, o_push 1 (.int 0)), (190, o_cs 65 2 true none)] := lkp_c (P := OkP 60) ⟨ok_cs (tg_S ⟨rfl, by decide⟩ q2335 q2336 q152 q2337 ⟨cn_17.1, cn_17.2, pd_35⟩ dJ25_fixAfterInsertion_130) hd_no, m_cs⟩ (
  lkp_c (P := OkP 60) ⟨(PuOK.ok (ok_iconst dJ25_fixAfterInsertion_133 rfl)), m_push⟩ (
  lkp_c (P := OkP 60) ⟨ok_cs (tg_S ⟨rfl, by decide⟩ q2347 q2348 q152 q2349 ⟨cn_17.1, cn_17.2, pd_37⟩ dJ25_fixAfterInsertion_134) hd_no, m_cs⟩ (
  lkp_c (P := OkP 60) ⟨(PuOK.ok (ok_aload_n dJ25_fixAfterInsertion_137 rfl)), m_aload⟩ (
  lkp_c (P := OkP 60) ⟨(PuOK.ok (ok_aload_n dJ25_fixAfterInsertion_138 rfl)), m_aload⟩ (
  lkp_c (P := OkP 60) ⟨ok_cs (tg_S ⟨rfl, by decide⟩ q2335 q2336 q152 q2337 ⟨cn_17.1, cn_17.2, pd_35⟩ dJ25_fixAfterInsertion_139) hd_no, m_cs⟩ (
  lkp_c (P := OkP 60) ⟨ok_cs (tg_S ⟨rfl, by decide⟩ q2335 q2336 q152 q2337 ⟨cn_17.1, cn_17.2, pd_35⟩ dJ25_fixAfterInsertion_142) hd_no, m_cs⟩ (
  lkp_c (P := OkP 60) ⟨ok_cv (List.forall_mem_cons.mpr ⟨tg_V (ci := 20) (r := CLr 20) (y := 67) rfl ⟨rfl, by decide⟩ rfl q2354 q2356 qs31 q152 q2357 ⟨cn_17.1, cn_17.2, pd_34⟩ dJ25_fixAfterInsertion_145, (List.forall_mem_nil _)⟩) hd_no, m_cv⟩ (
  lkp_c (P := OkP 60) ⟨(PuOK.ok (ok_goto dJ25_fixAfterInsertion_148 rfl)), m_goto⟩ (
  lkp_c (P := OkP 60) ⟨(PuOK.ok (ok_aload_n dJ25_fixAfterInsertion_151 rfl)), m_aload⟩ (
  lkp_c (P := OkP 60) ⟨ok_cs (tg_S ⟨rfl, by decide⟩ q2335 q2336 q152 q2337 ⟨cn_17.1, cn_17.2, pd_35⟩ dJ25_fixAfterInsertion_152) hd_no, m_cs⟩ (
  lkp_c (P := OkP 60) ⟨ok_cs (tg_S ⟨rfl, by decide⟩ q2335 q2336 q152 q2337 ⟨cn_17.1, cn_17.2, pd_35⟩ dJ25_fixAfterInsertion_155) hd_no, m_cs⟩ (
  lkp_c (P := OkP 60) ⟨ok_cs (tg_S ⟨rfl, by decide⟩ q2338 q2339 q152 q2340 ⟨cn_17.1, cn_17.2, pd_35⟩ dJ25_fixAfterInsertion_158) hd_no, m_cs⟩ (
  lkp_c (P := OkP 60) ⟨(PuOK.ok (ok_astore_n dJ25_fixAfterInsertion_161 rfl)), m_astore⟩ (
  lkp_c (P := OkP 60) ⟨(PuOK.ok (ok_aload_n dJ25_fixAfterInsertion_162 rfl)), m_aload⟩ (
  lkp_c (P := OkP 60) ⟨ok_cs (tg_S ⟨rfl, by decide⟩ q2344 q2345 q152 q2346 ⟨cn_17.1, cn_17.2, pd_36⟩ dJ25_fixAfterInsertion_163) hd_no, m_cs⟩ (
  lkp_c (P := OkP 60) ⟨(PuOK.ok (ok_if_ne dJ25_fixAfterInsertion_166 rfl)), m_if⟩ (
  lkp_c (P := OkP 60) ⟨(PuOK.ok (ok_aload_n dJ25_fixAfterInsertion_169 rfl)), m_aload⟩ (
  lkp_c (P := OkP 60) ⟨ok_cs (tg_S ⟨rfl, by decide⟩ q2335 q2336 q152 q2337 ⟨cn_17.1, cn_17.2, pd_35⟩ dJ25_fixAfterInsertion_170) hd_no, m_cs⟩ (
  lkp_c (P := OkP 60) ⟨(PuOK.ok (ok_iconst dJ25_fixAfterInsertion_173 rfl)), m_push⟩ (
  lkp_c (P := OkP 60) ⟨ok_cs (tg_S ⟨rfl, by decide⟩ q2347 q2348 q152 q2349 ⟨cn_17.1, cn_17.2, pd_37⟩ dJ25_fixAfterInsertion_174) hd_no, m_cs⟩ (
  lkp_c (P := OkP 60) ⟨(PuOK.ok (ok_aload_n dJ25_fixAfterInsertion_177 rfl)), m_aload⟩ (
  lkp_c (P := OkP 60) ⟨(PuOK.ok (ok_iconst dJ25_fixAfterInsertion_178 rfl)), m_push⟩ (
  lkp_c (P := OkP 60) ⟨ok_cs (tg_S ⟨rfl, by decide⟩ q2347 q2348 q152 q2349 ⟨cn_17.1, cn_17.2, pd_37⟩ dJ25_fixAfterInsertion_179) hd_no, m_cs⟩ (
  lkp_c (P := OkP 60) ⟨(PuOK.ok (ok_aload_n dJ25_fixAfterInsertion_182 rfl)), m_aload⟩ (
  lkp_c (P := OkP 60) ⟨ok_cs (tg_S ⟨rfl, by decide⟩ q2335 q2336 q152 q2337 ⟨cn_17.1, cn_17.2, pd_35⟩ dJ25_fixAfterInsertion_183) hd_no, m_cs⟩ (
  lkp_c (P := OkP 60) ⟨ok_cs (tg_S ⟨rfl, by decide⟩ q2335 q2336 q152 q2337 ⟨cn_17.1, cn_17.2, pd_35⟩ dJ25_fixAfterInsertion_186) hd_no, m_cs⟩ (
  lkp_c (P := OkP 60) ⟨(PuOK.ok (ok_iconst dJ25_fixAfterInsertion_189 rfl)), m_push⟩ (
  lkp_c (P := OkP 60) ⟨ok_cs (tg_S ⟨rfl, by decide⟩ q2347 q2348 q152 q2349 ⟨cn_17.1, cn_17.2, pd_37⟩ dJ25_fixAfterInsertion_190) hd_no, m_cs⟩ (
  trivial)))))))))))))))))))))))))))))
theorem c_60_3 : LkP (OkP 60) [(193, o_aload 1 1), (194, o_cs 61 1 false none), (197, o_cs 61 1 false none), (200, o_astore 1 1), (201, o_goto 255), (204, o_aload 1 1), (205, o_aload 1 1), (206, o_cs 61 1 false none), (209, o_cs 62 1 false none), (212, o_acmp false 225), (215, o_aload 1 1), (216, o_cs 61 1 false none), (219, o_astore 1 1), (220, o_aload 0 1), (221, o_aload 1 1), (222, o_cv [(20, 67)] 1 3 true none), (225, o_aload 1 1), (226, o_cs 61 1 false none), (229, o_push 1 (.int 1)), (230, o_cs 65 2 true none), (233, o_aload 1 1), (234, o_cs 61 1 false none), (237, o_cs 61 1 false none), (240, o_push 1 (.int 0)), (241, o_cs 65 2 true none), (244, o_aload 0 1), (245, o_aload 1 1), (246, o_cs 61 1 false none), (249, o_cs 61 1 false none), (252, o_cv [(20, 66)] 1 3 true none), (255, o_goto 5)] := lkp_c (P := OkP 60) ⟨(PuOK.ok (ok_aload_n dJ25_fixAfterInsertion_193 rfl)), m_aload⟩ (
  lkp_c (P := OkP 60) ⟨ok_cs (tg_S ⟨rfl, by decide⟩ q2335 q2336 q152 q2337 ⟨cn_17.1, cn_17.2, pd_35⟩ dJ25_fixAfterInsertion_194) hd_no, m_cs⟩ (
  lkp_c (P := OkP 60) ⟨ok_cs (tg_S ⟨rfl, by decide⟩ q2335 q2336 q152 q2337 ⟨cn_17.1, cn_17.2, pd_35⟩ dJ25_fixAfterInsertion_197) hd_no, m_cs⟩ (
  lkp_c (P := OkP 60) ⟨(PuOK.ok (ok_astore_n dJ25_fixAfterInsertion_200 rfl)), m_astore⟩ (
  lkp_c (P := OkP 60) ⟨(PuOK.ok (ok_goto dJ25_fixAfterInsertion_201 rfl)), m_goto⟩ (
  lkp_c (P := OkP 60) ⟨(PuOK.ok (ok_aload_n dJ25_fixAfterInsertion_204 rfl)), m_aload⟩ (
  lkp_c (P := OkP 60) ⟨(PuOK.ok (ok_aload_n dJ25_fixAfterInsertion_205 rfl)), m_aload⟩ (
  lkp_c (P := OkP 60) ⟨ok_cs (tg_S ⟨rfl, by decide⟩ q2335 q2336 q152 q2337 ⟨cn_17.1, cn_17.2, pd_35⟩ dJ25_fixAfterInsertion_206) hd_no, m_cs⟩ (
  lkp_c (P := OkP 60) ⟨ok_cs (tg_S ⟨rfl, by decide⟩ q2338 q2339 q152 q2340 ⟨cn_17.1, cn_17.2, pd_35⟩ dJ25_fixAfterInsertion_209) hd_no, m_cs⟩ (
  lkp_c (P := OkP 60) ⟨(PuOK.ok (ok_acmp_ne dJ25_fixAfterInsertion_212 rfl)), m_acmp⟩ (
  lkp_c (P := OkP 60) ⟨(PuOK.ok (ok_aload_n dJ25_fixAfterInsertion_215 rfl)), m_aload⟩ (
  lkp_c (P := OkP 60) ⟨ok_cs (tg_S ⟨rfl, by decide⟩ q2335 q2336 q152 q2337 ⟨cn_17.1, cn_17.2, pd_35⟩ dJ25_fixAfterInsertion_216) hd_no, m_cs⟩ (
  lkp_c (P := OkP 60) ⟨(PuOK.ok (ok_astore_n dJ25_fixAfterInsertion_219 rfl)), m_astore⟩ (
  lkp_c (P := OkP 60) ⟨(PuOK.ok (ok_aload_n dJ25_fixAfterInsertion_220 rfl)), m_aload⟩ (
  lkp_c (P := OkP 60) ⟨(PuOK.ok (ok_aload_n dJ25_fixAfterInsertion_221 rfl)), m_aload⟩ (
  lkp_c (P := OkP 60) ⟨ok_cv (List.forall_mem_cons.mpr ⟨tg_V (ci := 20) (r := CLr 20) (y := 67) rfl ⟨rfl, by decide⟩ rfl q2354 q2356 qs31 q152 q2357 ⟨cn_17.1, cn_17.2, pd_34⟩ dJ25_fixAfterInsertion_222, (List.forall_mem_nil _)⟩) hd_no, m_cv⟩ (
  lkp_c (P := OkP 60) ⟨(PuOK.ok (ok_aload_n dJ25_fixAfterInsertion_225 rfl)), m_aload⟩ (
  lkp_c (P := OkP 60) ⟨ok_cs (tg_S ⟨rfl, by decide⟩ q2335 q2336 q152 q2337 ⟨cn_17.1, cn_17.2, pd_35⟩ dJ25_fixAfterInsertion_226) hd_no, m_cs⟩ (
  lkp_c (P := OkP 60) ⟨(PuOK.ok (ok_iconst dJ25_fixAfterInsertion_229 rfl)), m_push⟩ (
  lkp_c (P := OkP 60) ⟨ok_cs (tg_S ⟨rfl, by decide⟩ q2347 q2348 q152 q2349 ⟨cn_17.1, cn_17.2, pd_37⟩ dJ25_fixAfterInsertion_230) hd_no, m_cs⟩ (
  lkp_c (P := OkP 60) ⟨(PuOK.ok (ok_aload_n dJ25_fixAfterInsertion_233 rfl)), m_aload⟩ (
  lkp_c (P := OkP 60) ⟨ok_cs (tg_S ⟨rfl, by decide⟩ q2335 q2336 q152 q2337 ⟨cn_17.1, cn_17.2, pd_35⟩ dJ25_fixAfterInsertion_234) hd_no, m_cs⟩ (
  lkp_c (P := OkP 60) ⟨ok_cs (tg_S ⟨rfl, by decide⟩ q2335 q2336 q152 q2337 ⟨cn_17.1, cn_17.2, pd_35⟩ dJ25_fixAfterInsertion_237) hd_no, m_cs⟩ (
  lkp_c (P := OkP 60) ⟨(PuOK.ok (ok_iconst dJ25_fixAfterInsertion_240 rfl)), m_push⟩ (
  lkp_c (P := OkP 60) ⟨ok_cs (tg_S ⟨rfl, by decide⟩ q2347 q2348 q152 q2349 ⟨cn_17.1, cn_17.2, pd_37⟩ dJ25_fixAfterInsertion_241) hd_no, m_cs⟩ (
  lkp_c (P := OkP 60) ⟨(PuOK.ok (ok_aload_n dJ25_fixAfterInsertion_244 rfl)), m_aload⟩ (
  lkp_c (P := OkP 60) ⟨(PuOK.ok (ok_aload_n dJ25_fixAfterInsertion_245 rfl)), m_aload⟩ (
  lkp_c (P := OkP 60) ⟨ok_cs (tg_S ⟨rfl, by decide⟩ q2335 q2336 q152 q2337 ⟨cn_17.1, cn_17.2, pd_35⟩ dJ25_fixAfterInsertion_246) hd_no, m_cs⟩ (
  lkp_c (P := OkP 60) ⟨ok_cs (tg_S ⟨rfl, by decide⟩ q2335 q2336 q152 q2337 ⟨cn_17.1, cn_17.2, pd_35⟩ dJ25_fixAfterInsertion_249) hd_no, m_cs⟩ (
  lkp_c (P := OkP 60) ⟨ok_cv (List.forall_mem_cons.mpr ⟨tg_V (ci := 20) (r := CLr 20) (y := 66) rfl ⟨rfl, by decide⟩ rfl q2350 q2352 qs30 q152 q2353 ⟨cn_17.1, cn_17.2, pd_34⟩ dJ25_fixAfterInsertion_252, (List.forall_mem_nil _)⟩) hd_no, m_cv⟩ (
  lkp_c (P := OkP 60) ⟨(PuOK.ok (ok_goto dJ25_fixAfterInsertion_255 rfl)), m_goto⟩ (
  trivial)))))))))))))))))))))))))))))))
theorem c_60_4 : LkP (OkP 60) [(258, o_aload 0 1), (259, o_get 103), (262, o_push 1 (.int 1)), (263, o_put 115 5), (266, o_vret)] := lkp_c (P := OkP 60) ⟨(PuOK.ok (ok_aload_n dJ25_fixAfterInsertion_258 rfl)), m_aload⟩ (
  lkp_c (P := OkP 60) ⟨ok_get ⟨"java/util/TreeMap", q2231, Or.inl rfl⟩ dJ25_fixAfterInsertion_259, m_get⟩ (
  lkp_c (P := OkP 60) ⟨(PuOK.ok (ok_iconst dJ25_fixAfterInsertion_262 rfl)), m_push⟩ (
  lkp_c (P := OkP 60) ⟨ok_put ⟨"java/util/TreeMap$Entry", q2308, Or.inl rfl⟩ rfl fd_115 rfl dJ25_fixAfterInsertion_263, m_put⟩ (
  lkp_c (P := OkP 60) ⟨ok_vret rfl dJ25_fixAfterInsertion_266, m_vret⟩ (
  trivial)))))
theorem mt_60 : MtOK TB NT IT 60 := ⟨by decide +kernel, rfl, (fun h => by cases h), Or.inl ⟨rfl, rfl⟩, rfl, by decide, lk2_all (P := OkP 60) ⟨c_60_0, c_60_1, c_60_2, c_60_3, c_60_4, trivial⟩⟩
def dkwJ25_parentOf_0 : List UInt8 := [42, 199, 0, 7, 1, 167, 0, 7, 42, 180, 0, 124, 176]
abbrev dktJ25_parentOf_0 : List UInt8 := dkwJ25_parentOf_0 ++ []
theorem dksJ25_parentOf_0 : cJ25_parentOf.data.toList.drop 0 = dktJ25_parentOf_0 := by decide +kernel
theorem dJ25_parentOf_0 : decode cJ25_parentOf 0 = .ok (.aload_n 0, 1) := dk_42 (dk_at dksJ25_parentOf_0 0 rfl rfl)
theorem dJ25_parentOf_1 : decode cJ25_parentOf 1 = .ok (.ifnonnull 7, 3) := dk_199 0 7 (dk_at dksJ25_parentOf_0 1 rfl rfl)
theorem dJ25_parentOf_4 : decode cJ25_parentOf 4 = .ok (.aconst_null, 1) := dk_1 (dk_at dksJ25_parentOf_0 4 rfl rfl)
theorem dJ25_parentOf_5 : decode cJ25_parentOf 5 = .ok (.goto 7, 3) := dk_167 0 7 (dk_at dksJ25_parentOf_0 5 rfl rfl)
theorem dJ25_parentOf_8 : decode cJ25_parentOf 8 = .ok (.aload_n 0, 1) := dk_42 (dk_at dksJ25_parentOf_0 8 rfl rfl)
theorem dJ25_parentOf_9 : decode cJ25_parentOf 9 = .ok (.getfield 124, 3) := dk_180 0 124 (dk_at dksJ25_parentOf_0 9 rfl rfl)
theorem dJ25_parentOf_12 : decode cJ25_parentOf 12 = .ok (.areturn, 1) := dk_176 (dk_at dksJ25_parentOf_0 12 rfl rfl)
theorem c_61_0 : LkP (OkP 61) [(0, o_aload 0 1), (1, o_ifnonnull 8), (4, o_push 1 .null), (5, o_goto 12), (8, o_aload 0 1), (9, o_get 114), (12, o_ret 0)] := lkp_c (P := OkP 61) ⟨(PuOK.ok (ok_aload_n dJ25_parentOf_0 rfl)), m_aload⟩ (
  lkp_c (P := OkP 61) ⟨(PuOK.ok (ok_ifnonnull dJ25_parentOf_1 rfl)), m_ifnonnull⟩ (
  lkp_c (P := OkP 61) ⟨(PuOK.ok (ok_null dJ25_parentOf_4)), m_push⟩ (
  lkp_c (P := OkP 61) ⟨(PuOK.ok (ok_goto dJ25_parentOf_5 rfl)), m_goto⟩ (
  lkp_c (P := OkP 61) ⟨(PuOK.ok (ok_aload_n dJ25_parentOf_8 rfl)), m_aload⟩ (
  lkp_c (P := OkP 61) ⟨ok_get ⟨"java/util/TreeMap$Entry", q2306, Or.inl rfl⟩ dJ25_parentOf_9, m_get⟩ (
  lkp_c (P := OkP 61) ⟨ok_aret rfl (Or.inl ⟨_, rfl⟩) dJ25_parentOf_12, m_ret⟩ (
  trivial)))))))
theorem mt_61 : MtOK TB NT IT 61 := ⟨by decide +kernel, rfl, (fun h => by cases h), Or.inl ⟨rfl, rfl⟩, rfl, by decide, lk2_all (P := OkP 61) ⟨c_61_0, trivial⟩⟩
def dkwJ25_leftOf_0 : List UInt8 := [42, 199, 0, 7, 1, 167, 0, 7, 42, 180, 0, 111, 176]
abbrev dktJ25_leftOf_0 : List UInt8 := dkwJ25_leftOf_0 ++ []
theorem dksJ25_leftOf_0 : cJ25_leftOf.data.toList.drop 0 = dktJ25_leftOf_0 := by decide +kernel
theorem dJ25_leftOf_0 : decode cJ25_leftOf 0 = .ok (.aload_n 0, 1) := dk_42 (dk_at dksJ25_leftOf_0 0 rfl rfl)
theorem dJ25_leftOf_1 : decode cJ25_leftOf 1 = .ok (.ifnonnull 7, 3) := dk_199 0 7 (dk_at dksJ25_leftOf_0 1 rfl rfl)
theorem dJ25_leftOf_4 : decode cJ25_leftOf 4 = .ok (.aconst_null, 1) := dk_1 (dk_at dksJ25_leftOf_0 4 rfl rfl)
theorem dJ25_leftOf_5 : decode cJ25_leftOf 5 = .ok (.goto 7, 3) := dk_167 0 7 (dk_at dksJ25_leftOf_0 5 rfl rfl)
theorem dJ25_leftOf_8 : decode cJ25_leftOf 8 = .ok (.aload_n 0, 1) := dk_42 (dk_at dksJ25_leftOf_0 8 rfl rfl)
theorem dJ25_leftOf_9 : decode cJ25_leftOf 9 = .ok (.getfield 111, 3) := dk_180 0 111 (dk_at dksJ25_leftOf_0 9 rfl rfl)
theorem dJ25_leftOf_12 : decode cJ25_leftOf 12 = .ok (.areturn, 1) := dk_176 (dk_at dksJ25_leftOf_0 12 rfl rfl)
theorem c_62_0 : LkP (OkP 62) [(0, o_aload 0 1), (1, o_ifnonnull 8), (4, o_push 1 .null), (5, o_goto 12), (8, o_aload 0 1), (9, o_get 112), (12, o_ret 0)] := lkp_c (P := OkP 62) ⟨(PuOK.ok (ok_aload_n dJ25_leftOf_0 rfl)), m_aload⟩ (
  lkp_c (P := OkP 62) ⟨(PuOK.ok (ok_ifnonnull dJ25_leftOf_1 rfl)), m_ifnonnull⟩ (
  lkp_c (P := OkP 62) ⟨(PuOK.ok (ok_null dJ25_leftOf_4)), m_push⟩ (
  lkp_c (P := OkP 62) ⟨(PuOK.ok (ok_goto dJ25_leftOf_5 rfl)), m_goto⟩ (
  lkp_c (P := OkP 62) ⟨(PuOK.ok (ok_aload_n dJ25_leftOf_8 rfl)), m_aload⟩ (
  lkp_c (P := OkP 62) ⟨ok_get ⟨"java/util/TreeMap$Entry", q2303, Or.inl rfl⟩ dJ25_leftOf_9, m_get⟩ (
  lkp_c (P := OkP 62) ⟨ok_aret rfl (Or.inl ⟨_, rfl⟩) dJ25_leftOf_12, m_ret⟩ (
  trivial)))))))
theorem mt_62 : MtOK TB NT IT 62 := ⟨by decide +kernel, rfl, (fun h => by cases h), Or.inl ⟨rfl, rfl⟩, rfl, by decide, lk2_all (P := OkP 62) ⟨c_62_0, trivial⟩⟩
def dkwJ25_rightOf_0 : List UInt8 := [42, 199, 0, 7, 1, 167, 0, 7, 42, 180, 0, 114, 176]
abbrev dktJ25_rightOf_0 : List UInt8 := dkwJ25_rightOf_0 ++ []
theorem dksJ25_rightOf_0 : cJ25_rightOf.data.toList.drop 0 = dktJ25_rightOf_0 := by decide +kernel
theorem dJ25_rightOf_0 : decode cJ25_rightOf 0 = .ok (.aload_n 0, 1) := dk_42 (dk_at dksJ25_rightOf_0 0 rfl rfl)
theorem dJ25_rightOf_1 : decode cJ25_rightOf 1 = .ok (.ifnonnull 7, 3) := dk_199 0 7 (dk_at dksJ25_rightOf_0 1 rfl rfl)
theorem dJ25_rightOf_4 : decode cJ25_rightOf 4 = .ok (.aconst_null, 1) := dk_1 (dk_at dksJ25_rightOf_0 4 rfl rfl)
theorem dJ25_rightOf_5 : decode cJ25_rightOf 5 = .ok (.goto 7, 3) := dk_167 0 7 (dk_at dksJ25_rightOf_0 5 rfl rfl)
theorem dJ25_rightOf_8 : decode cJ25_rightOf 8 = .ok (.aload_n 0, 1) := dk_42 (dk_at dksJ25_rightOf_0 8 rfl rfl)
theorem dJ25_rightOf_9 : decode cJ25_rightOf 9 = .ok (.getfield 114, 3) := dk_180 0 114 (dk_at dksJ25_rightOf_0 9 rfl rfl)
theorem dJ25_rightOf_12 : decode cJ25_rightOf 12 = .ok (.areturn, 1) := dk_176 (dk_at dksJ25_rightOf_0 12 rfl rfl)
theorem c_63_0 : LkP (OkP 63) [(0, o_aload 0 1), (1, o_ifnonnull 8), (4, o_push 1 .null), (5, o_goto 12), (8, o_aload 0 1), (9, o_get 113), (12, o_ret 0)] := lkp_c (P := OkP 63) ⟨(PuOK.ok (ok_aload_n dJ25_rightOf_0 rfl)), m_aload⟩ (
  lkp_c (P := OkP 63) ⟨(PuOK.ok (ok_ifnonnull dJ25_rightOf_1 rfl)), m_ifnonnull⟩ (
  lkp_c (P := OkP 63) ⟨(PuOK.ok (ok_null dJ25_rightOf_4)), m_push⟩ (
  lkp_c (P := OkP 63) ⟨(PuOK.ok (ok_goto dJ25_rightOf_5 rfl)), m_goto⟩ (
  lkp_c (P := OkP 63) ⟨(PuOK.ok (ok_aload_n dJ25_rightOf_8 rfl)), m_aload⟩ (
  lkp_c (P := OkP 63) ⟨ok_get ⟨"java/util/TreeMap$Entry", q2304, Or.inl rfl⟩ dJ25_rightOf_9, m_get⟩ (
  lkp_c (P := OkP 63) ⟨ok_aret rfl (Or.inl ⟨_, rfl⟩) dJ25_rightOf_12, m_ret⟩ (
  trivial)))))))
theorem mt_63 : MtOK TB NT IT 63 := ⟨by decide +kernel, rfl, (fun h => by cases h), Or.inl ⟨rfl, rfl⟩, rfl, by decide, lk2_all (P := OkP 63) ⟨c_63_0, trivial⟩⟩
def dkwJ25_colorOf_0 : List UInt8 := [42, 199, 0, 7, 4, 167, 0, 7, 42, 180, 1, 34, 172]
abbrev dktJ25_colorOf_0 : List UInt8 := dkwJ25_colorOf_0 ++ []
theorem dksJ25_colorOf_0 : cJ25_colorOf.data.toList.drop 0 = dktJ25_colorOf_0 := by decide +kernel
theorem dJ25_colorOf_0 : decode cJ25_colorOf 0 = .ok (.aload_n 0, 1) := dk_42 (dk_at dksJ25_colorOf_0 0 rfl rfl)
theorem dJ25_colorOf_1 : decode cJ25_colorOf 1 = .ok (.ifnonnull 7, 3) := dk_199 0 7 (dk_at dksJ25_colorOf_0 1 rfl rfl)
theorem dJ25_colorOf_4 : decode cJ25_colorOf 4 = .ok (.iconst 1, 1) := dk_4 (dk_at dksJ25_colorOf_0 4 rfl rfl)
theorem dJ25_colorOf_5 : decode cJ25_colorOf 5 = .ok (.goto 7, 3) := dk_167 0 7 (dk_at dksJ25_colorOf_0 5 rfl rfl)
theorem dJ25_colorOf_8 : decode cJ25_colorOf 8 = .ok (.aload_n 0, 1) := dk_42 (dk_at dksJ25_colorOf_0 8 rfl rfl)
theorem dJ25_colorOf_9 : decode cJ25_colorOf 9 = .ok (.getfield 290, 3) := dk_180 1 34 (dk_at dksJ25_colorOf_0 9 rfl rfl)
theorem dJ25_colorOf_12 : decode cJ25_colorOf 12 = .ok (.ireturn, 1) := dk_172 (dk_at dksJ25_colorOf_0 12 rfl rfl)
theorem c_64_0 : LkP (OkP 64) [(0, o_aload 0 1), (1, o_ifnonnull 8), (4, o_push 1 (.int 1)), (5, o_goto 12), (8, o_aload 0 1), (9, o_get 115), (12, o_ret 5)] := lkp_c (P := OkP 64) ⟨(PuOK.ok (ok_aload_n dJ25_colorOf_0 rfl)), m_aload⟩ (
  lkp_c (P := OkP 64) ⟨(PuOK.ok (ok_ifnonnull dJ25_colorOf_1 rfl)), m_ifnonnull⟩ (
  lkp_c (P := OkP 64) ⟨(PuOK.ok (ok_iconst dJ25_colorOf_4 rfl)), m_push⟩ (
  lkp_c (P := OkP 64) ⟨(PuOK.ok (ok_goto dJ25_colorOf_5 rfl)), m_goto⟩ (
  lkp_c (P := OkP 64) ⟨(PuOK.ok (ok_aload_n dJ25_colorOf_8 rfl)), m_aload⟩ (
  lkp_c (P := OkP 64) ⟨ok_get ⟨"java/util/TreeMap$Entry", q2308, Or.inl rfl⟩ dJ25_colorOf_9, m_get⟩ (
  lkp_c (P := OkP 64) ⟨ok_iret rfl rfl (by decide) dJ25_colorOf_12, m_ret⟩ (
  trivial)))))))
theorem mt_64 : MtOK TB NT IT 64 := ⟨by decide +kernel, rfl, (fun h => by cases h), Or.inl ⟨rfl, rfl⟩, rfl, by decide, lk2_all (P := OkP 64) ⟨c_64_0, trivial⟩⟩
def dkwJ25_setColor_0 : List UInt8 := [42, 198, 0, 8, 42, 27, 181, 1, 34, 177]
abbrev dktJ25_setColor_0 : List UInt8 := dkwJ25_setColor_0 ++ []
theorem dksJ25_setColor_0 : cJ25_setColor.data.toList.drop 0 = dktJ25_setColor_0 := by decide +kernel
theorem dJ25_setColor_0 : decode cJ25_setColor 0 = .ok (.aload_n 0, 1) := dk_42 (dk_at dksJ25_setColor_0 0 rfl rfl)
theorem dJ25_setColor_1 : decode cJ25_setColor 1 = .ok (.ifnull 8, 3) := dk_198 0 8 (dk_at dksJ25_setColor_0 1 rfl rfl)
theorem dJ25_setColor_4 : decode cJ25_setColor 4 = .ok (.aload_n 0, 1) := dk_42 (dk_at dksJ25_setColor_0 4 rfl rfl)
theorem dJ25_setColor_5 : decode cJ25_setColor 5 = .ok (.iload_n 1, 1) := dk_27 (dk_at dksJ25_setColor_0 5 rfl rfl)
theorem dJ25_setColor_6 : decode cJ25_setColor 6 = .ok (.putfield 290, 3) := dk_181 1 34 (dk_at dksJ25_setColor_0 6 rfl rfl)
theorem dJ25_setColor_9 : decode cJ25_setColor 9 = .ok (.return_, 1) := dk_177 (dk_at dksJ25_setColor_0 9 rfl rfl)
theorem c_65_0 : LkP (OkP 65) [(0, o_aload 0 1), (1, o_ifnull 9), (4, o_aload 0 1), (5, o_iload 1 1), (6, o_put 115 5), (9, o_vret)] := lkp_c (P := OkP 65) ⟨(PuOK.ok (ok_aload_n dJ25_setColor_0 rfl)), m_aload⟩ (
  lkp_c (P := OkP 65) ⟨(PuOK.ok (ok_ifnull dJ25_setColor_1 rfl)), m_ifnull⟩ (
  lkp_c (P := OkP 65) ⟨(PuOK.ok (ok_aload_n dJ25_setColor_4 rfl)), m_aload⟩ (
  lkp_c (P := OkP 65) ⟨(PuOK.ok (ok_iload_n dJ25_setColor_5 rfl)), m_iload⟩ (
  lkp_c (P := OkP 65) ⟨ok_put ⟨"java/util/TreeMap$Entry", q2308, Or.inl rfl⟩ rfl fd_115 rfl dJ25_setColor_6, m_put⟩ (
  lkp_c (P := OkP 65) ⟨ok_vret rfl dJ25_setColor_9, m_vret⟩ (
  trivial))))))
theorem mt_65 : MtOK TB NT IT 65 := ⟨by decide +kernel, rfl, (fun h => by cases h), Or.inl ⟨rfl, rfl⟩, rfl, by decide, lk2_all (P := OkP 65) ⟨c_65_0, trivial⟩⟩
def dkwJ25_rotateLeft_4 : List UInt8 := [177]
abbrev dktJ25_rotateLeft_4 : List UInt8 := dkwJ25_rotateLeft_4 ++ []
def dkwJ25_rotateLeft_3 : List UInt8 := [181, 0, 111, 167, 0, 11, 43, 180, 0, 124, 44, 181, 0, 114, 44, 43, 181, 0, 111, 43, 44, 181, 0, 124]
abbrev dktJ25_rotateLeft_3 : List UInt8 := dkwJ25_rotateLeft_3 ++ dktJ25_rotateLeft_4
def dkwJ25_rotateLeft_2 : List UInt8 := [44, 181, 0, 101, 167, 0, 33, 43, 180, 0, 124, 180, 0, 111, 43, 166, 0, 14, 43, 180, 0, 124, 44]
abbrev dktJ25_rotateLeft_2 : List UInt8 := dkwJ25_rotateLeft_2 ++ dktJ25_rotateLeft_3
def dkwJ25_rotateLeft_1 : List UInt8 := [44, 180, 0, 111, 43, 181, 0, 124, 44, 43, 180, 0, 124, 181, 0, 124, 43, 180, 0, 124, 199, 0, 11, 42]
abbrev dktJ25_rotateLeft_1 : List UInt8 := dkwJ25_rotateLeft_1 ++ dktJ25_rotateLeft_2
def dkwJ25_rotateLeft_0 : List UInt8 := [43, 198, 0, 94, 43, 180, 0, 114, 77, 43, 44, 180, 0, 111, 181, 0, 114, 44, 180, 0, 111, 198, 0, 11]
abbrev dktJ25_rotateLeft_0 : List UInt8 := dkwJ25_rotateLeft_0 ++ dktJ25_rotateLeft_1
theorem dksJ25_rotateLeft_0 : cJ25_rotateLeft.data.toList.drop 0 = dktJ25_rotateLeft_0 := by decide +kernel
theorem dksJ25_rotateLeft_1 : cJ25_rotateLeft.data.toList.drop 24 = dktJ25_rotateLeft_1 := dk_seg dksJ25_rotateLeft_0 24 rfl rfl
theorem dksJ25_rotateLeft_2 : cJ25_rotateLeft.data.toList.drop 48 = dktJ25_rotateLeft_2 := dk_seg dksJ25_rotateLeft_1 24 rfl rfl
theorem dksJ25_rotateLeft_3 : cJ25_rotateLeft.data.toList.drop 71 = dktJ25_rotateLeft_3 := dk_seg dksJ25_rotateLeft_2 23 rfl rfl
theorem dksJ25_rotateLeft_4 : cJ25_rotateLeft.data.toList.drop 95 = dktJ25_rotateLeft_4 := dk_seg dksJ25_rotateLeft_3 24 rfl rfl
theorem dJ25_rotateLeft_0 : decode cJ25_rotateLeft 0 = .ok (.aload_n 1, 1) := dk_43 (dk_at dksJ25_rotateLeft_0 0 rfl rfl)
theorem dJ25_rotateLeft_1 : decode cJ25_rotateLeft 1 = .ok (.ifnull 94, 3) := dk_198 0 94 (dk_at dksJ25_rotateLeft_0 1 rfl rfl)
theorem dJ25_rotateLeft_4 : decode cJ25_rotateLeft 4 = .ok (.aload_n 1, 1) := dk_43 (dk_at dksJ25_rotateLeft_0 4 rfl rfl)
theorem dJ25_rotateLeft_5 : decode cJ25_rotateLeft 5 = .ok (.getfield 114, 3) := dk_180 0 114 (dk_at dksJ25_rotateLeft_0 5 rfl rfl)
theorem dJ25_rotateLeft_8 : decode cJ25_rotateLeft 8 = .ok (.astore_n 2, 1) := dk_77 (dk_at dksJ25_rotateLeft_0 8 rfl rfl)
theorem dJ25_rotateLeft_9 : decode cJ25_rotateLeft 9 = .ok (.aload_n 1, 1) := dk_43 (dk_at dksJ25_rotateLeft_0 9 rfl rfl)
theorem dJ25_rotateLeft_10 : decode cJ25_rotateLeft 10 = .ok (.aload_n 2, 1) := dk_44 (dk_at dksJ25_rotateLeft_0 10 rfl rfl)
theorem dJ25_rotateLeft_11 : decode cJ25_rotateLeft 11 = .ok (.getfield 111, 3) := dk_180 0 111 (dk_at dksJ25_rotateLeft_0 11 rfl rfl)
theorem dJ25_rotateLeft_14 : decode cJ25_rotateLeft 14 = .ok (.putfield 114, 3) := dk_181 0 114 (dk_at dksJ25_rotateLeft_0 14 rfl rfl)
theorem dJ25_rotateLeft_17 : decode cJ25_rotateLeft 17 = .ok (.aload_n 2, 1) := dk_44 (dk_at dksJ25_rotateLeft_0 17 rfl rfl)
theorem dJ25_rotateLeft_18 : decode cJ25_rotateLeft 18 = .ok (.getfield 111, 3) := dk_180 0 111 (dk_at dksJ25_rotateLeft_0 18 rfl rfl)
theorem dJ25_rotateLeft_21 : decode cJ25_rotateLeft 21 = .ok (.ifnull 11, 3) := dk_198 0 11 (dk_at dksJ25_rotateLeft_0 21 rfl rfl)
theorem dJ25_rotateLeft_24 : decode cJ25_rotateLeft 24 = .ok (.aload_n 2, 1) := dk_44 (dk_at dksJ25_rotateLeft_1 0 rfl rfl)
theorem dJ25_rotateLeft_25 : decode cJ25_rotateLeft 25 = .ok (.getfield 111, 3) := dk_180 0 111 (dk_at dksJ25_rotateLeft_1 1 rfl rfl)
theorem dJ25_rotateLeft_28 : decode cJ25_rotateLeft 28 = .ok (.aload_n 1, 1) := dk_43 (dk_at dksJ25_rotateLeft_1 4 rfl rfl)
theorem dJ25_rotateLeft_29 : decode cJ25_rotateLeft 29 = .ok (.putfield 124, 3) := dk_181 0 124 (dk_at dksJ25_rotateLeft_1 5 rfl rfl)
theorem dJ25_rotateLeft_32 : decode cJ25_rotateLeft 32 = .ok (.aload_n 2, 1) := dk_44 (dk_at dksJ25_rotateLeft_1 8 rfl rfl)
theorem dJ25_rotateLeft_33 : decode cJ25_rotateLeft 33 = .ok (.aload_n 1, 1) := dk_43 (dk_at dksJ25_rotateLeft_1 9 rfl rfl)
theorem dJ25_rotateLeft_34 : decode cJ25_rotateLeft 34 = .ok (.getfield 124, 3) := dk_180 0 124 (dk_at dksJ25_rotateLeft_1 10 rfl rfl)
theorem dJ25_rotateLeft_37 : decode cJ25_rotateLeft 37 = .ok (.putfield 124, 3) := dk_181 0 124 (dk_at dksJ25_rotateLeft_1 13 rfl rfl)
theorem dJ25_rotateLeft_40 : decode cJ25_rotateLeft 40 = .ok (.aload_n 1, 1) := dk_43 (dk_at dksJ25_rotateLeft_1 16 rfl rfl)
theorem dJ25_rotateLeft_41 : decode cJ25_rotateLeft 41 = .ok (.getfield 124, 3) := dk_180 0 124 (dk_at dksJ25_rotateLeft_1 17 rfl rfl)
theorem dJ25_rotateLeft_44 : decode cJ25_rotateLeft 44 = .ok (.ifnonnull 11, 3) := dk_199 0 11 (dk_at dksJ25_rotateLeft_1 20 rfl rfl)
theorem dJ25_rotateLeft_47 : decode cJ25_rotateLeft 47 = .ok (.aload_n 0, 1) := dk_42 (dk_at dksJ25_rotateLeft_1 23 rfl rfl)
theorem dJ25_rotateLeft_48 : decode cJ25_rotateLeft 48 = .ok (.aload_n 2, 1) := dk_44 (dk_at dksJ25_rotateLeft_2 0 rfl rfl)
theorem dJ25_rotateLeft_49 : decode cJ25_rotateLeft 49 = .ok (.putfield 101, 3) := dk_181 0 101 (dk_at dksJ25_rotateLeft_2 1 rfl rfl)
theorem dJ25_rotateLeft_52 : decode cJ25_rotateLeft 52 = .ok (.goto 33, 3) := dk_167 0 33 (dk_at dksJ25_rotateLeft_2 4 rfl rfl)
theorem dJ25_rotateLeft_55 : decode cJ25_rotateLeft 55 = .ok (.aload_n 1, 1) := dk_43 (dk_at dksJ25_rotateLeft_2 7 rfl rfl)
theorem dJ25_rotateLeft_56 : decode cJ25_rotateLeft 56 = .ok (.getfield 124, 3) := dk_180 0 124 (dk_at dksJ25_rotateLeft_2 8 rfl rfl)
theorem dJ25_rotateLeft_59 : decode cJ25_rotateLeft 59 = .ok (.getfield 111, 3) := dk_180 0 111 (dk_at dksJ25_rotateLeft_2 11 rfl rfl)
theorem dJ25_rotateLeft_62 : decode cJ25_rotateLeft 62 = .ok (.aload_n 1, 1) := dk_43 (dk_at dksJ25_rotateLeft_2 14 rfl rfl)
theorem dJ25_rotateLeft_63 : decode cJ25_rotateLeft 63 = .ok (.if_acmp .ne 14, 3) := dk_166 0 14 (dk_at dksJ25_rotateLeft_2 15 rfl rfl)
theorem dJ25_rotateLeft_66 : decode cJ25_rotateLeft 66 = .ok (.aload_n 1, 1) := dk_43 (dk_at dksJ25_rotateLeft_2 18 rfl rfl)
theorem dJ25_rotateLeft_67 : decode cJ25_rotateLeft 67 = .ok (.getfield 124, 3) := dk_180 0 124 (dk_at dksJ25_rotateLeft_2 19 rfl rfl)
theorem dJ25_rotateLeft_70 : decode cJ25_rotateLeft 70 = .ok (.aload_n 2, 1) := dk_44 (dk_at dksJ25_rotateLeft_2 22 rfl rfl)
theorem dJ25_rotateLeft_71 : decode cJ25_rotateLeft 71 = .ok (.putfield 111, 3) := dk_181 0 111 (dk_at dksJ25_rotateLeft_3 0 rfl rfl)
theorem dJ25_rotateLeft_74 : decode cJ25_rotateLeft 74 = .ok (.goto 11, 3) := dk_167 0 11 (dk_at dksJ25_rotateLeft_3 3 rfl rfl)
theorem dJ25_rotateLeft_77 : decode cJ25_rotateLeft 77 = .ok (.aload_n 1, 1) := dk_43 (dk_at dksJ25_rotateLeft_3 6 rfl rfl)
theorem dJ25_rotateLeft_78 : decode cJ25_rotateLeft 78 = .ok (.getfield 124, 3) := dk_180 0 124 (dk_at dksJ25_rotateLeft_3 7 rfl rfl)
theorem dJ25_rotateLeft_81 : decode cJ25_rotateLeft 81 = .ok (.aload_n 2, 1) := dk_44 (dk_at dksJ25_rotateLeft_3 10 rfl rfl)
theorem dJ25_rotateLeft_82 : decode cJ25_rotateLeft 82 = .ok (.putfield 114, 3) := dk_181 0 114 (dk_at dksJ25_rotateLeft_3 11 rfl rfl)
theorem dJ25_rotateLeft_85 : decode cJ25_rotateLeft 85 = .ok (.aload_n 2, 1) := dk_44 (dk_at dksJ25_rotateLeft_3 14 rfl rfl)
theorem dJ25_rotateLeft_86 : decode cJ25_rotateLeft 86 = .ok (.aload_n 1, 1) := dk_43 (dk_at dksJ25_rotateLeft_3 15 rfl rfl)
theorem dJ25_rotateLeft_87 : decode cJ25_rotateLeft 87 = .ok (.putfield 111, 3) := dk_181 0 111 (dk_at dksJ25_rotateLeft_3 16 rfl rfl)
theorem dJ25_rotateLeft_90 : decode cJ25_rotateLeft 90 = .ok (.aload_n 1, 1) := dk_43 (dk_at dksJ25_rotateLeft_3 19 rfl rfl)
theorem dJ25_rotateLeft_91 : decode cJ25_rotateLeft 91 = .ok (.aload_n 2, 1) := dk_44 (dk_at dksJ25_rotateLeft_3 20 rfl rfl)
theorem dJ25_rotateLeft_92 : decode cJ25_rotateLeft 92 = .ok (.putfield 124, 3) := dk_181 0 124 (dk_at dksJ25_rotateLeft_3 21 rfl rfl)
theorem dJ25_rotateLeft_95 : decode cJ25_rotateLeft 95 = .ok (.return_, 1) := dk_177 (dk_at dksJ25_rotateLeft_4 0 rfl rfl)
theorem c_66_0 : LkP (OkP 66) [(0, o_aload 1 1), (1, o_ifnull 95), (4, o_aload 1 1), (5, o_get 113), (8, o_astore 2 1), (9, o_aload 1 1), (10, o_aload 2 1), (11, o_get 112), (14, o_put 113 0), (17, o_aload 2 1), (18, o_get 112), (21, o_ifnull 32), (24, o_aload 2 1), (25, o_get 112), (28, o_aload 1 1), (29, o_put 114 0), (32, o_aload 2 1), (33, o_aload 1 1), (34, o_get 114), (37, o_put 114 0), (40, o_aload 1 1), (41, o_get 114), (44, o_ifnonnull 55), (47, o_aload 0 1), (48, o_aload 2 1), (49, o_put 103 0), (52, o_goto 85), (55, o_aload 1 1), (56, o_get 114), (59, o_get 112), (62, o_aload 1 1), (63, o_acmp false 77)] := lkp_c (P := OkP 66) ⟨(PuOK.ok (ok_aload_n dJ25_rotateLeft_0 rfl)), m_aload⟩ (
  lkp_c (P := OkP 66) ⟨(PuOK.ok (ok_ifnull dJ25_rotateLeft_1 rfl)), m_ifnull⟩ (
  lkp_c (P := OkP 66) ⟨(PuOK.ok (ok_aload_n dJ25_rotateLeft_4 rfl)), m_aload⟩ (
  lkp_c (P := OkP 66) ⟨ok_get ⟨"java/util/TreeMap$Entry", q2304, Or.inl rfl⟩ dJ25_rotateLeft_5, m_get⟩ (
  lkp_c (P := OkP 66) ⟨(PuOK.ok (ok_astore_n dJ25_rotateLeft_8 rfl)), m_astore⟩ (
  lkp_c (P := OkP 66) ⟨(PuOK.ok (ok_aload_n dJ25_rotateLeft_9 rfl)), m_aload⟩ (
  lkp_c (P := OkP 66) ⟨(PuOK.ok (ok_aload_n dJ25_rotateLeft_10 rfl)), m_aload⟩ (
  lkp_c (P := OkP 66) ⟨ok_get ⟨"java/util/TreeMap$Entry", q2303, Or.inl rfl⟩ dJ25_rotateLeft_11, m_get⟩ (
  lkp_c (P := OkP 66) ⟨ok_put ⟨"java/util/TreeMap$Entry", q2304, Or.inl rfl⟩ rfl fd_113 rfl dJ25_rotateLeft_14, m_put⟩ (
  lkp_c (P := OkP 66) ⟨(PuOK.ok (ok_aload_n dJ25_rotateLeft_17 rfl)), m_aload⟩ (
  lkp_c (P := OkP 66) ⟨ok_get ⟨"java/util/TreeMap$Entry", q2303, Or.inl rfl⟩ dJ25_rotateLeft_18, m_get⟩ (
  lkp_c (P := OkP 66) ⟨(PuOK.ok (ok_ifnull dJ25_rotateLeft_21 rfl)), m_ifnull⟩ (
  lkp_c (P := OkP 66) ⟨(PuOK.ok (ok_aload_n dJ25_rotateLeft_24 rfl)), m_aload⟩ (
  lkp_c (P := OkP 66) ⟨ok_get ⟨"java/util/TreeMap$Entry", q2303, Or.inl rfl⟩ dJ25_rotateLeft_25, m_get⟩ (
  lkp_c (P := OkP 66) ⟨(PuOK.ok (ok_aload_n dJ25_rotateLeft_28 rfl)), m_aload⟩ (
  lkp_c (P := OkP 66) ⟨ok_put ⟨"java/util/TreeMap$Entry", q2306, Or.inl rfl⟩ rfl fd_114 rfl dJ25_rotateLeft_29, m_put⟩ (
  lkp_c (P := OkP 66) ⟨(PuOK.ok (ok_aload_n dJ25_rotateLeft_32 rfl)), m_aload⟩ (
  lkp_c (P := OkP 66) ⟨(PuOK.ok (ok_aload_n dJ25_rotateLeft_33 rfl)), m_aload⟩ (
  lkp_c (P := OkP 66) ⟨ok_get ⟨"java/util/TreeMap$Entry", q2306, Or.inl rfl⟩ dJ25_rotateLeft_34, m_get⟩ (
  lkp_c (P := OkP 66) ⟨ok_put ⟨"java/util/TreeMap$Entry", q2306, Or.inl rfl⟩ rfl fd_114 rfl dJ25_rotateLeft_37, m_put⟩ (
  lkp_c (P := OkP 66) ⟨(PuOK.ok (ok_aload_n dJ25_rotateLeft_40 rfl)), m_aload⟩ (
  lkp_c (P := OkP 66) ⟨ok_get ⟨"java/util/TreeMap$Entry", q2306, Or.inl rfl⟩ dJ25_rotateLeft_41, m_get⟩ (
  lkp_c (P := OkP 66) ⟨(PuOK.ok (ok_ifnonnull dJ25_rotateLeft_44 rfl)), m_ifnonnull⟩ (
  lkp_c (P := OkP 66) ⟨(PuOK.ok (ok_aload_n dJ25_rotateLeft_47 rfl)), m_aload⟩ (
  lkp_c (P := OkP 66) ⟨(PuOK.ok (ok_aload_n dJ25_rotateLeft_48 rfl)), m_aload⟩ (
  lkp_c (P := OkP 66) ⟨ok_put ⟨"java/util/TreeMap", q2231, Or.inl rfl⟩ rfl fd_103 rfl dJ25_rotateLeft_49, m_put⟩ (
  lkp_c (P := OkP 66) ⟨(PuOK.ok (ok_goto dJ25_rotateLeft_52 rfl)), m_goto⟩ (
  lkp_c (P := OkP 66) ⟨(PuOK.ok (ok_aload_n dJ25_rotateLeft_55 rfl)), m_aload⟩ (
  lkp_c (P := OkP 66) ⟨ok_get ⟨"java/util/TreeMap$Entry", q2306, Or.inl rfl⟩ dJ25_rotateLeft_56, m_get⟩ (
  lkp_c (P := OkP 66) ⟨ok_get ⟨"java/util/TreeMap$Entry", q2303, Or.inl rfl⟩ dJ25_rotateLeft_59, m_get⟩ (
  lkp_c (P := OkP 66) ⟨(PuOK.ok (ok_aload_n dJ25_rotateLeft_62 rfl)), m_aload⟩ (
  lkp_c (P := OkP 66) ⟨(PuOK.ok (ok_acmp_ne dJ25_rotateLeft_63 rfl)), m_acmp⟩ (
  trivial))))))))))))))))))))))))))))))))
theorem c_66_1 : LkP (OkP 66) [(66, o_aload 1 1), (67, o_get 114), (70, o_aload 2 1), (71, o_put 112 0), (74, o_goto 85), (77, o_aload 1 1), (78, o_get 114), (81, o_aload 2 1), (82, o_put 113 0), (85, o_aload 2 1), (86, o_aload 1 1), (87, o_put 112 0), (90, o_aload 1 1), (91, o_aload 2 1), (92, o_put 114 0), (95, o_vret)] := lkp_c (P := OkP 66) ⟨(PuOK.ok (ok_aload_n dJ25_rotateLeft_66 rfl)), m_aload⟩ (
  lkp_c (P := OkP 66) ⟨ok_get ⟨"java/util/TreeMap$Entry", q2306, Or.inl rfl⟩ dJ25_rotateLeft_67, m_get⟩ (
  lkp_c (P := OkP 66) ⟨(PuOK.ok (ok_aload_n dJ25_rotateLeft_70 rfl)), m_aload⟩ (
  lkp_c (P := OkP 66) ⟨ok_put ⟨"java/util/TreeMap$Entry", q2303, Or.inl rfl⟩ rfl fd_112 rfl dJ25_rotateLeft_71, m_put⟩ (
  lkp_c (P := OkP 66) ⟨(PuOK.ok (ok_goto dJ25_rotateLeft_74 rfl)), m_goto⟩ (
  lkp_c (P := OkP 66) ⟨(PuOK.ok (ok_aload_n dJ25_rotateLeft_77 rfl)), m_aload⟩ (
  lkp_c (P := OkP 66) ⟨ok_get ⟨"java/util/TreeMap$Entry", q2306, Or.inl rfl⟩ dJ25_rotateLeft_78, m_get⟩ (
  lkp_c (P := OkP 66) ⟨(PuOK.ok (ok_aload_n dJ25_rotateLeft_81 rfl)), m_aload⟩ (
  lkp_c (P := OkP 66) ⟨ok_put ⟨"java/util/TreeMap$Entry", q2304, Or.inl rfl⟩ rfl fd_113 rfl dJ25_rotateLeft_82, m_put⟩ (
  lkp_c (P := OkP 66) ⟨(PuOK.ok (ok_aload_n dJ25_rotateLeft_85 rfl)), m_aload⟩ (
  lkp_c (P := OkP 66) ⟨(PuOK.ok (ok_aload_n dJ25_rotateLeft_86 rfl)), m_aload⟩ (
  lkp_c (P := OkP 66) ⟨ok_put ⟨"java/util/TreeMap$Entry", q2303, Or.inl rfl⟩ rfl fd_112 rfl dJ25_rotateLeft_87, m_put⟩ (
  lkp_c (P := OkP 66) ⟨(PuOK.ok (ok_aload_n dJ25_rotateLeft_90 rfl)), m_aload⟩ (
  lkp_c (P := OkP 66) ⟨(PuOK.ok (ok_aload_n dJ25_rotateLeft_91 rfl)), m_aload⟩ (
  lkp_c (P := OkP 66) ⟨ok_put ⟨"java/util/TreeMap$Entry", q2306, Or.inl rfl⟩ rfl fd_114 rfl dJ25_rotateLeft_92, m_put⟩ (
  lkp_c (P := OkP 66) ⟨ok_vret rfl dJ25_rotateLeft_95, m_vret⟩ (
  trivial))))))))))))))))
theorem mt_66 : MtOK TB NT IT 66 := ⟨by decide +kernel, rfl, (fun h => by cases h), Or.inl ⟨rfl, rfl⟩, rfl, by decide, lk2_all (P := OkP 66) ⟨c_66_0, c_66_1, trivial⟩⟩
