set_option maxRecDepth 100000
/-! each op is what its instruction does -/
def dkwJ25_rotateRight_4 : List UInt8 := [177]
abbrev dktJ25_rotateRight_4 : List UInt8 := dkwJ25_rotateRight_4 ++ []
def dkwJ25_rotateRight_3 : List UInt8 := [181, 0, 114, 167, 0, 11, 43, 180, 0, 124, 44, 181, 0, 111, 44, 43, 181, 0, 114, 43, 44, 181, 0, 124]
abbrev dktJ25_rotateRight_3 : List UInt8 := dkwJ25_rotateRight_3 ++ dktJ25_rotateRight_4
def dkwJ25_rotateRight_2 : List UInt8 := [44, 181, 0, 101, 167, 0, 33, 43, 180, 0, 124, 180, 0, 114, 43, 166, 0, 14, 43, 180, 0, 124, 44]
abbrev dktJ25_rotateRight_2 : List UInt8 := dkwJ25_rotateRight_2 ++ dktJ25_rotateRight_3
def dkwJ25_rotateRight_1 : List UInt8 := [44, 180, 0, 114, 43, 181, 0, 124, 44, 43, 180, 0, 124, 181, 0, 124, 43, 180, 0, 124, 199, 0, 11, 42]
abbrev dktJ25_rotateRight_1 : List UInt8 := dkwJ25_rotateRight_1 ++ dktJ25_rotateRight_2
def dkwJ25_rotateRight_0 : List UInt8 := [43, 198, 0, 94, 43, 180, 0, 111, 77, 43, 44, 180, 0, 114, 181, 0, 111, 44, 180, 0, 114, 198, 0, 11]
abbrev dktJ25_rotateRight_0 : List UInt8 := dkwJ25_rotateRight_0 ++ dktJ25_rotateRight_1
theorem dksJ25_rotateRight_0 : cJ25_rotateRight.data.toList.drop 0 = dktJ25_rotateRight_0 := by decide +kernel
theorem dksJ25_rotateRight_1 : cJ25_rotateRight.data.toList.drop 24 = dktJ25_rotateRight_1 := dk_seg dksJ25_rotateRight_0 24 rfl rfl
theorem dksJ25_rotateRight_2 : cJ25_rotateRight.data.toList.drop 48 = dktJ25_rotateRight_2 := dk_seg dksJ25_rotateRight_1 24 rfl rfl
theorem dksJ25_rotateRight_3 : cJ25_rotateRight.data.toList.drop 71 = dktJ25_rotateRight_3 := dk_seg dksJ25_rotateRight_2 23 rfl rfl
theorem dksJ25_rotateRight_4 : cJ25_rotateRight.data.toList.drop 95 = dktJ25_rotateRight_4 := dk_seg dksJ25_rotateRight_3 24 rfl rfl
theorem dJ25_rotateRight_0 : decode cJ25_rotateRight 0 = .ok (.aload_n 1, 1) := dk_43 (dk_at dksJ25_rotateRight_0 0 rfl rfl)
theorem dJ25_rotateRight_1 : decode cJ25_rotateRight 1 = .ok (.ifnull 94, 3) := dk_198 0 94 (dk_at dksJ25_rotateRight_0 1 rfl rfl)
theorem dJ25_rotateRight_4 : decode cJ25_rotateRight 4 = .ok (.aload_n 1, 1) := dk_43 (dk_at dksJ25_rotateRight_0 4 rfl rfl)
theorem dJ25_rotateRight_5 : decode cJ25_rotateRight 5 = .ok (.getfield 111, 3) := dk_180 0 111 (dk_at dksJ25_rotateRight_0 5 rfl rfl)
theorem dJ25_rotateRight_8 : decode cJ25_rotateRight 8 = .ok (.astore_n 2, 1) := dk_77 (dk_at dksJ25_rotateRight_0 8 rfl rfl)
theorem dJ25_rotateRight_9 : decode cJ25_rotateRight 9 = .ok (.aload_n 1, 1) := dk_43 (dk_at dksJ25_rotateRight_0 9 rfl rfl)
theorem dJ25_rotateRight_10 : decode cJ25_rotateRight 10 = .ok (.aload_n 2, 1) := dk_44 (dk_at dksJ25_rotateRight_0 10 rfl rfl)
theorem dJ25_rotateRight_11 : decode cJ25_rotateRight 11 = .ok (.getfield 114, 3) := dk_180 0 114 (dk_at dksJ25_rotateRight_0 11 rfl rfl)
theorem dJ25_rotateRight_14 : decode cJ25_rotateRight 14 = .ok (.putfield 111, 3) := dk_181 0 111 (dk_at dksJ25_rotateRight_0 14 rfl rfl)
theorem dJ25_rotateRight_17 : decode cJ25_rotateRight 17 = .ok (.aload_n 2, 1) := dk_44 (dk_at dksJ25_rotateRight_0 17 rfl rfl)
theorem dJ25_rotateRight_18 : decode cJ25_rotateRight 18 = .ok (.getfield 114, 3) := dk_180 0 114 (dk_at dksJ25_rotateRight_0 18 rfl rfl)
theorem dJ25_rotateRight_21 : decode cJ25_rotateRight 21 = .ok (.ifnull 11, 3) := dk_198 0 11 (dk_at dksJ25_rotateRight_0 21 rfl rfl)
theorem dJ25_rotateRight_24 : decode cJ25_rotateRight 24 = .ok (.aload_n 2, 1) := dk_44 (dk_at dksJ25_rotateRight_1 0 rfl rfl)
theorem dJ25_rotateRight_25 : decode cJ25_rotateRight 25 = .ok (.getfield 114, 3) := dk_180 0 114 (dk_at dksJ25_rotateRight_1 1 rfl rfl)
theorem dJ25_rotateRight_28 : decode cJ25_rotateRight 28 = .ok (.aload_n 1, 1) := dk_43 (dk_at dksJ25_rotateRight_1 4 rfl rfl)
theorem dJ25_rotateRight_29 : decode cJ25_rotateRight 29 = .ok (.putfield 124, 3) := dk_181 0 124 (dk_at dksJ25_rotateRight_1 5 rfl rfl)
theorem dJ25_rotateRight_32 : decode cJ25_rotateRight 32 = .ok (.aload_n 2, 1) := dk_44 (dk_at dksJ25_rotateRight_1 8 rfl rfl)
theorem dJ25_rotateRight_33 : decode cJ25_rotateRight 33 = .ok (.aload_n 1, 1) := dk_43 (dk_at dksJ25_rotateRight_1 9 rfl rfl)
theorem dJ25_rotateRight_34 : decode cJ25_rotateRight 34 = .ok (.getfield 124, 3) := dk_180 0 124 (dk_at dksJ25_rotateRight_1 10 rfl rfl)
theorem dJ25_rotateRight_37 : decode cJ25_rotateRight 37 = .ok (.putfield 124, 3) := dk_181 0 124 (dk_at dksJ25_rotateRight_1 13 rfl rfl)
theorem dJ25_rotateRight_40 : decode cJ25_rotateRight 40 = .ok (.aload_n 1, 1) := dk_43 (dk_at dksJ25_rotateRight_1 16 rfl rfl)
theorem dJ25_rotateRight_41 : decode cJ25_rotateRight 41 = .ok (.getfield 124, 3) := dk_180 0 124 (dk_at dksJ25_rotateRight_1 17 rfl rfl)
theorem dJ25_rotateRight_44 : decode cJ25_rotateRight 44 = .ok (.ifnonnull 11, 3) := dk_199 0 11 (dk_at dksJ25_rotateRight_1 20 rfl rfl)
theorem dJ25_rotateRight_47 : decode cJ25_rotateRight 47 = .ok (.aload_n 0, 1) := dk_42 (dk_at dksJ25_rotateRight_1 23 rfl rfl)
theorem dJ25_rotateRight_48 : decode cJ25_rotateRight 48 = .ok (.aload_n 2, 1) := dk_44 (dk_at dksJ25_rotateRight_2 0 rfl rfl)
theorem dJ25_rotateRight_49 : decode cJ25_rotateRight 49 = .ok (.putfield 101, 3) := dk_181 0 101 (dk_at dksJ25_rotateRight_2 1 rfl rfl)
theorem dJ25_rotateRight_52 : decode cJ25_rotateRight 52 = .ok (.goto 33, 3) := dk_167 0 33 (dk_at dksJ25_rotateRight_2 4 rfl rfl)
theorem dJ25_rotateRight_55 : decode cJ25_rotateRight 55 = .ok (.aload_n 1, 1) := dk_43 (dk_at dksJ25_rotateRight_2 7 rfl rfl)
theorem dJ25_rotateRight_56 : decode cJ25_rotateRight 56 = .ok (.getfield 124, 3) := dk_180 0 124 (dk_at dksJ25_rotateRight_2 8 rfl rfl)
theorem dJ25_rotateRight_59 : decode cJ25_rotateRight 59 = .ok (.getfield 114, 3) := dk_180 0 114 (dk_at dksJ25_rotateRight_2 11 rfl rfl)
theorem dJ25_rotateRight_62 : decode cJ25_rotateRight 62 = .ok (.aload_n 1, 1) := dk_43 (dk_at dksJ25_rotateRight_2 14 rfl rfl)
theorem dJ25_rotateRight_63 : decode cJ25_rotateRight 63 = .ok (.if_acmp .ne 14, 3) := dk_166 0 14 (dk_at dksJ25_rotateRight_2 15 rfl rfl)
theorem dJ25_rotateRight_66 : decode cJ25_rotateRight 66 = .ok (.aload_n 1, 1) := dk_43 (dk_at dksJ25_rotateRight_2 18 rfl rfl)
theorem dJ25_rotateRight_67 : decode cJ25_rotateRight 67 = .ok (.getfield 124, 3) := dk_180 0 124 (dk_at dksJ25_rotateRight_2 19 rfl rfl)
theorem dJ25_rotateRight_70 : decode cJ25_rotateRight 70 = .ok (.aload_n 2, 1) := dk_44 (dk_at dksJ25_rotateRight_2 22 rfl rfl)
theorem dJ25_rotateRight_71 : decode cJ25_rotateRight 71 = .ok (.putfield 114, 3) := dk_181 0 114 (dk_at dksJ25_rotateRight_3 0 rfl rfl)
theorem dJ25_rotateRight_74 : decode cJ25_rotateRight 74 = .ok (.goto 11, 3) := dk_167 0 11 (dk_at dksJ25_rotateRight_3 3 rfl rfl)
theorem dJ25_rotateRight_77 : decode cJ25_rotateRight 77 = .ok (.aload_n 1, 1) := dk_43 (dk_at dksJ25_rotateRight_3 6 rfl rfl)
theorem dJ25_rotateRight_78 : decode cJ25_rotateRight 78 = .ok (.getfield 124, 3) := dk_180 0 124 (dk_at dksJ25_rotateRight_3 7 rfl rfl)
theorem dJ25_rotateRight_81 : decode cJ25_rotateRight 81 = .ok (.aload_n 2, 1) := dk_44 (dk_at dksJ25_rotateRight_3 10 rfl rfl)
theorem dJ25_rotateRight_82 : decode cJ25_rotateRight 82 = .ok (.putfield 111, 3) := dk_181 0 111 (dk_at dksJ25_rotateRight_3 11 rfl rfl)
theorem dJ25_rotateRight_85 : decode cJ25_rotateRight 85 = .ok (.aload_n 2, 1) := dk_44 (dk_at dksJ25_rotateRight_3 14 rfl rfl)
theorem dJ25_rotateRight_86 : decode cJ25_rotateRight 86 = .ok (.aload_n 1, 1) := dk_43 (dk_at dksJ25_rotateRight_3 15 rfl rfl)
theorem dJ25_rotateRight_87 : decode cJ25_rotateRight 87 = .ok (.putfield 114, 3) := dk_181 0 114 (dk_at dksJ25_rotateRight_3 16 rfl rfl)
theorem dJ25_rotateRight_90 : decode cJ25_rotateRight 90 = .ok (.aload_n 1, 1) := dk_43 (dk_at dksJ25_rotateRight_3 19 rfl rfl)
theorem dJ25_rotateRight_91 : decode cJ25_rotateRight 91 = .ok (.aload_n 2, 1) := dk_44 (dk_at dksJ25_rotateRight_3 20 rfl rfl)
theorem dJ25_rotateRight_92 : decode cJ25_rotateRight 92 = .ok (.putfield 124, 3) := dk_181 0 124 (dk_at dksJ25_rotateRight_3 21 rfl rfl)
theorem dJ25_rotateRight_95 : decode cJ25_rotateRight 95 = .ok (.return_, 1) := dk_177 (dk_at dksJ25_rotateRight_4 0 rfl rfl)
theorem c_67_0 : LkP (OkP 67) [(0, o_aload 1 1), (1, o_ifnull 95), (4, o_aload 1 1), (5, o_get 112), (8, o_astore 2 1), (9, o_aload 1 1), (10, o_aload 2 1), (11, o_get 113), (14, o_put 112 0), (17, o_aload 2 1), (18, o_get 113), (21, o_ifnull 32), (24, o_aload 2 1), (25, o_get 113), (28, o_aload 1 1), (29, o_put 114 0), (32, o_aload 2 1), (33, o_aload 1 1), (34, o_get 114), (37, o_put 114 0), (40, o_aload 1 1), (41, o_get 114), (44, o_ifnonnull 55), (47, o_aload 0 1), (48, o_aload 2 1), (49, o_put 103 0), (52, o_goto 85), (55, o_aload 1 1), (56, o_get 114), (59, o_get 113), (62, o_aload 1 1), (63, o_acmp false 77)] := lkp_c (P := OkP 67) ⟨(PuOK.ok (ok_aload_n dJ25_rotateRight_0 rfl)), m_aload⟩ (
  lkp_c (P := OkP 67) ⟨(PuOK.ok (ok_ifnull dJ25_rotateRight_1 rfl)), m_ifnull⟩ (
  lkp_c (P := OkP 67) ⟨(PuOK.ok (ok_aload_n dJ25_rotateRight_4 rfl)), m_aload⟩ (
  lkp_c (P := OkP 67) ⟨ok_get ⟨"java/util/TreeMap$Entry", q2303, Or.inl rfl⟩ dJ25_rotateRight_5, m_get⟩ (
  lkp_c (P := OkP 67) ⟨(PuOK.ok (ok_astore_n dJ25_rotateRight_8 rfl)), m_astore⟩ (
  lkp_c (P := OkP 67) ⟨(PuOK.ok (ok_aload_n dJ25_rotateRight_9 rfl)), m_aload⟩ (
  lkp_c (P := OkP 67) ⟨(PuOK.ok (ok_aload_n dJ25_rotateRight_10 rfl)), m_aload⟩ (
  lkp_c (P := OkP 67) ⟨ok_get ⟨"java/util/TreeMap$Entry", q2304, Or.inl rfl⟩ dJ25_rotateRight_11, m_get⟩ (
  lkp_c (P := OkP 67) ⟨ok_put ⟨"java/util/TreeMap$Entry", q2303, Or.inl rfl⟩ rfl fd_112 rfl dJ25_rotateRight_14, m_put⟩ (
  lkp_c (P := OkP 67) ⟨(PuOK.ok (ok_aload_n dJ25_rotateRight_17 rfl)), m_aload⟩ (
  lkp_c (P := OkP 67) ⟨ok_get ⟨"java/util/TreeMap$Entry", q2304, Or.inl rfl⟩ dJ25_rotateRight_18, m_get⟩ (
  lkp_c (P := OkP 67) ⟨(PuOK.ok (ok_ifnull dJ25_rotateRight_21 rfl)), m_ifnull⟩ (
  lkp_c (P := OkP 67) ⟨(PuOK.ok (ok_aload_n dJ25_rotateRight_24 rfl)), m_aload⟩ (
  lkp_c (P := OkP 67) ⟨ok_get ⟨"java/util/TreeMap$Entry", q2304, Or.inl rfl⟩ dJ25_rotateRight_25, m_get⟩ (
  lkp_c (P := OkP 67) ⟨(PuOK.ok (ok_aload_n dJ25_rotateRight_28 rfl)), m_aload⟩ (
  lkp_c (P := OkP 67) ⟨ok_put ⟨"java/util/TreeMap$Entry", q2306, Or.inl rfl⟩ rfl fd_114 rfl dJ25_rotateRight_29, m_put⟩ (
  lkp_c (P := OkP 67) ⟨(PuOK.ok (ok_aload_n dJ25_rotateRight_32 rfl)), m_aload⟩ (
  lkp_c (P := OkP 67) ⟨(PuOK.ok (ok_aload_n dJ25_rotateRight_33 rfl)), m_aload⟩ (
  lkp_c (P := OkP 67) ⟨ok_get ⟨"java/util/TreeMap$Entry", q2306, Or.inl rfl⟩ dJ25_rotateRight_34, m_get⟩ (
  lkp_c (P := OkP 67) ⟨ok_put ⟨"java/util/TreeMap$Entry", q2306, Or.inl rfl⟩ rfl fd_114 rfl dJ25_rotateRight_37, m_put⟩ (
  lkp_c (P := OkP 67) ⟨(PuOK.ok (ok_aload_n dJ25_rotateRight_40 rfl)), m_aload⟩ (
  lkp_c (P := OkP 67) ⟨ok_get ⟨"java/util/TreeMap$Entry", q2306, Or.inl rfl⟩ dJ25_rotateRight_41, m_get⟩ (
  lkp_c (P := OkP 67) ⟨(PuOK.ok (ok_ifnonnull dJ25_rotateRight_44 rfl)), m_ifnonnull⟩ (
  lkp_c (P := OkP 67) ⟨(PuOK.ok (ok_aload_n dJ25_rotateRight_47 rfl)), m_aload⟩ (
  lkp_c (P := OkP 67) ⟨(PuOK.ok (ok_aload_n dJ25_rotateRight_48 rfl)), m_aload⟩ (
  lkp_c (P := OkP 67) ⟨ok_put ⟨"java/util/TreeMap", q2231, Or.inl rfl⟩ rfl fd_103 rfl dJ25_rotateRight_49, m_put⟩ (
  lkp_c (P := OkP 67) ⟨(PuOK.ok (ok_goto dJ25_rotateRight_52 rfl)), m_goto⟩ (
  lkp_c (P := OkP 67) ⟨(PuOK.ok (ok_aload_n dJ25_rotateRight_55 rfl)), m_aload⟩ (
  lkp_c (P := OkP 67) ⟨ok_get ⟨"java/util/TreeMap$Entry", q2306, Or.inl rfl⟩ dJ25_rotateRight_56, m_get⟩ (
  lkp_c (P := OkP 67) ⟨ok_get ⟨"java/util/TreeMap$Entry", q2304, Or.inl rfl⟩ dJ25_rotateRight_59, m_get⟩ (
  lkp_c (P := OkP 67) ⟨(PuOK.ok (ok_aload_n dJ25_rotateRight_62 rfl)), m_aload⟩ (
  lkp_c (P := OkP 67) ⟨(PuOK.ok (ok_acmp_ne dJ25_rotateRight_63 rfl)), m_acmp⟩ (
  trivial))))))))))))))))))))))))))))))))
theorem c_67_1 : LkP (OkP 67) [(66, o_aload 1 1), (67, o_get 114), (70, o_aload 2 1), (71, o_put 113 0), (74, o_goto 85), (77, o_aload 1 1), (78, o_get 114), (81, o_aload 2 1), (82, o_put 112 0), (85, o_aload 2 1), (86, o_aload 1 1), (87, o_put 113 0), (90, o_aload 1 1), (91, o_aload 2 1), (92, o_put 114 0), (95, o_vret)] := lkp_c (P := OkP 67) ⟨(PuOK.ok (ok_aload_n dJ25_rotateRight_66 rfl)), m_aload⟩ (
  lkp_c (P := OkP 67) ⟨ok_get ⟨"java/util/TreeMap$Entry", q2306, Or.inl rfl⟩ dJ25_rotateRight_67, m_get⟩ (
  lkp_c (P := OkP 67) ⟨(PuOK.ok (ok_aload_n dJ25_rotateRight_70 rfl)), m_aload⟩ (
  lkp_c (P := OkP 67) ⟨ok_put ⟨"java/util/TreeMap$Entry", q2304, Or.inl rfl⟩ rfl fd_113 rfl dJ25_rotateRight_71, m_put⟩ (
  lkp_c (P := OkP 67) ⟨(PuOK.ok (ok_goto dJ25_rotateRight_74 rfl)), m_goto⟩ (
  lkp_c (P := OkP 67) ⟨(PuOK.ok (ok_aload_n dJ25_rotateRight_77 rfl)), m_aload⟩ (
  lkp_c (P := OkP 67) ⟨ok_get ⟨"java/util/TreeMap$Entry", q2306, Or.inl rfl⟩ dJ25_rotateRight_78, m_get⟩ (
  lkp_c (P := OkP 67) ⟨(PuOK.ok (ok_aload_n dJ25_rotateRight_81 rfl)), m_aload⟩ (
  lkp_c (P := OkP 67) ⟨ok_put ⟨"java/util/TreeMap$Entry", q2303, Or.inl rfl⟩ rfl fd_112 rfl dJ25_rotateRight_82, m_put⟩ (
  lkp_c (P := OkP 67) ⟨(PuOK.ok (ok_aload_n dJ25_rotateRight_85 rfl)), m_aload⟩ (
  lkp_c (P := OkP 67) ⟨(PuOK.ok (ok_aload_n dJ25_rotateRight_86 rfl)), m_aload⟩ (
  lkp_c (P := OkP 67) ⟨ok_put ⟨"java/util/TreeMap$Entry", q2304, Or.inl rfl⟩ rfl fd_113 rfl dJ25_rotateRight_87, m_put⟩ (
  lkp_c (P := OkP 67) ⟨(PuOK.ok (ok_aload_n dJ25_rotateRight_90 rfl)), m_aload⟩ (
  lkp_c (P := OkP 67) ⟨(PuOK.ok (ok_aload_n dJ25_rotateRight_91 rfl)), m_aload⟩ (
  lkp_c (P := OkP 67) ⟨ok_put ⟨"java/util/TreeMap$Entry", q2306, Or.inl rfl⟩ rfl fd_114 rfl dJ25_rotateRight_92, m_put⟩ (
  lkp_c (P := OkP 67) ⟨ok_vret rfl dJ25_rotateRight_95, m_vret⟩ (
  trivial))))))))))))))))
theorem mt_67 : MtOK TB NT IT 67 := ⟨by decide +kernel, rfl, (fun h => by cases h), Or.inl ⟨rfl, rfl⟩, rfl, by decide, lk2_all (P := OkP 67) ⟨c_67_0, c_67_1, trivial⟩⟩
def dkwJ25_values_1 : List UInt8 := [176]
abbrev dktJ25_values_1 : List UInt8 := dkwJ25_values_1 ++ []
def dkwJ25_values_0 : List UInt8 := [42, 180, 0, 233, 76, 43, 199, 0, 17, 187, 0, 237, 89, 42, 183, 0, 239, 76, 42, 43, 181, 0, 233, 43]
abbrev dktJ25_values_0 : List UInt8 := dkwJ25_values_0 ++ dktJ25_values_1
theorem dksJ25_values_0 : cJ25_values.data.toList.drop 0 = dktJ25_values_0 := by decide +kernel
theorem dksJ25_values_1 : cJ25_values.data.toList.drop 24 = dktJ25_values_1 := dk_seg dksJ25_values_0 24 rfl rfl
theorem dJ25_values_0 : decode cJ25_values 0 = .ok (.aload_n 0, 1) := dk_42 (dk_at dksJ25_values_0 0 rfl rfl)
theorem dJ25_values_1 : decode cJ25_values 1 = .ok (.getfield 233, 3) := dk_180 0 233 (dk_at dksJ25_values_0 1 rfl rfl)
theorem dJ25_values_4 : decode cJ25_values 4 = .ok (.astore_n 1, 1) := dk_76 (dk_at dksJ25_values_0 4 rfl rfl)
theorem dJ25_values_5 : decode cJ25_values 5 = .ok (.aload_n 1, 1) := dk_43 (dk_at dksJ25_values_0 5 rfl rfl)
theorem dJ25_values_6 : decode cJ25_values 6 = .ok (.ifnonnull 17, 3) := dk_199 0 17 (dk_at dksJ25_values_0 6 rfl rfl)
theorem dJ25_values_9 : decode cJ25_values 9 = .ok (.new 237, 3) := dk_187 0 237 (dk_at dksJ25_values_0 9 rfl rfl)
theorem dJ25_values_12 : decode cJ25_values 12 = .ok (.dup, 1) := dk_89 (dk_at dksJ25_values_0 12 rfl rfl)
theorem dJ25_values_13 : decode cJ25_values 13 = .ok (.aload_n 0, 1) := dk_42 (dk_at dksJ25_values_0 13 rfl rfl)
theorem dJ25_values_14 : decode cJ25_values 14 = .ok (.invokespecial 239, 3) := dk_183 0 239 (dk_at dksJ25_values_0 14 rfl rfl)
theorem dJ25_values_17 : decode cJ25_values 17 = .ok (.astore_n 1, 1) := dk_76 (dk_at dksJ25_values_0 17 rfl rfl)
theorem dJ25_values_18 : decode cJ25_values 18 = .ok (.aload_n 0, 1) := dk_42 (dk_at dksJ25_values_0 18 rfl rfl)
theorem dJ25_values_19 : decode cJ25_values 19 = .ok (.aload_n 1, 1) := dk_43 (dk_at dksJ25_values_0 19 rfl rfl)
theorem dJ25_values_20 : decode cJ25_values 20 = .ok (.putfield 233, 3) := dk_181 0 233 (dk_at dksJ25_values_0 20 rfl rfl)
theorem dJ25_values_23 : decode cJ25_values 23 = .ok (.aload_n 1, 1) := dk_43 (dk_at dksJ25_values_0 23 rfl rfl)
theorem dJ25_values_24 : decode cJ25_values 24 = .ok (.areturn, 1) := dk_176 (dk_at dksJ25_values_1 0 rfl rfl)
theorem c_68_0 : LkP (OkP 68) [(0, o_aload 0 1), (1, o_get 30), (4, o_astore 1 1), (5, o_aload 1 1), (6, o_ifnonnull 23), (9, o_new 23 1 dv23), (12, o_dup), (13, o_aload 0 1), (14, o_ci 84 1), (17, o_astore 1 1), (18, o_aload 0 1), (19, o_aload 1 1), (20, o_put 30 0), (23, o_aload 1 1), (24, o_ret 0)] := lkp_c (P := OkP 68) ⟨(PuOK.ok (ok_aload_n dJ25_values_0 rfl)), m_aload⟩ (
  lkp_c (P := OkP 68) ⟨ok_get ⟨"java/util/TreeMap", q607, Or.inr q608⟩ dJ25_values_1, m_get⟩ (
  lkp_c (P := OkP 68) ⟨(PuOK.ok (ok_astore_n dJ25_values_4 rfl)), m_astore⟩ (
  lkp_c (P := OkP 68) ⟨(PuOK.ok (ok_aload_n dJ25_values_5 rfl)), m_aload⟩ (
  lkp_c (P := OkP 68) ⟨(PuOK.ok (ok_ifnonnull dJ25_values_6 rfl)), m_ifnonnull⟩ (
  lkp_c (P := OkP 68) ⟨ok_new (ci := 23) (r := CLr 23) rfl dvok_23 q2362 q2363 q167 dJ25_values_9, m_new⟩ (
  lkp_c (P := OkP 68) ⟨(PuOK.ok (ok_dup dJ25_values_12)), m_dup⟩ (
  lkp_c (P := OkP 68) ⟨(PuOK.ok (ok_aload_n dJ25_values_13 rfl)), m_aload⟩ (
  lkp_c (P := OkP 68) ⟨ok_ci (tg_I (rt := none) ⟨rfl, by decide⟩ rfl q2364 q2365 q167 q2366 ⟨cn_21.1, cn_21.2, pd_38⟩ dJ25_values_14) hd_no, m_ci⟩ (
  lkp_c (P := OkP 68) ⟨(PuOK.ok (ok_astore_n dJ25_values_17 rfl)), m_astore⟩ (
  lkp_c (P := OkP 68) ⟨(PuOK.ok (ok_aload_n dJ25_values_18 rfl)), m_aload⟩ (
  lkp_c (P := OkP 68) ⟨(PuOK.ok (ok_aload_n dJ25_values_19 rfl)), m_aload⟩ (
  lkp_c (P := OkP 68) ⟨ok_put ⟨"java/util/TreeMap", q607, Or.inr q608⟩ rfl fd_30 rfl dJ25_values_20, m_put⟩ (
  lkp_c (P := OkP 68) ⟨(PuOK.ok (ok_aload_n dJ25_values_23 rfl)), m_aload⟩ (
  lkp_c (P := OkP 68) ⟨ok_aret rfl (Or.inl ⟨_, rfl⟩) dJ25_values_24, m_ret⟩ (
  trivial)))))))))))))))
theorem mt_68 : MtOK TB NT IT 68 := ⟨by decide +kernel, rfl, (fun h => by cases h), Or.inl ⟨rfl, rfl⟩, rfl, by decide, lk2_all (P := OkP 68) ⟨c_68_0, trivial⟩⟩
def dkwJ25_getFirstEntry_1 : List UInt8 := [43, 176]
abbrev dktJ25_getFirstEntry_1 : List UInt8 := dkwJ25_getFirstEntry_1 ++ []
def dkwJ25_getFirstEntry_0 : List UInt8 := [42, 180, 0, 101, 76, 43, 198, 0, 18, 43, 180, 0, 111, 198, 0, 11, 43, 180, 0, 111, 76, 167, 255, 244]
abbrev dktJ25_getFirstEntry_0 : List UInt8 := dkwJ25_getFirstEntry_0 ++ dktJ25_getFirstEntry_1
theorem dksJ25_getFirstEntry_0 : cJ25_getFirstEntry.data.toList.drop 0 = dktJ25_getFirstEntry_0 := by decide +kernel
theorem dksJ25_getFirstEntry_1 : cJ25_getFirstEntry.data.toList.drop 24 = dktJ25_getFirstEntry_1 := dk_seg dksJ25_getFirstEntry_0 24 rfl rfl
theorem dJ25_getFirstEntry_0 : decode cJ25_getFirstEntry 0 = .ok (.aload_n 0, 1) := dk_42 (dk_at dksJ25_getFirstEntry_0 0 rfl rfl)
theorem dJ25_getFirstEntry_1 : decode cJ25_getFirstEntry 1 = .ok (.getfield 101, 3) := dk_180 0 101 (dk_at dksJ25_getFirstEntry_0 1 rfl rfl)
theorem dJ25_getFirstEntry_4 : decode cJ25_getFirstEntry 4 = .ok (.astore_n 1, 1) := dk_76 (dk_at dksJ25_getFirstEntry_0 4 rfl rfl)
theorem dJ25_getFirstEntry_5 : decode cJ25_getFirstEntry 5 = .ok (.aload_n 1, 1) := dk_43 (dk_at dksJ25_getFirstEntry_0 5 rfl rfl)
theorem dJ25_getFirstEntry_6 : decode cJ25_getFirstEntry 6 = .ok (.ifnull 18, 3) := dk_198 0 18 (dk_at dksJ25_getFirstEntry_0 6 rfl rfl)
theorem dJ25_getFirstEntry_9 : decode cJ25_getFirstEntry 9 = .ok (.aload_n 1, 1) := dk_43 (dk_at dksJ25_getFirstEntry_0 9 rfl rfl)
theorem dJ25_getFirstEntry_10 : decode cJ25_getFirstEntry 10 = .ok (.getfield 111, 3) := dk_180 0 111 (dk_at dksJ25_getFirstEntry_0 10 rfl rfl)
theorem dJ25_getFirstEntry_13 : decode cJ25_getFirstEntry 13 = .ok (.ifnull 11, 3) := dk_198 0 11 (dk_at dksJ25_getFirstEntry_0 13 rfl rfl)
theorem dJ25_getFirstEntry_16 : decode cJ25_getFirstEntry 16 = .ok (.aload_n 1, 1) := dk_43 (dk_at dksJ25_getFirstEntry_0 16 rfl rfl)
theorem dJ25_getFirstEntry_17 : decode cJ25_getFirstEntry 17 = .ok (.getfield 111, 3) := dk_180 0 111 (dk_at dksJ25_getFirstEntry_0 17 rfl rfl)
theorem dJ25_getFirstEntry_20 : decode cJ25_getFirstEntry 20 = .ok (.astore_n 1, 1) := dk_76 (dk_at dksJ25_getFirstEntry_0 20 rfl rfl)
theorem dJ25_getFirstEntry_21 : decode cJ25_getFirstEntry 21 = .ok (.goto (-12), 3) := dk_167 255 244 (dk_at dksJ25_getFirstEntry_0 21 rfl rfl)
theorem dJ25_getFirstEntry_24 : decode cJ25_getFirstEntry 24 = .ok (.aload_n 1, 1) := dk_43 (dk_at dksJ25_getFirstEntry_1 0 rfl rfl)
theorem dJ25_getFirstEntry_25 : decode cJ25_getFirstEntry 25 = .ok (.areturn, 1) := dk_176 (dk_at dksJ25_getFirstEntry_1 1 rfl rfl)
theorem c_69_0 : LkP (OkP 69) [(0, o_aload 0 1), (1, o_get 103), (4, o_astore 1 1), (5, o_aload 1 1), (6, o_ifnull 24), (9, o_aload 1 1), (10, o_get 112), (13, o_ifnull 24), (16, o_aload 1 1), (17, o_get 112), (20, o_astore 1 1), (21, o_goto 9), (24, o_aload 1 1), (25, o_ret 0)] := lkp_c (P := OkP 69) ⟨(PuOK.ok (ok_aload_n dJ25_getFirstEntry_0 rfl)), m_aload⟩ (
  lkp_c (P := OkP 69) ⟨ok_get ⟨"java/util/TreeMap", q2231, Or.inl rfl⟩ dJ25_getFirstEntry_1, m_get⟩ (
  lkp_c (P := OkP 69) ⟨(PuOK.ok (ok_astore_n dJ25_getFirstEntry_4 rfl)), m_astore⟩ (
  lkp_c (P := OkP 69) ⟨(PuOK.ok (ok_aload_n dJ25_getFirstEntry_5 rfl)), m_aload⟩ (
  lkp_c (P := OkP 69) ⟨(PuOK.ok (ok_ifnull dJ25_getFirstEntry_6 rfl)), m_ifnull⟩ (
  lkp_c (P := OkP 69) ⟨(PuOK.ok (ok_aload_n dJ25_getFirstEntry_9 rfl)), m_aload⟩ (
  lkp_c (P := OkP 69) ⟨ok_get ⟨"java/util/TreeMap$Entry", q2303, Or.inl rfl⟩ dJ25_getFirstEntry_10, m_get⟩ (
  lkp_c (P := OkP 69) ⟨(PuOK.ok (ok_ifnull dJ25_getFirstEntry_13 rfl)), m_ifnull⟩ (
  lkp_c (P := OkP 69) ⟨(PuOK.ok (ok_aload_n dJ25_getFirstEntry_16 rfl)), m_aload⟩ (
  lkp_c (P := OkP 69) ⟨ok_get ⟨"java/util/TreeMap$Entry", q2303, Or.inl rfl⟩ dJ25_getFirstEntry_17, m_get⟩ (
  lkp_c (P := OkP 69) ⟨(PuOK.ok (ok_astore_n dJ25_getFirstEntry_20 rfl)), m_astore⟩ (
  lkp_c (P := OkP 69) ⟨(PuOK.ok (ok_goto dJ25_getFirstEntry_21 rfl)), m_goto⟩ (
  lkp_c (P := OkP 69) ⟨(PuOK.ok (ok_aload_n dJ25_getFirstEntry_24 rfl)), m_aload⟩ (
  lkp_c (P := OkP 69) ⟨ok_aret rfl (Or.inl ⟨_, rfl⟩) dJ25_getFirstEntry_25, m_ret⟩ (
  trivial))))))))))))))
theorem mt_69 : MtOK TB NT IT 69 := ⟨by decide +kernel, rfl, (fun h => by cases h), Or.inl ⟨rfl, rfl⟩, rfl, by decide, lk2_all (P := OkP 69) ⟨c_69_0, trivial⟩⟩
def dkwJ26_checkIndex_0 : List UInt8 := [26, 27, 1, 184, 0, 105, 172]
abbrev dktJ26_checkIndex_0 : List UInt8 := dkwJ26_checkIndex_0 ++ []
theorem dksJ26_checkIndex_0 : cJ26_checkIndex.data.toList.drop 0 = dktJ26_checkIndex_0 := by decide +kernel
theorem dJ26_checkIndex_0 : decode cJ26_checkIndex 0 = .ok (.iload_n 0, 1) := dk_26 (dk_at dksJ26_checkIndex_0 0 rfl rfl)
theorem dJ26_checkIndex_1 : decode cJ26_checkIndex 1 = .ok (.iload_n 1, 1) := dk_27 (dk_at dksJ26_checkIndex_0 1 rfl rfl)
theorem dJ26_checkIndex_2 : decode cJ26_checkIndex 2 = .ok (.aconst_null, 1) := dk_1 (dk_at dksJ26_checkIndex_0 2 rfl rfl)
theorem dJ26_checkIndex_3 : decode cJ26_checkIndex 3 = .ok (.invokestatic 105, 3) := dk_184 0 105 (dk_at dksJ26_checkIndex_0 3 rfl rfl)
theorem dJ26_checkIndex_6 : decode cJ26_checkIndex 6 = .ok (.ireturn, 1) := dk_172 (dk_at dksJ26_checkIndex_0 6 rfl rfl)
theorem c_70_0 : LkP (OkP 70) [(0, o_iload 0 1), (1, o_iload 1 1), (2, o_push 1 .null), (3, o_cs 15 3 false none), (6, o_ret 1)] := lkp_c (P := OkP 70) ⟨(PuOK.ok (ok_iload_n dJ26_checkIndex_0 rfl)), m_iload⟩ (
  lkp_c (P := OkP 70) ⟨(PuOK.ok (ok_iload_n dJ26_checkIndex_1 rfl)), m_iload⟩ (
  lkp_c (P := OkP 70) ⟨(PuOK.ok (ok_null dJ26_checkIndex_2)), m_push⟩ (
  lkp_c (P := OkP 70) ⟨ok_cs (tg_S ⟨rfl, by decide⟩ q1813 q1312 q133 q1313 ⟨cn_22.1, cn_22.2, pd_39⟩ dJ26_checkIndex_3) hd_no, m_cs⟩ (
  lkp_c (P := OkP 70) ⟨ok_iret rfl rfl (by decide) dJ26_checkIndex_6, m_ret⟩ (
  trivial)))))
theorem mt_70 : MtOK TB NT IT 70 := ⟨by decide +kernel, rfl, (fun h => by cases h), Or.inl ⟨rfl, rfl⟩, rfl, by decide, lk2_all (P := OkP 70) ⟨c_70_0, trivial⟩⟩
def dkwJ26_requireNonNull_0 : List UInt8 := [42, 199, 0, 11, 187, 0, 84, 89, 183, 0, 86, 191, 42, 176]
abbrev dktJ26_requireNonNull_0 : List UInt8 := dkwJ26_requireNonNull_0 ++ []
theorem dksJ26_requireNonNull_0 : cJ26_requireNonNull.data.toList.drop 0 = dktJ26_requireNonNull_0 := by decide +kernel
theorem dJ26_requireNonNull_0 : decode cJ26_requireNonNull 0 = .ok (.aload_n 0, 1) := dk_42 (dk_at dksJ26_requireNonNull_0 0 rfl rfl)
theorem dJ26_requireNonNull_1 : decode cJ26_requireNonNull 1 = .ok (.ifnonnull 11, 3) := dk_199 0 11 (dk_at dksJ26_requireNonNull_0 1 rfl rfl)
theorem dJ26_requireNonNull_7 : decode cJ26_requireNonNull 7 = .ok (.dup, 1) := dk_89 (dk_at dksJ26_requireNonNull_0 7 rfl rfl)
theorem dJ26_requireNonNull_12 : decode cJ26_requireNonNull 12 = .ok (.aload_n 0, 1) := dk_42 (dk_at dksJ26_requireNonNull_0 12 rfl rfl)
theorem dJ26_requireNonNull_13 : decode cJ26_requireNonNull 13 = .ok (.areturn, 1) := dk_176 (dk_at dksJ26_requireNonNull_0 13 rfl rfl)
theorem c_71_0 : LkP (OkP 71) [(0, o_aload 0 1), (1, o_ifnonnull 12), (7, o_dup), (12, o_aload 0 1), (13, o_ret 0)] := lkp_c (P := OkP 71) ⟨(PuOK.ok (ok_aload_n dJ26_requireNonNull_0 rfl)), m_aload⟩ (
  lkp_c (P := OkP 71) ⟨(PuOK.ok (ok_ifnonnull dJ26_requireNonNull_1 rfl)), m_ifnonnull⟩ (
  lkp_c (P := OkP 71) ⟨(PuOK.ok (ok_dup dJ26_requireNonNull_7)), m_dup⟩ (
  lkp_c (P := OkP 71) ⟨(PuOK.ok (ok_aload_n dJ26_requireNonNull_12 rfl)), m_aload⟩ (
  lkp_c (P := OkP 71) ⟨ok_aret rfl (Or.inl ⟨_, rfl⟩) dJ26_requireNonNull_13, m_ret⟩ (
  trivial)))))
theorem mt_71 : MtOK TB NT IT 71 := ⟨by decide +kernel, rfl, (fun h => by cases h), Or.inl ⟨rfl, rfl⟩, rfl, by decide, lk2_all (P := OkP 71) ⟨c_71_0, trivial⟩⟩
theorem dJ27_init_0 : decode cJ27_init 0 = .ok (.aload_n 0, 1) := by decide +kernel
theorem dJ27_init_1 : decode cJ27_init 1 = .ok (.invokespecial 1, 3) := by decide +kernel
theorem dJ27_init_4 : decode cJ27_init 4 = .ok (.return_, 1) := by decide +kernel
theorem c_72_0 : LkP (OkP 72) [(0, o_aload 0 1), (1, o_ci 0 0), (4, o_vret)] := lkp_c (P := OkP 72) ⟨(PuOK.ok (ok_aload_n dJ27_init_0 rfl)), m_aload⟩ (
  lkp_c (P := OkP 72) ⟨ok_ci (tg_I (rt := none) ⟨rfl, by decide⟩ rfl q2097 q236 q118 q237 ⟨cn_0.1, cn_0.2, pd_0⟩ dJ27_init_1) hd_no, m_ci⟩ (
  lkp_c (P := OkP 72) ⟨ok_vret rfl dJ27_init_4, m_vret⟩ (
  trivial)))
theorem mt_72 : MtOK TB NT IT 72 := ⟨by decide +kernel, rfl, fun _ => rfl, Or.inl ⟨rfl, rfl⟩, rfl, by decide, lk2_all (P := OkP 72) ⟨c_72_0, trivial⟩⟩
def dkwJ28_init_1 : List UInt8 := [181, 0, 17, 42, 44, 181, 0, 21, 177]
abbrev dktJ28_init_1 : List UInt8 := dkwJ28_init_1 ++ []
def dkwJ28_init_0 : List UInt8 := [42, 183, 0, 7, 27, 4, 162, 0, 11, 187, 0, 12, 89, 183, 0, 14, 191, 42, 27, 189, 0, 15]
abbrev dktJ28_init_0 : List UInt8 := dkwJ28_init_0 ++ dktJ28_init_1
theorem dksJ28_init_0 : cJ28_init.data.toList.drop 0 = dktJ28_init_0 := by decide +kernel
theorem dksJ28_init_1 : cJ28_init.data.toList.drop 22 = dktJ28_init_1 := dk_seg dksJ28_init_0 22 rfl rfl
theorem dJ28_init_0 : decode cJ28_init 0 = .ok (.aload_n 0, 1) := dk_42 (dk_at dksJ28_init_0 0 rfl rfl)
theorem dJ28_init_1 : decode cJ28_init 1 = .ok (.invokespecial 7, 3) := dk_183 0 7 (dk_at dksJ28_init_0 1 rfl rfl)
theorem dJ28_init_4 : decode cJ28_init 4 = .ok (.iload_n 1, 1) := dk_27 (dk_at dksJ28_init_0 4 rfl rfl)
theorem dJ28_init_5 : decode cJ28_init 5 = .ok (.iconst 1, 1) := dk_4 (dk_at dksJ28_init_0 5 rfl rfl)
theorem dJ28_init_6 : decode cJ28_init 6 = .ok (.if_icmp .ge 11, 3) := dk_162 0 11 (dk_at dksJ28_init_0 6 rfl rfl)
theorem dJ28_init_12 : decode cJ28_init 12 = .ok (.dup, 1) := dk_89 (dk_at dksJ28_init_0 12 rfl rfl)
theorem dJ28_init_17 : decode cJ28_init 17 = .ok (.aload_n 0, 1) := dk_42 (dk_at dksJ28_init_0 17 rfl rfl)
theorem dJ28_init_18 : decode cJ28_init 18 = .ok (.iload_n 1, 1) := dk_27 (dk_at dksJ28_init_0 18 rfl rfl)
theorem dJ28_init_19 : decode cJ28_init 19 = .ok (.anewarray 15, 3) := dk_189 0 15 (dk_at dksJ28_init_0 19 rfl rfl)
theorem dJ28_init_22 : decode cJ28_init 22 = .ok (.putfield 17, 3) := dk_181 0 17 (dk_at dksJ28_init_1 0 rfl rfl)
theorem dJ28_init_25 : decode cJ28_init 25 = .ok (.aload_n 0, 1) := dk_42 (dk_at dksJ28_init_1 3 rfl rfl)
theorem dJ28_init_26 : decode cJ28_init 26 = .ok (.aload_n 2, 1) := dk_44 (dk_at dksJ28_init_1 4 rfl rfl)
theorem dJ28_init_27 : decode cJ28_init 27 = .ok (.putfield 21, 3) := dk_181 0 21 (dk_at dksJ28_init_1 5 rfl rfl)
theorem dJ28_init_30 : decode cJ28_init 30 = .ok (.return_, 1) := dk_177 (dk_at dksJ28_init_1 8 rfl rfl)
theorem c_73_0 : LkP (OkP 73) [(0, o_aload 0 1), (1, o_ci 72 0), (4, o_iload 1 1), (5, o_push 1 (.int 1)), (6, o_icmp (fun x y => decide (y ≤ x)) 17), (12, o_dup), (17, o_aload 0 1), (18, o_iload 1 1), (19, o_newa 5 3), (22, o_put 97 0), (25, o_aload 0 1), (26, o_aload 2 1), (27, o_put 99 0), (30, o_vret)] := lkp_c (P := OkP 73) ⟨(PuOK.ok (ok_aload_n dJ28_init_0 rfl)), m_aload⟩ (
  lkp_c (P := OkP 73) ⟨ok_ci (tg_I (rt := none) ⟨rfl, by decide⟩ rfl q2094 q2095 q158 q2096 ⟨cn_23.1, cn_23.2, pd_0⟩ dJ28_init_1) hd_no, m_ci⟩ (
  lkp_c (P := OkP 73) ⟨(PuOK.ok (ok_iload_n dJ28_init_4 rfl)), m_iload⟩ (
  lkp_c (P := OkP 73) ⟨(PuOK.ok (ok_iconst dJ28_init_5 rfl)), m_push⟩ (
  lkp_c (P := OkP 73) ⟨(PuOK.ok (ok_icmp_ge dJ28_init_6 rfl)), m_icmp⟩ (
  lkp_c (P := OkP 73) ⟨(PuOK.ok (ok_dup dJ28_init_12)), m_dup⟩ (
  lkp_c (P := OkP 73) ⟨(PuOK.ok (ok_aload_n dJ28_init_17 rfl)), m_aload⟩ (
  lkp_c (P := OkP 73) ⟨(PuOK.ok (ok_iload_n dJ28_init_18 rfl)), m_iload⟩ (
  lkp_c (P := OkP 73) ⟨ok_anew (by decide) (by decide) rfl q2100 q240 dJ28_init_19, m_newa⟩ (
  lkp_c (P := OkP 73) ⟨ok_put ⟨"java/util/PriorityQueue", q2102, Or.inl rfl⟩ rfl fd_97 rfl dJ28_init_22, m_put⟩ (
  lkp_c (P := OkP 73) ⟨(PuOK.ok (ok_aload_n dJ28_init_25 rfl)), m_aload⟩ (
  lkp_c (P := OkP 73) ⟨(PuOK.ok (ok_aload_n dJ28_init_26 rfl)), m_aload⟩ (
  lkp_c (P := OkP 73) ⟨ok_putF q2105 rfl rfl rfl fd_99 rfl dJ28_init_27, m_put⟩ (
  lkp_c (P := OkP 73) ⟨ok_vret rfl dJ28_init_30, m_vret⟩ (
  trivial))))))))))))))
theorem mt_73 : MtOK TB NT IT 73 := ⟨by decide +kernel, rfl, fun _ => rfl, Or.inl ⟨rfl, rfl⟩, rfl, by decide, lk2_all (P := OkP 73) ⟨c_73_0, trivial⟩⟩
def dkwJ28_add_0 : List UInt8 := [42, 43, 182, 0, 89, 172]
abbrev dktJ28_add_0 : List UInt8 := dkwJ28_add_0 ++ []
theorem dksJ28_add_0 : cJ28_add.data.toList.drop 0 = dktJ28_add_0 := by decide +kernel
theorem dJ28_add_0 : decode cJ28_add 0 = .ok (.aload_n 0, 1) := dk_42 (dk_at dksJ28_add_0 0 rfl rfl)
theorem dJ28_add_1 : decode cJ28_add 1 = .ok (.aload_n 1, 1) := dk_43 (dk_at dksJ28_add_0 1 rfl rfl)
theorem dJ28_add_2 : decode cJ28_add 2 = .ok (.invokevirtual 89, 3) := dk_182 0 89 (dk_at dksJ28_add_0 2 rfl rfl)
theorem dJ28_add_5 : decode cJ28_add 5 = .ok (.ireturn, 1) := dk_172 (dk_at dksJ28_add_0 5 rfl rfl)
theorem c_74_0 : LkP (OkP 74) [(0, o_aload 0 1), (1, o_aload 1 1), (2, o_cv [(18, 75)] 1 3 false none), (5, o_ret 5)] := lkp_c (P := OkP 74) ⟨(PuOK.ok (ok_aload_n dJ28_add_0 rfl)), m_aload⟩ (
  lkp_c (P := OkP 74) ⟨(PuOK.ok (ok_aload_n dJ28_add_1 rfl)), m_aload⟩ (
  lkp_c (P := OkP 74) ⟨ok_cv (List.forall_mem_cons.mpr ⟨tg_V (ci := 18) (r := CLr 18) (y := 75) rfl ⟨rfl, by decide⟩ rfl q2121 q2122 q2123 q159 q2124 ⟨cn_24.1, cn_24.2, pd_12⟩ dJ28_add_2, (List.forall_mem_nil _)⟩) hd_no, m_cv⟩ (
  lkp_c (P := OkP 74) ⟨ok_iret rfl rfl (by decide) dJ28_add_5, m_ret⟩ (
  trivial))))
theorem mt_74 : MtOK TB NT IT 74 := ⟨by decide +kernel, rfl, (fun h => by cases h), Or.inl ⟨rfl, rfl⟩, rfl, by decide, lk2_all (P := OkP 74) ⟨c_74_0, trivial⟩⟩
def dkwJ28_offer_2 : List UInt8 := [182, 0, 100, 42, 28, 4, 96, 181, 0, 58, 4, 172]
abbrev dktJ28_offer_2 : List UInt8 := dkwJ28_offer_2 ++ []
def dkwJ28_offer_1 : List UInt8 := [180, 0, 58, 61, 28, 42, 180, 0, 17, 190, 161, 0, 10, 42, 28, 4, 96, 182, 0, 96, 42, 28, 43]
abbrev dktJ28_offer_1 : List UInt8 := dkwJ28_offer_1 ++ dktJ28_offer_2
def dkwJ28_offer_0 : List UInt8 := [43, 199, 0, 11, 187, 0, 74, 89, 183, 0, 76, 191, 42, 89, 180, 0, 93, 4, 96, 181, 0, 93, 42]
abbrev dktJ28_offer_0 : List UInt8 := dkwJ28_offer_0 ++ dktJ28_offer_1
theorem dksJ28_offer_0 : cJ28_offer.data.toList.drop 0 = dktJ28_offer_0 := by decide +kernel
theorem dksJ28_offer_1 : cJ28_offer.data.toList.drop 23 = dktJ28_offer_1 := dk_seg dksJ28_offer_0 23 rfl rfl
theorem dksJ28_offer_2 : cJ28_offer.data.toList.drop 46 = dktJ28_offer_2 := dk_seg dksJ28_offer_1 23 rfl rfl
theorem dJ28_offer_0 : decode cJ28_offer 0 = .ok (.aload_n 1, 1) := dk_43 (dk_at dksJ28_offer_0 0 rfl rfl)
theorem dJ28_offer_1 : decode cJ28_offer 1 = .ok (.ifnonnull 11, 3) := dk_199 0 11 (dk_at dksJ28_offer_0 1 rfl rfl)
theorem dJ28_offer_7 : decode cJ28_offer 7 = .ok (.dup, 1) := dk_89 (dk_at dksJ28_offer_0 7 rfl rfl)
theorem dJ28_offer_12 : decode cJ28_offer 12 = .ok (.aload_n 0, 1) := dk_42 (dk_at dksJ28_offer_0 12 rfl rfl)
theorem dJ28_offer_13 : decode cJ28_offer 13 = .ok (.dup, 1) := dk_89 (dk_at dksJ28_offer_0 13 rfl rfl)
theorem dJ28_offer_14 : decode cJ28_offer 14 = .ok (.getfield 93, 3) := dk_180 0 93 (dk_at dksJ28_offer_0 14 rfl rfl)
theorem dJ28_offer_17 : decode cJ28_offer 17 = .ok (.iconst 1, 1) := dk_4 (dk_at dksJ28_offer_0 17 rfl rfl)
theorem dJ28_offer_18 : decode cJ28_offer 18 = .ok (.iadd, 1) := dk_96 (dk_at dksJ28_offer_0 18 rfl rfl)
theorem dJ28_offer_19 : decode cJ28_offer 19 = .ok (.putfield 93, 3) := dk_181 0 93 (dk_at dksJ28_offer_0 19 rfl rfl)
theorem dJ28_offer_22 : decode cJ28_offer 22 = .ok (.aload_n 0, 1) := dk_42 (dk_at dksJ28_offer_0 22 rfl rfl)
theorem dJ28_offer_23 : decode cJ28_offer 23 = .ok (.getfield 58, 3) := dk_180 0 58 (dk_at dksJ28_offer_1 0 rfl rfl)
theorem dJ28_offer_26 : decode cJ28_offer 26 = .ok (.istore_n 2, 1) := dk_61 (dk_at dksJ28_offer_1 3 rfl rfl)
theorem dJ28_offer_27 : decode cJ28_offer 27 = .ok (.iload_n 2, 1) := dk_28 (dk_at dksJ28_offer_1 4 rfl rfl)
theorem dJ28_offer_28 : decode cJ28_offer 28 = .ok (.aload_n 0, 1) := dk_42 (dk_at dksJ28_offer_1 5 rfl rfl)
theorem dJ28_offer_29 : decode cJ28_offer 29 = .ok (.getfield 17, 3) := dk_180 0 17 (dk_at dksJ28_offer_1 6 rfl rfl)
theorem dJ28_offer_32 : decode cJ28_offer 32 = .ok (.arraylength, 1) := dk_190 (dk_at dksJ28_offer_1 9 rfl rfl)
theorem dJ28_offer_33 : decode cJ28_offer 33 = .ok (.if_icmp .lt 10, 3) := dk_161 0 10 (dk_at dksJ28_offer_1 10 rfl rfl)
theorem dJ28_offer_36 : decode cJ28_offer 36 = .ok (.aload_n 0, 1) := dk_42 (dk_at dksJ28_offer_1 13 rfl rfl)
theorem dJ28_offer_37 : decode cJ28_offer 37 = .ok (.iload_n 2, 1) := dk_28 (dk_at dksJ28_offer_1 14 rfl rfl)
theorem dJ28_offer_38 : decode cJ28_offer 38 = .ok (.iconst 1, 1) := dk_4 (dk_at dksJ28_offer_1 15 rfl rfl)
theorem dJ28_offer_39 : decode cJ28_offer 39 = .ok (.iadd, 1) := dk_96 (dk_at dksJ28_offer_1 16 rfl rfl)
theorem dJ28_offer_40 : decode cJ28_offer 40 = .ok (.invokevirtual 96, 3) := dk_182 0 96 (dk_at dksJ28_offer_1 17 rfl rfl)
theorem dJ28_offer_43 : decode cJ28_offer 43 = .ok (.aload_n 0, 1) := dk_42 (dk_at dksJ28_offer_1 20 rfl rfl)
theorem dJ28_offer_44 : decode cJ28_offer 44 = .ok (.iload_n 2, 1) := dk_28 (dk_at dksJ28_offer_1 21 rfl rfl)
theorem dJ28_offer_45 : decode cJ28_offer 45 = .ok (.aload_n 1, 1) := dk_43 (dk_at dksJ28_offer_1 22 rfl rfl)
theorem dJ28_offer_46 : decode cJ28_offer 46 = .ok (.invokevirtual 100, 3) := dk_182 0 100 (dk_at dksJ28_offer_2 0 rfl rfl)
theorem dJ28_offer_49 : decode cJ28_offer 49 = .ok (.aload_n 0, 1) := dk_42 (dk_at dksJ28_offer_2 3 rfl rfl)
theorem dJ28_offer_50 : decode cJ28_offer 50 = .ok (.iload_n 2, 1) := dk_28 (dk_at dksJ28_offer_2 4 rfl rfl)
theorem dJ28_offer_51 : decode cJ28_offer 51 = .ok (.iconst 1, 1) := dk_4 (dk_at dksJ28_offer_2 5 rfl rfl)
theorem dJ28_offer_52 : decode cJ28_offer 52 = .ok (.iadd, 1) := dk_96 (dk_at dksJ28_offer_2 6 rfl rfl)
theorem dJ28_offer_53 : decode cJ28_offer 53 = .ok (.putfield 58, 3) := dk_181 0 58 (dk_at dksJ28_offer_2 7 rfl rfl)
theorem dJ28_offer_56 : decode cJ28_offer 56 = .ok (.iconst 1, 1) := dk_4 (dk_at dksJ28_offer_2 10 rfl rfl)
theorem dJ28_offer_57 : decode cJ28_offer 57 = .ok (.ireturn, 1) := dk_172 (dk_at dksJ28_offer_2 11 rfl rfl)
theorem c_75_0 : LkP (OkP 75) [(0, o_aload 1 1), (1, o_ifnonnull 12), (7, o_dup), (12, o_aload 0 1), (13, o_dup), (14, o_get 100), (17, o_push 1 (.int 1)), (18, o_iop (fun x y => x + y)), (19, o_put 100 1), (22, o_aload 0 1), (23, o_get 98), (26, o_istore 2 1), (27, o_iload 2 1), (28, o_aload 0 1), (29, o_get 97), (32, o_alen), (33, o_icmp (fun x y => decide (x < y)) 43), (36, o_aload 0 1), (37, o_iload 2 1), (38, o_push 1 (.int 1)), (39, o_iop (fun x y => x + y)), (40, o_cv [(18, 76)] 1 3 true none), (43, o_aload 0 1), (44, o_iload 2 1), (45, o_aload 1 1), (46, o_cv [(18, 77)] 2 3 true none), (49, o_aload 0 1), (50, o_iload 2 1), (51, o_push 1 (.int 1)), (52, o_iop (fun x y => x + y)), (53, o_put 98 1), (56, o_push 1 (.int 1)), (57, o_ret 5)] := lkp_c (P := OkP 75) ⟨(PuOK.ok (ok_aload_n dJ28_offer_0 rfl)), m_aload⟩ (
  lkp_c (P := OkP 75) ⟨(PuOK.ok (ok_ifnonnull dJ28_offer_1 rfl)), m_ifnonnull⟩ (
  lkp_c (P := OkP 75) ⟨(PuOK.ok (ok_dup dJ28_offer_7)), m_dup⟩ (
  lkp_c (P := OkP 75) ⟨(PuOK.ok (ok_aload_n dJ28_offer_12 rfl)), m_aload⟩ (
  lkp_c (P := OkP 75) ⟨(PuOK.ok (ok_dup dJ28_offer_13)), m_dup⟩ (
  lkp_c (P := OkP 75) ⟨ok_get ⟨"java/util/PriorityQueue", q2107, Or.inl rfl⟩ dJ28_offer_14, m_get⟩ (
  lkp_c (P := OkP 75) ⟨(PuOK.ok (ok_iconst dJ28_offer_17 rfl)), m_push⟩ (
  lkp_c (P := OkP 75) ⟨(PuOK.ok (ok_iadd dJ28_offer_18)), m_iop⟩ (
  lkp_c (P := OkP 75) ⟨ok_put ⟨"java/util/PriorityQueue", q2107, Or.inl rfl⟩ rfl fd_100 rfl dJ28_offer_19, m_put⟩ (
  lkp_c (P := OkP 75) ⟨(PuOK.ok (ok_aload_n dJ28_offer_22 rfl)), m_aload⟩ (
  lkp_c (P := OkP 75) ⟨ok_get ⟨"java/util/PriorityQueue", q2104, Or.inl rfl⟩ dJ28_offer_23, m_get⟩ (
  lkp_c (P := OkP 75) ⟨(PuOK.ok (ok_istore_n dJ28_offer_26 rfl)), m_istore⟩ (
  lkp_c (P := OkP 75) ⟨(PuOK.ok (ok_iload_n dJ28_offer_27 rfl)), m_iload⟩ (
  lkp_c (P := OkP 75) ⟨(PuOK.ok (ok_aload_n dJ28_offer_28 rfl)), m_aload⟩ (
  lkp_c (P := OkP 75) ⟨ok_get ⟨"java/util/PriorityQueue", q2102, Or.inl rfl⟩ dJ28_offer_29, m_get⟩ (
  lkp_c (P := OkP 75) ⟨ok_alen dJ28_offer_32, m_alen⟩ (
  lkp_c (P := OkP 75) ⟨(PuOK.ok (ok_icmp_lt dJ28_offer_33 rfl)), m_icmp⟩ (
  lkp_c (P := OkP 75) ⟨(PuOK.ok (ok_aload_n dJ28_offer_36 rfl)), m_aload⟩ (
  lkp_c (P := OkP 75) ⟨(PuOK.ok (ok_iload_n dJ28_offer_37 rfl)), m_iload⟩ (
  lkp_c (P := OkP 75) ⟨(PuOK.ok (ok_iconst dJ28_offer_38 rfl)), m_push⟩ (
  lkp_c (P := OkP 75) ⟨(PuOK.ok (ok_iadd dJ28_offer_39)), m_iop⟩ (
  lkp_c (P := OkP 75) ⟨ok_cv (List.forall_mem_cons.mpr ⟨tg_V (ci := 18) (r := CLr 18) (y := 76) rfl ⟨rfl, by decide⟩ rfl q2144 q2146 qs23 q159 q2147 ⟨cn_24.1, cn_24.2, pd_9⟩ dJ28_offer_40, (List.forall_mem_nil _)⟩) hd_no, m_cv⟩ (
  lkp_c (P := OkP 75) ⟨(PuOK.ok (ok_aload_n dJ28_offer_43 rfl)), m_aload⟩ (
  lkp_c (P := OkP 75) ⟨(PuOK.ok (ok_iload_n dJ28_offer_44 rfl)), m_iload⟩ (
  lkp_c (P := OkP 75) ⟨(PuOK.ok (ok_aload_n dJ28_offer_45 rfl)), m_aload⟩ (
  lkp_c (P := OkP 75) ⟨ok_cv (List.forall_mem_cons.mpr ⟨tg_V (ci := 18) (r := CLr 18) (y := 77) rfl ⟨rfl, by decide⟩ rfl q2150 q2152 qs24 q159 q2153 ⟨cn_24.1, cn_24.2, pd_40⟩ dJ28_offer_46, (List.forall_mem_nil _)⟩) hd_no, m_cv⟩ (
  lkp_c (P := OkP 75) ⟨(PuOK.ok (ok_aload_n dJ28_offer_49 rfl)), m_aload⟩ (
  lkp_c (P := OkP 75) ⟨(PuOK.ok (ok_iload_n dJ28_offer_50 rfl)), m_iload⟩ (
  lkp_c (P := OkP 75) ⟨(PuOK.ok (ok_iconst dJ28_offer_51 rfl)), m_push⟩ (
  lkp_c (P := OkP 75) ⟨(PuOK.ok (ok_iadd dJ28_offer_52)), m_iop⟩ (
  lkp_c (P := OkP 75) ⟨ok_put ⟨"java/util/PriorityQueue", q2104, Or.inl rfl⟩ rfl fd_98 rfl dJ28_offer_53, m_put⟩ (
  lkp_c (P := OkP 75) ⟨(PuOK.ok (ok_iconst dJ28_offer_56 rfl)), m_push⟩ (
  lkp_c (P := OkP 75) ⟨ok_iret rfl rfl (by decide) dJ28_offer_57, m_ret⟩ (
  trivial)))))))))))))))))))))))))))))))))
theorem mt_75 : MtOK TB NT IT 75 := ⟨by decide +kernel, rfl, (fun h => by cases h), Or.inl ⟨rfl, rfl⟩, rfl, by decide, lk2_all (P := OkP 75) ⟨c_75_0, trivial⟩⟩
def dkwJ28_grow_1 : List UInt8 := [122, 184, 0, 80, 62, 42, 42, 180, 0, 17, 29, 184, 0, 86, 181, 0, 17, 177]
abbrev dktJ28_grow_1 : List UInt8 := dkwJ28_grow_1 ++ []
def dkwJ28_grow_0 : List UInt8 := [42, 180, 0, 17, 190, 61, 28, 27, 28, 100, 28, 16, 64, 162, 0, 9, 28, 5, 96, 167, 0, 6, 28, 4]
abbrev dktJ28_grow_0 : List UInt8 := dkwJ28_grow_0 ++ dktJ28_grow_1
theorem dksJ28_grow_0 : cJ28_grow.data.toList.drop 0 = dktJ28_grow_0 := by decide +kernel
theorem dksJ28_grow_1 : cJ28_grow.data.toList.drop 24 = dktJ28_grow_1 := dk_seg dksJ28_grow_0 24 rfl rfl
theorem dJ28_grow_0 : decode cJ28_grow 0 = .ok (.aload_n 0, 1) := dk_42 (dk_at dksJ28_grow_0 0 rfl rfl)
theorem dJ28_grow_1 : decode cJ28_grow 1 = .ok (.getfield 17, 3) := dk_180 0 17 (dk_at dksJ28_grow_0 1 rfl rfl)
theorem dJ28_grow_4 : decode cJ28_grow 4 = .ok (.arraylength, 1) := dk_190 (dk_at dksJ28_grow_0 4 rfl rfl)
theorem dJ28_grow_5 : decode cJ28_grow 5 = .ok (.istore_n 2, 1) := dk_61 (dk_at dksJ28_grow_0 5 rfl rfl)
theorem dJ28_grow_6 : decode cJ28_grow 6 = .ok (.iload_n 2, 1) := dk_28 (dk_at dksJ28_grow_0 6 rfl rfl)
theorem dJ28_grow_7 : decode cJ28_grow 7 = .ok (.iload_n 1, 1) := dk_27 (dk_at dksJ28_grow_0 7 rfl rfl)
theorem dJ28_grow_8 : decode cJ28_grow 8 = .ok (.iload_n 2, 1) := dk_28 (dk_at dksJ28_grow_0 8 rfl rfl)
theorem dJ28_grow_9 : decode cJ28_grow 9 = .ok (.isub, 1) := dk_100 (dk_at dksJ28_grow_0 9 rfl rfl)
theorem dJ28_grow_10 : decode cJ28_grow 10 = .ok (.iload_n 2, 1) := dk_28 (dk_at dksJ28_grow_0 10 rfl rfl)
theorem dJ28_grow_11 : decode cJ28_grow 11 = .ok (.bipush 64, 2) := dk_16 64 (dk_at dksJ28_grow_0 11 rfl rfl)
theorem dJ28_grow_13 : decode cJ28_grow 13 = .ok (.if_icmp .ge 9, 3) := dk_162 0 9 (dk_at dksJ28_grow_0 13 rfl rfl)
theorem dJ28_grow_16 : decode cJ28_grow 16 = .ok (.iload_n 2, 1) := dk_28 (dk_at dksJ28_grow_0 16 rfl rfl)
theorem dJ28_grow_17 : decode cJ28_grow 17 = .ok (.iconst 2, 1) := dk_5 (dk_at dksJ28_grow_0 17 rfl rfl)
theorem dJ28_grow_18 : decode cJ28_grow 18 = .ok (.iadd, 1) := dk_96 (dk_at dksJ28_grow_0 18 rfl rfl)
theorem dJ28_grow_19 : decode cJ28_grow 19 = .ok (.goto 6, 3) := dk_167 0 6 (dk_at dksJ28_grow_0 19 rfl rfl)
theorem dJ28_grow_22 : decode cJ28_grow 22 = .ok (.iload_n 2, 1) := dk_28 (dk_at dksJ28_grow_0 22 rfl rfl)
theorem dJ28_grow_23 : decode cJ28_grow 23 = .ok (.iconst 1, 1) := dk_4 (dk_at dksJ28_grow_0 23 rfl rfl)
theorem dJ28_grow_24 : decode cJ28_grow 24 = .ok (.ishr, 1) := dk_122 (dk_at dksJ28_grow_1 0 rfl rfl)
theorem dJ28_grow_25 : decode cJ28_grow 25 = .ok (.invokestatic 80, 3) := dk_184 0 80 (dk_at dksJ28_grow_1 1 rfl rfl)
theorem dJ28_grow_28 : decode cJ28_grow 28 = .ok (.istore_n 3, 1) := dk_62 (dk_at dksJ28_grow_1 4 rfl rfl)
theorem dJ28_grow_29 : decode cJ28_grow 29 = .ok (.aload_n 0, 1) := dk_42 (dk_at dksJ28_grow_1 5 rfl rfl)
theorem dJ28_grow_30 : decode cJ28_grow 30 = .ok (.aload_n 0, 1) := dk_42 (dk_at dksJ28_grow_1 6 rfl rfl)
theorem dJ28_grow_31 : decode cJ28_grow 31 = .ok (.getfield 17, 3) := dk_180 0 17 (dk_at dksJ28_grow_1 7 rfl rfl)
theorem dJ28_grow_34 : decode cJ28_grow 34 = .ok (.iload_n 3, 1) := dk_29 (dk_at dksJ28_grow_1 10 rfl rfl)
theorem dJ28_grow_35 : decode cJ28_grow 35 = .ok (.invokestatic 86, 3) := dk_184 0 86 (dk_at dksJ28_grow_1 11 rfl rfl)
theorem dJ28_grow_38 : decode cJ28_grow 38 = .ok (.putfield 17, 3) := dk_181 0 17 (dk_at dksJ28_grow_1 14 rfl rfl)
theorem dJ28_grow_41 : decode cJ28_grow 41 = .ok (.return_, 1) := dk_177 (dk_at dksJ28_grow_1 17 rfl rfl)
theorem c_76_0 : LkP (OkP 76) [(0, o_aload 0 1), (1, o_get 97), (4, o_alen), (5, o_istore 2 1), (6, o_iload 2 1), (7, o_iload 1 1), (8, o_iload 2 1), (9, o_iop (fun x y => x - y)), (10, o_iload 2 1), (11, o_push 2 (.int 64)), (13, o_icmp (fun x y => decide (y ≤ x)) 22), (16, o_iload 2 1), (17, o_push 1 (.int 2)), (18, o_iop (fun x y => x + y)), (19, o_goto 25), (22, o_iload 2 1), (23, o_push 1 (.int 1)), (24, o_iop (fun x y => x >>> (y &&& 31))), (25, o_cs 2 3 false none), (28, o_istore 3 1), (29, o_aload 0 1), (30, o_aload 0 1), (31, o_get 97), (34, o_iload 3 1), (35, o_cs 13 2 false none), (38, o_put 97 0), (41, o_vret)] := lkp_c (P := OkP 76) ⟨(PuOK.ok (ok_aload_n dJ28_grow_0 rfl)), m_aload⟩ (
  lkp_c (P := OkP 76) ⟨ok_get ⟨"java/util/PriorityQueue", q2102, Or.inl rfl⟩ dJ28_grow_1, m_get⟩ (
  lkp_c (P := OkP 76) ⟨ok_alen dJ28_grow_4, m_alen⟩ (
  lkp_c (P := OkP 76) ⟨(PuOK.ok (ok_istore_n dJ28_grow_5 rfl)), m_istore⟩ (
  lkp_c (P := OkP 76) ⟨(PuOK.ok (ok_iload_n dJ28_grow_6 rfl)), m_iload⟩ (
  lkp_c (P := OkP 76) ⟨(PuOK.ok (ok_iload_n dJ28_grow_7 rfl)), m_iload⟩ (
  lkp_c (P := OkP 76) ⟨(PuOK.ok (ok_iload_n dJ28_grow_8 rfl)), m_iload⟩ (
  lkp_c (P := OkP 76) ⟨(PuOK.ok (ok_isub dJ28_grow_9)), m_iop⟩ (
  lkp_c (P := OkP 76) ⟨(PuOK.ok (ok_iload_n dJ28_grow_10 rfl)), m_iload⟩ (
  lkp_c (P := OkP 76) ⟨(PuOK.ok (ok_bipush dJ28_grow_11 rfl)), m_push⟩ (
  lkp_c (P := OkP 76) ⟨(PuOK.ok (ok_icmp_ge dJ28_grow_13 rfl)), m_icmp⟩ (
  lkp_c (P := OkP 76) ⟨(PuOK.ok (ok_iload_n dJ28_grow_16 rfl)), m_iload⟩ (
  lkp_c (P := OkP 76) ⟨(PuOK.ok (ok_iconst dJ28_grow_17 rfl)), m_push⟩ (
  lkp_c (P := OkP 76) ⟨(PuOK.ok (ok_iadd dJ28_grow_18)), m_iop⟩ (
  lkp_c (P := OkP 76) ⟨(PuOK.ok (ok_goto dJ28_grow_19 rfl)), m_goto⟩ (
  lkp_c (P := OkP 76) ⟨(PuOK.ok (ok_iload_n dJ28_grow_22 rfl)), m_iload⟩ (
  lkp_c (P := OkP 76) ⟨(PuOK.ok (ok_iconst dJ28_grow_23 rfl)), m_push⟩ (
  lkp_c (P := OkP 76) ⟨(PuOK.ok (ok_ishr dJ28_grow_24)), m_iop⟩ (
  lkp_c (P := OkP 76) ⟨ok_cs (tg_S ⟨rfl, by decide⟩ q2148 q353 q129 q354 ⟨cn_2.1, cn_2.2, pd_25⟩ dJ28_grow_25) hd_no, m_cs⟩ (
  lkp_c (P := OkP 76) ⟨(PuOK.ok (ok_istore_n dJ28_grow_28 rfl)), m_istore⟩ (
  lkp_c (P := OkP 76) ⟨(PuOK.ok (ok_aload_n dJ28_grow_29 rfl)), m_aload⟩ (
  lkp_c (P := OkP 76) ⟨(PuOK.ok (ok_aload_n dJ28_grow_30 rfl)), m_aload⟩ (
  lkp_c (P := OkP 76) ⟨ok_get ⟨"java/util/PriorityQueue", q2102, Or.inl rfl⟩ dJ28_grow_31, m_get⟩ (
  lkp_c (P := OkP 76) ⟨(PuOK.ok (ok_iload_n dJ28_grow_34 rfl)), m_iload⟩ (
  lkp_c (P := OkP 76) ⟨ok_cs (tg_S ⟨rfl, by decide⟩ q2149 q1550 q131 q1551 ⟨cn_4.1, cn_4.2, pd_26⟩ dJ28_grow_35) hd_no, m_cs⟩ (
  lkp_c (P := OkP 76) ⟨ok_put ⟨"java/util/PriorityQueue", q2102, Or.inl rfl⟩ rfl fd_97 rfl dJ28_grow_38, m_put⟩ (
  lkp_c (P := OkP 76) ⟨ok_vret rfl dJ28_grow_41, m_vret⟩ (
  trivial)))))))))))))))))))))))))))
theorem mt_76 : MtOK TB NT IT 76 := ⟨by decide +kernel, rfl, (fun h => by cases h), Or.inl ⟨rfl, rfl⟩, rfl, by decide, lk2_all (P := OkP 76) ⟨c_76_0, trivial⟩⟩
def dkwJ28_siftUp_1 : List UInt8 := [44, 42, 180, 0, 17, 184, 0, 140, 177]
abbrev dktJ28_siftUp_1 : List UInt8 := dkwJ28_siftUp_1 ++ []
def dkwJ28_siftUp_0 : List UInt8 := [42, 180, 0, 21, 198, 0, 19, 27, 44, 42, 180, 0, 17, 42, 180, 0, 21, 184, 0, 136, 167, 0, 12, 27]
abbrev dktJ28_siftUp_0 : List UInt8 := dkwJ28_siftUp_0 ++ dktJ28_siftUp_1
theorem dksJ28_siftUp_0 : cJ28_siftUp.data.toList.drop 0 = dktJ28_siftUp_0 := by decide +kernel
theorem dksJ28_siftUp_1 : cJ28_siftUp.data.toList.drop 24 = dktJ28_siftUp_1 := dk_seg dksJ28_siftUp_0 24 rfl rfl
theorem dJ28_siftUp_0 : decode cJ28_siftUp 0 = .ok (.aload_n 0, 1) := dk_42 (dk_at dksJ28_siftUp_0 0 rfl rfl)
theorem dJ28_siftUp_1 : decode cJ28_siftUp 1 = .ok (.getfield 21, 3) := dk_180 0 21 (dk_at dksJ28_siftUp_0 1 rfl rfl)
theorem dJ28_siftUp_4 : decode cJ28_siftUp 4 = .ok (.ifnull 19, 3) := dk_198 0 19 (dk_at dksJ28_siftUp_0 4 rfl rfl)
theorem dJ28_siftUp_7 : decode cJ28_siftUp 7 = .ok (.iload_n 1, 1) := dk_27 (dk_at dksJ28_siftUp_0 7 rfl rfl)
theorem dJ28_siftUp_8 : decode cJ28_siftUp 8 = .ok (.aload_n 2, 1) := dk_44 (dk_at dksJ28_siftUp_0 8 rfl rfl)
theorem dJ28_siftUp_9 : decode cJ28_siftUp 9 = .ok (.aload_n 0, 1) := dk_42 (dk_at dksJ28_siftUp_0 9 rfl rfl)
theorem dJ28_siftUp_10 : decode cJ28_siftUp 10 = .ok (.getfield 17, 3) := dk_180 0 17 (dk_at dksJ28_siftUp_0 10 rfl rfl)
theorem dJ28_siftUp_13 : decode cJ28_siftUp 13 = .ok (.aload_n 0, 1) := dk_42 (dk_at dksJ28_siftUp_0 13 rfl rfl)
theorem dJ28_siftUp_14 : decode cJ28_siftUp 14 = .ok (.getfield 21, 3) := dk_180 0 21 (dk_at dksJ28_siftUp_0 14 rfl rfl)
theorem dJ28_siftUp_17 : decode cJ28_siftUp 17 = .ok (.invokestatic 136, 3) := dk_184 0 136 (dk_at dksJ28_siftUp_0 17 rfl rfl)
theorem dJ28_siftUp_20 : decode cJ28_siftUp 20 = .ok (.goto 12, 3) := dk_167 0 12 (dk_at dksJ28_siftUp_0 20 rfl rfl)
theorem dJ28_siftUp_23 : decode cJ28_siftUp 23 = .ok (.iload_n 1, 1) := dk_27 (dk_at dksJ28_siftUp_0 23 rfl rfl)
theorem dJ28_siftUp_24 : decode cJ28_siftUp 24 = .ok (.aload_n 2, 1) := dk_44 (dk_at dksJ28_siftUp_1 0 rfl rfl)
theorem dJ28_siftUp_25 : decode cJ28_siftUp 25 = .ok (.aload_n 0, 1) := dk_42 (dk_at dksJ28_siftUp_1 1 rfl rfl)
theorem dJ28_siftUp_26 : decode cJ28_siftUp 26 = .ok (.getfield 17, 3) := dk_180 0 17 (dk_at dksJ28_siftUp_1 2 rfl rfl)
theorem dJ28_siftUp_32 : decode cJ28_siftUp 32 = .ok (.return_, 1) := dk_177 (dk_at dksJ28_siftUp_1 8 rfl rfl)
theorem c_77_0 : LkP (OkP 77) [(0, o_aload 0 1), (1, o_get 99), (4, o_ifnull 23), (7, o_iload 1 1), (8, o_aload 2 1), (9, o_aload 0 1), (10, o_get 97), (13, o_aload 0 1), (14, o_get 99), (17, o_cs 78 4 true none), (20, o_goto 32), (23, o_iload 1 1), (24, o_aload 2 1), (25, o_aload 0 1), (26, o_get 97), (32, o_vret)] := lkp_c (P := OkP 77) ⟨(PuOK.ok (ok_aload_n dJ28_siftUp_0 rfl)), m_aload⟩ (
  lkp_c (P := OkP 77) ⟨ok_get ⟨"java/util/PriorityQueue", q2105, Or.inl rfl⟩ dJ28_siftUp_1, m_get⟩ (
  lkp_c (P := OkP 77) ⟨(PuOK.ok (ok_ifnull dJ28_siftUp_4 rfl)), m_ifnull⟩ (
  lkp_c (P := OkP 77) ⟨(PuOK.ok (ok_iload_n dJ28_siftUp_7 rfl)), m_iload⟩ (
  lkp_c (P := OkP 77) ⟨(PuOK.ok (ok_aload_n dJ28_siftUp_8 rfl)), m_aload⟩ (
  lkp_c (P := OkP 77) ⟨(PuOK.ok (ok_aload_n dJ28_siftUp_9 rfl)), m_aload⟩ (
  lkp_c (P := OkP 77) ⟨ok_get ⟨"java/util/PriorityQueue", q2102, Or.inl rfl⟩ dJ28_siftUp_10, m_get⟩ (
  lkp_c (P := OkP 77) ⟨(PuOK.ok (ok_aload_n dJ28_siftUp_13 rfl)), m_aload⟩ (
  lkp_c (P := OkP 77) ⟨ok_get ⟨"java/util/PriorityQueue", q2105, Or.inl rfl⟩ dJ28_siftUp_14, m_get⟩ (
  lkp_c (P := OkP 77) ⟨ok_cs (tg_S ⟨rfl, by decide⟩ q2154 q2155 q159 q2156 ⟨cn_24.1, cn_24.2, pd_41⟩ dJ28_siftUp_17) hd_no, m_cs⟩ (
  lkp_c (P := OkP 77) ⟨(PuOK.ok (ok_goto dJ28_siftUp_20 rfl)), m_goto⟩ (
  lkp_c (P := OkP 77) ⟨(PuOK.ok (ok_iload_n dJ28_siftUp_23 rfl)), m_iload⟩ (
  lkp_c (P := OkP 77) ⟨(PuOK.ok (ok_aload_n dJ28_siftUp_24 rfl)), m_aload⟩ (
  lkp_c (P := OkP 77) ⟨(PuOK.ok (ok_aload_n dJ28_siftUp_25 rfl)), m_aload⟩ (
  lkp_c (P := OkP 77) ⟨ok_get ⟨"java/util/PriorityQueue", q2102, Or.inl rfl⟩ dJ28_siftUp_26, m_get⟩ (
  lkp_c (P := OkP 77) ⟨ok_vret rfl dJ28_siftUp_32, m_vret⟩ (
  trivial))))))))))))))))
theorem mt_77 : MtOK TB NT IT 77 := ⟨by decide +kernel, rfl, (fun h => by cases h), Or.inl ⟨rfl, rfl⟩, rfl, by decide, lk2_all (P := OkP 77) ⟨c_77_0, trivial⟩⟩
def dkwJ28_siftUpUsingComparator_2 : List UInt8 := [43, 83, 177]
abbrev dktJ28_siftUpUsingComparator_2 : List UInt8 := dkwJ28_siftUpUsingComparator_2 ++ []
def dkwJ28_siftUpUsingComparator_1 : List UInt8 := [185, 0, 149, 3, 0, 155, 0, 6, 167, 0, 14, 44, 26, 25, 5, 83, 21, 4, 59, 167, 255, 216, 44, 26]
abbrev dktJ28_siftUpUsingComparator_1 : List UInt8 := dkwJ28_siftUpUsingComparator_1 ++ dktJ28_siftUpUsingComparator_2
def dkwJ28_siftUpUsingComparator_0 : List UInt8 := [26, 158, 0, 42, 26, 4, 100, 4, 124, 54, 4, 44, 21, 4, 50, 58, 5, 45, 43, 25, 5]
abbrev dktJ28_siftUpUsingComparator_0 : List UInt8 := dkwJ28_siftUpUsingComparator_0 ++ dktJ28_siftUpUsingComparator_1
theorem dksJ28_siftUpUsingComparator_0 : cJ28_siftUpUsingComparator.data.toList.drop 0 = dktJ28_siftUpUsingComparator_0 := by decide +kernel
theorem dksJ28_siftUpUsingComparator_1 : cJ28_siftUpUsingComparator.data.toList.drop 21 = dktJ28_siftUpUsingComparator_1 := dk_seg dksJ28_siftUpUsingComparator_0 21 rfl rfl
theorem dksJ28_siftUpUsingComparator_2 : cJ28_siftUpUsingComparator.data.toList.drop 45 = dktJ28_siftUpUsingComparator_2 := dk_seg dksJ28_siftUpUsingComparator_1 24 rfl rfl
theorem dJ28_siftUpUsingComparator_0 : decode cJ28_siftUpUsingComparator 0 = .ok (.iload_n 0, 1) := dk_26 (dk_at dksJ28_siftUpUsingComparator_0 0 rfl rfl)
theorem dJ28_siftUpUsingComparator_1 : decode cJ28_siftUpUsingComparator 1 = .ok (.ifCond .le 42, 3) := dk_158 0 42 (dk_at dksJ28_siftUpUsingComparator_0 1 rfl rfl)
theorem dJ28_siftUpUsingComparator_4 : decode cJ28_siftUpUsingComparator 4 = .ok (.iload_n 0, 1) := dk_26 (dk_at dksJ28_siftUpUsingComparator_0 4 rfl rfl)
theorem dJ28_siftUpUsingComparator_5 : decode cJ28_siftUpUsingComparator 5 = .ok (.iconst 1, 1) := dk_4 (dk_at dksJ28_siftUpUsingComparator_0 5 rfl rfl)
theorem dJ28_siftUpUsingComparator_6 : decode cJ28_siftUpUsingComparator 6 = .ok (.isub, 1) := dk_100 (dk_at dksJ28_siftUpUsingComparator_0 6 rfl rfl)
theorem dJ28_siftUpUsingComparator_7 : decode cJ28_siftUpUsingComparator 7 = .ok (.iconst 1, 1) := dk_4 (dk_at dksJ28_siftUpUsingComparator_0 7 rfl rfl)
theorem dJ28_siftUpUsingComparator_8 : decode cJ28_siftUpUsingComparator 8 = .ok (.iushr, 1) := dk_124 (dk_at dksJ28_siftUpUsingComparator_0 8 rfl rfl)
theorem dJ28_siftUpUsingComparator_9 : decode cJ28_siftUpUsingComparator 9 = .ok (.istore 4, 2) := dk_54 4 (dk_at dksJ28_siftUpUsingComparator_0 9 rfl rfl)
theorem dJ28_siftUpUsingComparator_11 : decode cJ28_siftUpUsingComparator 11 = .ok (.aload_n 2, 1) := dk_44 (dk_at dksJ28_siftUpUsingComparator_0 11 rfl rfl)
theorem dJ28_siftUpUsingComparator_12 : decode cJ28_siftUpUsingComparator 12 = .ok (.iload 4, 2) := dk_21 4 (dk_at dksJ28_siftUpUsingComparator_0 12 rfl rfl)
theorem dJ28_siftUpUsingComparator_14 : decode cJ28_siftUpUsingComparator 14 = .ok (.aaload, 1) := dk_50 (dk_at dksJ28_siftUpUsingComparator_0 14 rfl rfl)
theorem dJ28_siftUpUsingComparator_15 : decode cJ28_siftUpUsingComparator 15 = .ok (.astore 5, 2) := dk_58 5 (dk_at dksJ28_siftUpUsingComparator_0 15 rfl rfl)
theorem dJ28_siftUpUsingComparator_17 : decode cJ28_siftUpUsingComparator 17 = .ok (.aload_n 3, 1) := dk_45 (dk_at dksJ28_siftUpUsingComparator_0 17 rfl rfl)
theorem dJ28_siftUpUsingComparator_18 : decode cJ28_siftUpUsingComparator 18 = .ok (.aload_n 1, 1) := dk_43 (dk_at dksJ28_siftUpUsingComparator_0 18 rfl rfl)
theorem dJ28_siftUpUsingComparator_19 : decode cJ28_siftUpUsingComparator 19 = .ok (.aload 5, 2) := dk_25 5 (dk_at dksJ28_siftUpUsingComparator_0 19 rfl rfl)
theorem dJ28_siftUpUsingComparator_21 : decode cJ28_siftUpUsingComparator 21 = .ok (.invokeinterface 149 3, 5) := by decide +kernel
theorem dJ28_siftUpUsingComparator_26 : decode cJ28_siftUpUsingComparator 26 = .ok (.ifCond .lt 6, 3) := dk_155 0 6 (dk_at dksJ28_siftUpUsingComparator_1 5 rfl rfl)
theorem dJ28_siftUpUsingComparator_29 : decode cJ28_siftUpUsingComparator 29 = .ok (.goto 14, 3) := dk_167 0 14 (dk_at dksJ28_siftUpUsingComparator_1 8 rfl rfl)
theorem dJ28_siftUpUsingComparator_32 : decode cJ28_siftUpUsingComparator 32 = .ok (.aload_n 2, 1) := dk_44 (dk_at dksJ28_siftUpUsingComparator_1 11 rfl rfl)
theorem dJ28_siftUpUsingComparator_33 : decode cJ28_siftUpUsingComparator 33 = .ok (.iload_n 0, 1) := dk_26 (dk_at dksJ28_siftUpUsingComparator_1 12 rfl rfl)
theorem dJ28_siftUpUsingComparator_34 : decode cJ28_siftUpUsingComparator 34 = .ok (.aload 5, 2) := dk_25 5 (dk_at dksJ28_siftUpUsingComparator_1 13 rfl rfl)
theorem dJ28_siftUpUsingComparator_36 : decode cJ28_siftUpUsingComparator 36 = .ok (.aastore, 1) := dk_83 (dk_at dksJ28_siftUpUsingComparator_1 15 rfl rfl)
theorem dJ28_siftUpUsingComparator_37 : decode cJ28_siftUpUsingComparator 37 = .ok (.iload 4, 2) := dk_21 4 (dk_at dksJ28_siftUpUsingComparator_1 16 rfl rfl)
theorem dJ28_siftUpUsingComparator_39 : decode cJ28_siftUpUsingComparator 39 = .ok (.istore_n 0, 1) := dk_59 (dk_at dksJ28_siftUpUsingComparator_1 18 rfl rfl)
theorem dJ28_siftUpUsingComparator_40 : decode cJ28_siftUpUsingComparator 40 = .ok (.goto (-40), 3) := dk_167 255 216 (dk_at dksJ28_siftUpUsingComparator_1 19 rfl rfl)
theorem dJ28_siftUpUsingComparator_43 : decode cJ28_siftUpUsingComparator 43 = .ok (.aload_n 2, 1) := dk_44 (dk_at dksJ28_siftUpUsingComparator_1 22 rfl rfl)
theorem dJ28_siftUpUsingComparator_44 : decode cJ28_siftUpUsingComparator 44 = .ok (.iload_n 0, 1) := dk_26 (dk_at dksJ28_siftUpUsingComparator_1 23 rfl rfl)
theorem dJ28_siftUpUsingComparator_45 : decode cJ28_siftUpUsingComparator 45 = .ok (.aload_n 1, 1) := dk_43 (dk_at dksJ28_siftUpUsingComparator_2 0 rfl rfl)
theorem dJ28_siftUpUsingComparator_46 : decode cJ28_siftUpUsingComparator 46 = .ok (.aastore, 1) := dk_83 (dk_at dksJ28_siftUpUsingComparator_2 1 rfl rfl)
theorem dJ28_siftUpUsingComparator_47 : decode cJ28_siftUpUsingComparator 47 = .ok (.return_, 1) := dk_177 (dk_at dksJ28_siftUpUsingComparator_2 2 rfl rfl)
theorem c_78_0 : LkP (OkP 78) [(0, o_iload 0 1), (1, o_if (fun x => decide (x ≤ 0)) 43), (4, o_iload 0 1), (5, o_push 1 (.int 1)), (6, o_iop (fun x y => x - y)), (7, o_push 1 (.int 1)), (8, o_iop (fun x y => (x.toUInt32 >>> (y.toUInt32 &&& Int32.toUInt32 31)).toInt32)), (9, o_istore 4 2), (11, o_aload 2 1), (12, o_iload 4 2), (14, o_rdQ), (15, o_astore 5 2), (17, o_aload 3 1), (18, o_aload 1 1), (19, o_aload 5 2), (21, o_cv [(19, 239)] 2 5 false none), (26, o_if (fun x => decide (x < 0)) 32), (29, o_goto 43), (32, o_aload 2 1), (33, o_iload 0 1), (34, o_aload 5 2), (36, o_wrQ 5 [0, 1, 2, 3, 4, 5, 6, 7, 8, 9, 10, 11, 12, 13, 14, 15, 16, 17, 18, 19, 20, 21, 22, 23, 24, 25, 26, 27, 28, 29, 30, 31, 32, 33, 34]), (37, o_iload 4 2), (39, o_istore 0 1), (40, o_goto 0), (43, o_aload 2 1), (44, o_iload 0 1), (45, o_aload 1 1), (46, o_wrQ 5 [0, 1, 2, 3, 4, 5, 6, 7, 8, 9, 10, 11, 12, 13, 14, 15, 16, 17, 18, 19, 20, 21, 22, 23, 24, 25, 26, 27, 28, 29, 30, 31, 32, 33, 34]), (47, o_vret)] := lkp_c (P := OkP 78) ⟨(PuOK.ok (ok_iload_n dJ28_siftUpUsingComparator_0 rfl)), m_iload⟩ (
  lkp_c (P := OkP 78) ⟨(PuOK.ok (ok_if_le dJ28_siftUpUsingComparator_1 rfl)), m_if⟩ (
  lkp_c (P := OkP 78) ⟨(PuOK.ok (ok_iload_n dJ28_siftUpUsingComparator_4 rfl)), m_iload⟩ (
  lkp_c (P := OkP 78) ⟨(PuOK.ok (ok_iconst dJ28_siftUpUsingComparator_5 rfl)), m_push⟩ (
  lkp_c (P := OkP 78) ⟨(PuOK.ok (ok_isub dJ28_siftUpUsingComparator_6)), m_iop⟩ (
  lkp_c (P := OkP 78) ⟨(PuOK.ok (ok_iconst dJ28_siftUpUsingComparator_7 rfl)), m_push⟩ (
  lkp_c (P := OkP 78) ⟨(PuOK.ok (ok_iushr dJ28_siftUpUsingComparator_8)), m_iop⟩ (
  lkp_c (P := OkP 78) ⟨(PuOK.ok (ok_istore dJ28_siftUpUsingComparator_9)), m_istore⟩ (
  lkp_c (P := OkP 78) ⟨(PuOK.ok (ok_aload_n dJ28_siftUpUsingComparator_11 rfl)), m_aload⟩ (
  lkp_c (P := OkP 78) ⟨(PuOK.ok (ok_iload dJ28_siftUpUsingComparator_12)), m_iload⟩ (
  lkp_c (P := OkP 78) ⟨ok_aald dJ28_siftUpUsingComparator_14, m_rdQ⟩ (
  lkp_c (P := OkP 78) ⟨(PuOK.ok (ok_astore dJ28_siftUpUsingComparator_15)), m_astore⟩ (
  lkp_c (P := OkP 78) ⟨(PuOK.ok (ok_aload_n dJ28_siftUpUsingComparator_17 rfl)), m_aload⟩ (
  lkp_c (P := OkP 78) ⟨(PuOK.ok (ok_aload_n dJ28_siftUpUsingComparator_18 rfl)), m_aload⟩ (
  lkp_c (P := OkP 78) ⟨(PuOK.ok (ok_aload dJ28_siftUpUsingComparator_19)), m_aload⟩ (
  lkp_c (P := OkP 78) ⟨ok_cv (List.forall_mem_cons.mpr ⟨tg_F (ci := 19) (r := CLr 19) (y := 239) rfl ⟨rfl, by decide⟩ q2158 q2162 q2164 q160 q2166 q2160 q2159 q2165 q2163 q2161 ⟨cn_18.1, cn_18.2, pd_30⟩ dJ28_siftUpUsingComparator_21, (List.forall_mem_nil _)⟩) hd_no, m_cv⟩ (
  lkp_c (P := OkP 78) ⟨(PuOK.ok (ok_if_lt dJ28_siftUpUsingComparator_26 rfl)), m_if⟩ (
  lkp_c (P := OkP 78) ⟨(PuOK.ok (ok_goto dJ28_siftUpUsingComparator_29 rfl)), m_goto⟩ (
  lkp_c (P := OkP 78) ⟨(PuOK.ok (ok_aload_n dJ28_siftUpUsingComparator_32 rfl)), m_aload⟩ (
  lkp_c (P := OkP 78) ⟨(PuOK.ok (ok_iload_n dJ28_siftUpUsingComparator_33 rfl)), m_iload⟩ (
  lkp_c (P := OkP 78) ⟨(PuOK.ok (ok_aload dJ28_siftUpUsingComparator_34)), m_aload⟩ (
  lkp_c (P := OkP 78) ⟨ok_aast rfl cst_0 dJ28_siftUpUsingComparator_36, m_wrQ⟩ (
  lkp_c (P := OkP 78) ⟨(PuOK.ok (ok_iload dJ28_siftUpUsingComparator_37)), m_iload⟩ (
  lkp_c (P := OkP 78) ⟨(PuOK.ok (ok_istore_n dJ28_siftUpUsingComparator_39 rfl)), m_istore⟩ (
  lkp_c (P := OkP 78) ⟨(PuOK.ok (ok_goto dJ28_siftUpUsingComparator_40 rfl)), m_goto⟩ (
  lkp_c (P := OkP 78) ⟨(PuOK.ok (ok_aload_n dJ28_siftUpUsingComparator_43 rfl)), m_aload⟩ (
  lkp_c (P := OkP 78) ⟨(PuOK.ok (ok_iload_n dJ28_siftUpUsingComparator_44 rfl)), m_iload⟩ (
  lkp_c (P := OkP 78) ⟨(PuOK.ok (ok_aload_n dJ28_siftUpUsingComparator_45 rfl)), m_aload⟩ (
  lkp_c (P := OkP 78) ⟨ok_aast rfl cst_0 dJ28_siftUpUsingComparator_46, m_wrQ⟩ (
  lkp_c (P := OkP 78) ⟨ok_vret rfl dJ28_siftUpUsingComparator_47, m_vret⟩ (
  trivial))))))))))))))))))))))))))))))
theorem mt_78 : MtOK TB NT IT 78 := ⟨by decide +kernel, rfl, (fun h => by cases h), Or.inl ⟨rfl, rfl⟩, rfl, by decide, lk2_all (P := OkP 78) ⟨c_78_0, trivial⟩⟩
theorem dJ28_size_0 : decode cJ28_size 0 = .ok (.aload_n 0, 1) := by decide +kernel
theorem dJ28_size_1 : decode cJ28_size 1 = .ok (.getfield 58, 3) := by decide +kernel
theorem dJ28_size_4 : decode cJ28_size 4 = .ok (.ireturn, 1) := by decide +kernel
theorem c_79_0 : LkP (OkP 79) [(0, o_aload 0 1), (1, o_get 98), (4, o_ret 1)] := lkp_c (P := OkP 79) ⟨(PuOK.ok (ok_aload_n dJ28_size_0 rfl)), m_aload⟩ (
  lkp_c (P := OkP 79) ⟨ok_get ⟨"java/util/PriorityQueue", q2104, Or.inl rfl⟩ dJ28_size_1, m_get⟩ (
  lkp_c (P := OkP 79) ⟨ok_iret rfl rfl (by decide) dJ28_size_4, m_ret⟩ (
  trivial)))
theorem mt_79 : MtOK TB NT IT 79 := ⟨by decide +kernel, rfl, (fun h => by cases h), Or.inl ⟨rfl, rfl⟩, rfl, by decide, lk2_all (P := OkP 79) ⟨c_79_0, trivial⟩⟩
def dkwJ28_poll_3 : List UInt8 := [43, 29, 25, 5, 184, 0, 129, 44, 176]
abbrev dktJ28_poll_3 : List UInt8 := dkwJ28_poll_3 ++ []
def dkwJ28_poll_2 : List UInt8 := [42, 180, 0, 21, 89, 58, 5, 199, 0, 14, 3, 25, 4, 43, 29, 184, 0, 125, 167, 0, 13, 3, 25, 4]
abbrev dktJ28_poll_2 : List UInt8 := dkwJ28_poll_2 ++ dktJ28_poll_3
def dkwJ28_poll_1 : List UInt8 := [42, 89, 180, 0, 58, 4, 100, 90, 181, 0, 58, 89, 62, 50, 58, 4, 43, 29, 1, 83, 29, 158, 0, 34]
abbrev dktJ28_poll_1 : List UInt8 := dkwJ28_poll_1 ++ dktJ28_poll_2
def dkwJ28_poll_0 : List UInt8 := [42, 180, 0, 17, 89, 76, 3, 50, 89, 77, 198, 0, 69, 42, 89, 180, 0, 93, 4, 96, 181, 0, 93, 43]
abbrev dktJ28_poll_0 : List UInt8 := dkwJ28_poll_0 ++ dktJ28_poll_1
theorem dksJ28_poll_0 : cJ28_poll.data.toList.drop 0 = dktJ28_poll_0 := by decide +kernel
theorem dksJ28_poll_1 : cJ28_poll.data.toList.drop 24 = dktJ28_poll_1 := dk_seg dksJ28_poll_0 24 rfl rfl
theorem dksJ28_poll_2 : cJ28_poll.data.toList.drop 48 = dktJ28_poll_2 := dk_seg dksJ28_poll_1 24 rfl rfl
theorem dksJ28_poll_3 : cJ28_poll.data.toList.drop 72 = dktJ28_poll_3 := dk_seg dksJ28_poll_2 24 rfl rfl
theorem dJ28_poll_0 : decode cJ28_poll 0 = .ok (.aload_n 0, 1) := dk_42 (dk_at dksJ28_poll_0 0 rfl rfl)
theorem dJ28_poll_1 : decode cJ28_poll 1 = .ok (.getfield 17, 3) := dk_180 0 17 (dk_at dksJ28_poll_0 1 rfl rfl)
theorem dJ28_poll_4 : decode cJ28_poll 4 = .ok (.dup, 1) := dk_89 (dk_at dksJ28_poll_0 4 rfl rfl)
theorem dJ28_poll_5 : decode cJ28_poll 5 = .ok (.astore_n 1, 1) := dk_76 (dk_at dksJ28_poll_0 5 rfl rfl)
theorem dJ28_poll_6 : decode cJ28_poll 6 = .ok (.iconst 0, 1) := dk_3 (dk_at dksJ28_poll_0 6 rfl rfl)
theorem dJ28_poll_7 : decode cJ28_poll 7 = .ok (.aaload, 1) := dk_50 (dk_at dksJ28_poll_0 7 rfl rfl)
theorem dJ28_poll_8 : decode cJ28_poll 8 = .ok (.dup, 1) := dk_89 (dk_at dksJ28_poll_0 8 rfl rfl)
theorem dJ28_poll_9 : decode cJ28_poll 9 = .ok (.astore_n 2, 1) := dk_77 (dk_at dksJ28_poll_0 9 rfl rfl)
theorem dJ28_poll_10 : decode cJ28_poll 10 = .ok (.ifnull 69, 3) := dk_198 0 69 (dk_at dksJ28_poll_0 10 rfl rfl)
theorem dJ28_poll_13 : decode cJ28_poll 13 = .ok (.aload_n 0, 1) := dk_42 (dk_at dksJ28_poll_0 13 rfl rfl)
theorem dJ28_poll_14 : decode cJ28_poll 14 = .ok (.dup, 1) := dk_89 (dk_at dksJ28_poll_0 14 rfl rfl)
theorem dJ28_poll_15 : decode cJ28_poll 15 = .ok (.getfield 93, 3) := dk_180 0 93 (dk_at dksJ28_poll_0 15 rfl rfl)
theorem dJ28_poll_18 : decode cJ28_poll 18 = .ok (.iconst 1, 1) := dk_4 (dk_at dksJ28_poll_0 18 rfl rfl)
theorem dJ28_poll_19 : decode cJ28_poll 19 = .ok (.iadd, 1) := dk_96 (dk_at dksJ28_poll_0 19 rfl rfl)
theorem dJ28_poll_20 : decode cJ28_poll 20 = .ok (.putfield 93, 3) := dk_181 0 93 (dk_at dksJ28_poll_0 20 rfl rfl)
theorem dJ28_poll_23 : decode cJ28_poll 23 = .ok (.aload_n 1, 1) := dk_43 (dk_at dksJ28_poll_0 23 rfl rfl)
theorem dJ28_poll_24 : decode cJ28_poll 24 = .ok (.aload_n 0, 1) := dk_42 (dk_at dksJ28_poll_1 0 rfl rfl)
theorem dJ28_poll_25 : decode cJ28_poll 25 = .ok (.dup, 1) := dk_89 (dk_at dksJ28_poll_1 1 rfl rfl)
theorem dJ28_poll_26 : decode cJ28_poll 26 = .ok (.getfield 58, 3) := dk_180 0 58 (dk_at dksJ28_poll_1 2 rfl rfl)
theorem dJ28_poll_29 : decode cJ28_poll 29 = .ok (.iconst 1, 1) := dk_4 (dk_at dksJ28_poll_1 5 rfl rfl)
theorem dJ28_poll_30 : decode cJ28_poll 30 = .ok (.isub, 1) := dk_100 (dk_at dksJ28_poll_1 6 rfl rfl)
theorem dJ28_poll_31 : decode cJ28_poll 31 = .ok (.dup_x1, 1) := dk_90 (dk_at dksJ28_poll_1 7 rfl rfl)
theorem dJ28_poll_32 : decode cJ28_poll 32 = .ok (.putfield 58, 3) := dk_181 0 58 (dk_at dksJ28_poll_1 8 rfl rfl)
theorem dJ28_poll_35 : decode cJ28_poll 35 = .ok (.dup, 1) := dk_89 (dk_at dksJ28_poll_1 11 rfl rfl)
theorem dJ28_poll_36 : decode cJ28_poll 36 = .ok (.istore_n 3, 1) := dk_62 (dk_at dksJ28_poll_1 12 rfl rfl)
theorem dJ28_poll_37 : decode cJ28_poll 37 = .ok (.aaload, 1) := dk_50 (dk_at dksJ28_poll_1 13 rfl rfl)
theorem dJ28_poll_38 : decode cJ28_poll 38 = .ok (.astore 4, 2) := dk_58 4 (dk_at dksJ28_poll_1 14 rfl rfl)
theorem dJ28_poll_40 : decode cJ28_poll 40 = .ok (.aload_n 1, 1) := dk_43 (dk_at dksJ28_poll_1 16 rfl rfl)
theorem dJ28_poll_41 : decode cJ28_poll 41 = .ok (.iload_n 3, 1) := dk_29 (dk_at dksJ28_poll_1 17 rfl rfl)
theorem dJ28_poll_42 : decode cJ28_poll 42 = .ok (.aconst_null, 1) := dk_1 (dk_at dksJ28_poll_1 18 rfl rfl)
theorem dJ28_poll_43 : decode cJ28_poll 43 = .ok (.aastore, 1) := dk_83 (dk_at dksJ28_poll_1 19 rfl rfl)
theorem dJ28_poll_44 : decode cJ28_poll 44 = .ok (.iload_n 3, 1) := dk_29 (dk_at dksJ28_poll_1 20 rfl rfl)
theorem dJ28_poll_45 : decode cJ28_poll 45 = .ok (.ifCond .le 34, 3) := dk_158 0 34 (dk_at dksJ28_poll_1 21 rfl rfl)
theorem dJ28_poll_48 : decode cJ28_poll 48 = .ok (.aload_n 0, 1) := dk_42 (dk_at dksJ28_poll_2 0 rfl rfl)
theorem dJ28_poll_49 : decode cJ28_poll 49 = .ok (.getfield 21, 3) := dk_180 0 21 (dk_at dksJ28_poll_2 1 rfl rfl)
theorem dJ28_poll_52 : decode cJ28_poll 52 = .ok (.dup, 1) := dk_89 (dk_at dksJ28_poll_2 4 rfl rfl)
theorem dJ28_poll_53 : decode cJ28_poll 53 = .ok (.astore 5, 2) := dk_58 5 (dk_at dksJ28_poll_2 5 rfl rfl)
theorem dJ28_poll_55 : decode cJ28_poll 55 = .ok (.ifnonnull 14, 3) := dk_199 0 14 (dk_at dksJ28_poll_2 7 rfl rfl)
theorem dJ28_poll_58 : decode cJ28_poll 58 = .ok (.iconst 0, 1) := dk_3 (dk_at dksJ28_poll_2 10 rfl rfl)
theorem dJ28_poll_59 : decode cJ28_poll 59 = .ok (.aload 4, 2) := dk_25 4 (dk_at dksJ28_poll_2 11 rfl rfl)
theorem dJ28_poll_61 : decode cJ28_poll 61 = .ok (.aload_n 1, 1) := dk_43 (dk_at dksJ28_poll_2 13 rfl rfl)
theorem dJ28_poll_62 : decode cJ28_poll 62 = .ok (.iload_n 3, 1) := dk_29 (dk_at dksJ28_poll_2 14 rfl rfl)
theorem dJ28_poll_66 : decode cJ28_poll 66 = .ok (.goto 13, 3) := dk_167 0 13 (dk_at dksJ28_poll_2 18 rfl rfl)
theorem dJ28_poll_69 : decode cJ28_poll 69 = .ok (.iconst 0, 1) := dk_3 (dk_at dksJ28_poll_2 21 rfl rfl)
theorem dJ28_poll_70 : decode cJ28_poll 70 = .ok (.aload 4, 2) := dk_25 4 (dk_at dksJ28_poll_2 22 rfl rfl)
theorem dJ28_poll_72 : decode cJ28_poll 72 = .ok (.aload_n 1, 1) := dk_43 (dk_at dksJ28_poll_3 0 rfl rfl)
theorem dJ28_poll_73 : decode cJ28_poll 73 = .ok (.iload_n 3, 1) := dk_29 (dk_at dksJ28_poll_3 1 rfl rfl)
theorem dJ28_poll_74 : decode cJ28_poll 74 = .ok (.aload 5, 2) := dk_25 5 (dk_at dksJ28_poll_3 2 rfl rfl)
theorem dJ28_poll_76 : decode cJ28_poll 76 = .ok (.invokestatic 129, 3) := dk_184 0 129 (dk_at dksJ28_poll_3 4 rfl rfl)
theorem dJ28_poll_79 : decode cJ28_poll 79 = .ok (.aload_n 2, 1) := dk_44 (dk_at dksJ28_poll_3 7 rfl rfl)
theorem dJ28_poll_80 : decode cJ28_poll 80 = .ok (.areturn, 1) := dk_176 (dk_at dksJ28_poll_3 8 rfl rfl)
theorem c_80_0 : LkP (OkP 80) [(0, o_aload 0 1), (1, o_get 97), (4, o_dup), (5, o_astore 1 1), (6, o_push 1 (.int 0)), (7, o_rdQ), (8, o_dup), (9, o_astore 2 1), (10, o_ifnull 79), (13, o_aload 0 1), (14, o_dup), (15, o_get 100), (18, o_push 1 (.int 1)), (19, o_iop (fun x y => x + y)), (20, o_put 100 1), (23, o_aload 1 1), (24, o_aload 0 1), (25, o_dup), (26, o_get 98), (29, o_push 1 (.int 1)), (30, o_iop (fun x y => x - y)), (31, o_dupx1), (32, o_put 98 1), (35, o_dup), (36, o_istore 3 1), (37, o_rdQ), (38, o_astore 4 2), (40, o_aload 1 1), (41, o_iload 3 1), (42, o_push 1 .null), (43, o_wrQ 5 [0, 1, 2, 3, 4, 5, 6, 7, 8, 9, 10, 11, 12, 13, 14, 15, 16, 17, 18, 19, 20, 21, 22, 23, 24, 25, 26, 27, 28, 29, 30, 31, 32, 33, 34]), (44, o_iload 3 1), (45, o_if (fun x => decide (x ≤ 0)) 79), (48, o_aload 0 1), (49, o_get 99), (52, o_dup), (53, o_astore 5 2), (55, o_ifnonnull 69), (58, o_push 1 (.int 0)), (59, o_aload 4 2), (61, o_aload 1 1), (62, o_iload 3 1)] := lkp_c (P := OkP 80) ⟨(PuOK.ok (ok_aload_n dJ28_poll_0 rfl)), m_aload⟩ (
  lkp_c (P := OkP 80) ⟨ok_get ⟨"java/util/PriorityQueue", q2102, Or.inl rfl⟩ dJ28_poll_1, m_get⟩ (
  lkp_c (P := OkP 80) ⟨(PuOK.ok (ok_dup dJ28_poll_4)), m_dup⟩ (
  lkp_c (P := OkP 80) ⟨(PuOK.ok (ok_astore_n dJ28_poll_5 rfl)), m_astore⟩ (
  lkp_c (P := OkP 80) ⟨(PuOK.ok (ok_iconst dJ28_poll_6 rfl)), m_push⟩ (
  lkp_c (P := OkP 80) ⟨ok_aald dJ28_poll_7, m_rdQ⟩ (
  lkp_c (P := OkP 80) ⟨(PuOK.ok (ok_dup dJ28_poll_8)), m_dup⟩ (
  lkp_c (P := OkP 80) ⟨(PuOK.ok (ok_astore_n dJ28_poll_9 rfl)), m_astore⟩ (
  lkp_c (P := OkP 80) ⟨(PuOK.ok (ok_ifnull dJ28_poll_10 rfl)), m_ifnull⟩ (
  lkp_c (P := OkP 80) ⟨(PuOK.ok (ok_aload_n dJ28_poll_13 rfl)), m_aload⟩ (
  lkp_c (P := OkP 80) ⟨(PuOK.ok (ok_dup dJ28_poll_14)), m_dup⟩ (
  lkp_c (P := OkP 80) ⟨ok_get ⟨"java/util/PriorityQueue", q2107, Or.inl rfl⟩ dJ28_poll_15, m_get⟩ (
  lkp_c (P := OkP 80) ⟨(PuOK.ok (ok_iconst dJ28_poll_18 rfl)), m_push⟩ (
  lkp_c (P := OkP 80) ⟨(PuOK.ok (ok_iadd dJ28_poll_19)), m_iop⟩ (
  lkp_c (P := OkP 80) ⟨ok_put ⟨"java/util/PriorityQueue", q2107, Or.inl rfl⟩ rfl fd_100 rfl dJ28_poll_20, m_put⟩ (
  lkp_c (P := OkP 80) ⟨(PuOK.ok (ok_aload_n dJ28_poll_23 rfl)), m_aload⟩ (
  lkp_c (P := OkP 80) ⟨(PuOK.ok (ok_aload_n dJ28_poll_24 rfl)), m_aload⟩ (
  lkp_c (P := OkP 80) ⟨(PuOK.ok (ok_dup dJ28_poll_25)), m_dup⟩ (
  lkp_c (P := OkP 80) ⟨ok_get ⟨"java/util/PriorityQueue", q2104, Or.inl rfl⟩ dJ28_poll_26, m_get⟩ (
  lkp_c (P := OkP 80) ⟨(PuOK.ok (ok_iconst dJ28_poll_29 rfl)), m_push⟩ (
  lkp_c (P := OkP 80) ⟨(PuOK.ok (ok_isub dJ28_poll_30)), m_iop⟩ (
  lkp_c (P := OkP 80) ⟨(PuOK.ok (ok_dupx1 dJ28_poll_31)), m_dupx1⟩ (
  lkp_c (P := OkP 80) ⟨ok_put ⟨"java/util/PriorityQueue", q2104, Or.inl rfl⟩ rfl fd_98 rfl dJ28_poll_32, m_put⟩ (
  lkp_c (P := OkP 80) ⟨(PuOK.ok (ok_dup dJ28_poll_35)), m_dup⟩ (
  lkp_c (P := OkP 80) ⟨(PuOK.ok (ok_istore_n dJ28_poll_36 rfl)), m_istore⟩ (
  lkp_c (P := OkP 80) ⟨ok_aald dJ28_poll_37, m_rdQ⟩ (
  lkp_c (P := OkP 80) ⟨(PuOK.ok (ok_astore dJ28_poll_38)), m_astore⟩ (
  lkp_c (P := OkP 80) ⟨(PuOK.ok (ok_aload_n dJ28_poll_40 rfl)), m_aload⟩ (
  lkp_c (P := OkP 80) ⟨(PuOK.ok (ok_iload_n dJ28_poll_41 rfl)), m_iload⟩ (
  lkp_c (P := OkP 80) ⟨(PuOK.ok (ok_null dJ28_poll_42)), m_push⟩ (
  lkp_c (P := OkP 80) ⟨ok_aast rfl cst_0 dJ28_poll_43, m_wrQ⟩ (
  lkp_c (P := OkP 80) ⟨(PuOK.ok (ok_iload_n dJ28_poll_44 rfl)), m_iload⟩ (
  lkp_c (P := OkP 80) ⟨(PuOK.ok (ok_if_le dJ28_poll_45 rfl)), m_if⟩ (
  lkp_c (P := OkP 80) ⟨(PuOK.ok (ok_aload_n dJ28_poll_48 rfl)), m_aload⟩ (
  lkp_c (P := OkP 80) ⟨ok_get ⟨"java/util/PriorityQueue", q2105, Or.inl rfl⟩ dJ28_poll_49, m_get⟩ (
  lkp_c (P := OkP 80) ⟨(PuOK.ok (ok_dup dJ28_poll_52)), m_dup⟩ (
  lkp_c (P := OkP 80) ⟨(PuOK.ok (ok_astore dJ28_poll_53)), m_astore⟩ (
  lkp_c (P := OkP 80) ⟨(PuOK.ok (ok_ifnonnull dJ28_poll_55 rfl)), m_ifnonnull⟩ (
  lkp_c (P := OkP 80) ⟨(PuOK.ok (ok_iconst dJ28_poll_58 rfl)), m_push⟩ (
  lkp_c (P := OkP 80) ⟨(PuOK.ok (ok_aload dJ28_poll_59)), m_aload⟩ (
  lkp_c (P := OkP 80) ⟨(PuOK.ok (ok_aload_n dJ28_poll_61 rfl)), m_aload⟩ (
  lkp_c (P := OkP 80) ⟨(PuOK.ok (ok_iload_n dJ28_poll_62 rfl)), m_iload⟩ (
  trivial))))))))))))))))))))))))))))))))))))))))))
theorem c_80_1 : LkP (OkP 80) [(66, o_goto 79), (69, o_push 1 (.int 0)), (70, o_aload 4 2), (72, o_aload 1 1), (73, o_iload 3 1), (74, o_aload 5 2), (76, o_cs 81 5 true none), (79, o_aload 2 1), (80, o_ret 0)] := lkp_c (P := OkP 80) ⟨(PuOK.ok (ok_goto dJ28_poll_66 rfl)), m_goto⟩ (
  lkp_c (P := OkP 80) ⟨(PuOK.ok (ok_iconst dJ28_poll_69 rfl)), m_push⟩ (
  lkp_c (P := OkP 80) ⟨(PuOK.ok (ok_aload dJ28_poll_70)), m_aload⟩ (
  lkp_c (P := OkP 80) ⟨(PuOK.ok (ok_aload_n dJ28_poll_72 rfl)), m_aload⟩ (
  lkp_c (P := OkP 80) ⟨(PuOK.ok (ok_iload_n dJ28_poll_73 rfl)), m_iload⟩ (
  lkp_c (P := OkP 80) ⟨(PuOK.ok (ok_aload dJ28_poll_74)), m_aload⟩ (
  lkp_c (P := OkP 80) ⟨ok_cs (tg_S ⟨rfl, by decide⟩ q2195 q2196 q159 q2197 ⟨cn_24.1, cn_24.2, pd_42⟩ dJ28_poll_76) hd_no, m_cs⟩ (
  lkp_c (P := OkP 80) ⟨(PuOK.ok (ok_aload_n dJ28_poll_79 rfl)), m_aload⟩ (
  lkp_c (P := OkP 80) ⟨ok_aret rfl (Or.inl ⟨_, rfl⟩) dJ28_poll_80, m_ret⟩ (
  trivial)))))))))
theorem mt_80 : MtOK TB NT IT 80 := ⟨by decide +kernel, rfl, (fun h => by cases h), Or.inl ⟨rfl, rfl⟩, rfl, by decide, lk2_all (P := OkP 80) ⟨c_80_0, c_80_1, trivial⟩⟩
def dkwJ28_siftDownUsingComparator_4 : List UInt8 := [43, 83, 177]
abbrev dktJ28_siftDownUsingComparator_4 : List UInt8 := dkwJ28_siftDownUsingComparator_4 ++ []
def dkwJ28_siftDownUsingComparator_3 : List UInt8 := [185, 0, 149, 3, 0, 157, 0, 6, 167, 0, 14, 44, 26, 25, 7, 83, 21, 6, 59, 167, 255, 176, 44, 26]
abbrev dktJ28_siftDownUsingComparator_3 : List UInt8 := dkwJ28_siftDownUsingComparator_3 ++ dktJ28_siftDownUsingComparator_4
def dkwJ28_siftDownUsingComparator_2 : List UInt8 := [185, 0, 149, 3, 0, 158, 0, 12, 44, 21, 8, 89, 54, 6, 50, 58, 7, 25, 4, 43, 25, 7]
abbrev dktJ28_siftDownUsingComparator_2 : List UInt8 := dkwJ28_siftDownUsingComparator_2 ++ dktJ28_siftDownUsingComparator_3
def dkwJ28_siftDownUsingComparator_1 : List UInt8 := [21, 6, 4, 96, 54, 8, 21, 8, 29, 162, 0, 28, 25, 4, 25, 7, 44, 21, 8, 50]
abbrev dktJ28_siftDownUsingComparator_1 : List UInt8 := dkwJ28_siftDownUsingComparator_1 ++ dktJ28_siftDownUsingComparator_2
def dkwJ28_siftDownUsingComparator_0 : List UInt8 := [29, 4, 124, 54, 5, 26, 21, 5, 162, 0, 80, 26, 4, 120, 4, 96, 54, 6, 44, 21, 6, 50, 58, 7]
abbrev dktJ28_siftDownUsingComparator_0 : List UInt8 := dkwJ28_siftDownUsingComparator_0 ++ dktJ28_siftDownUsingComparator_1
theorem dksJ28_siftDownUsingComparator_0 : cJ28_siftDownUsingComparator.data.toList.drop 0 = dktJ28_siftDownUsingComparator_0 := by decide +kernel
theorem dksJ28_siftDownUsingComparator_1 : cJ28_siftDownUsingComparator.data.toList.drop 24 = dktJ28_siftDownUsingComparator_1 := dk_seg dksJ28_siftDownUsingComparator_0 24 rfl rfl
theorem dksJ28_siftDownUsingComparator_2 : cJ28_siftDownUsingComparator.data.toList.drop 44 = dktJ28_siftDownUsingComparator_2 := dk_seg dksJ28_siftDownUsingComparator_1 20 rfl rfl
theorem dksJ28_siftDownUsingComparator_3 : cJ28_siftDownUsingComparator.data.toList.drop 66 = dktJ28_siftDownUsingComparator_3 := dk_seg dksJ28_siftDownUsingComparator_2 22 rfl rfl
theorem dksJ28_siftDownUsingComparator_4 : cJ28_siftDownUsingComparator.data.toList.drop 90 = dktJ28_siftDownUsingComparator_4 := dk_seg dksJ28_siftDownUsingComparator_3 24 rfl rfl
theorem dJ28_siftDownUsingComparator_0 : decode cJ28_siftDownUsingComparator 0 = .ok (.iload_n 3, 1) := dk_29 (dk_at dksJ28_siftDownUsingComparator_0 0 rfl rfl)
theorem dJ28_siftDownUsingComparator_1 : decode cJ28_siftDownUsingComparator 1 = .ok (.iconst 1, 1) := dk_4 (dk_at dksJ28_siftDownUsingComparator_0 1 rfl rfl)
theorem dJ28_siftDownUsingComparator_2 : decode cJ28_siftDownUsingComparator 2 = .ok (.iushr, 1) := dk_124 (dk_at dksJ28_siftDownUsingComparator_0 2 rfl rfl)
theorem dJ28_siftDownUsingComparator_3 : decode cJ28_siftDownUsingComparator 3 = .ok (.istore 5, 2) := dk_54 5 (dk_at dksJ28_siftDownUsingComparator_0 3 rfl rfl)
theorem dJ28_siftDownUsingComparator_5 : decode cJ28_siftDownUsingComparator 5 = .ok (.iload_n 0, 1) := dk_26 (dk_at dksJ28_siftDownUsingComparator_0 5 rfl rfl)
theorem dJ28_siftDownUsingComparator_6 : decode cJ28_siftDownUsingComparator 6 = .ok (.iload 5, 2) := dk_21 5 (dk_at dksJ28_siftDownUsingComparator_0 6 rfl rfl)
theorem dJ28_siftDownUsingComparator_8 : decode cJ28_siftDownUsingComparator 8 = .ok (.if_icmp .ge 80, 3) := dk_162 0 80 (dk_at dksJ28_siftDownUsingComparator_0 8 rfl rfl)
theorem dJ28_siftDownUsingComparator_11 : decode cJ28_siftDownUsingComparator 11 = .ok (.iload_n 0, 1) := dk_26 (dk_at dksJ28_siftDownUsingComparator_0 11 rfl rfl)
theorem dJ28_siftDownUsingComparator_12 : decode cJ28_siftDownUsingComparator 12 = .ok (.iconst 1, 1) := dk_4 (dk_at dksJ28_siftDownUsingComparator_0 12 rfl rfl)
theorem dJ28_siftDownUsingComparator_13 : decode cJ28_siftDownUsingComparator 13 = .ok (.ishl, 1) := dk_120 (dk_at dksJ28_siftDownUsingComparator_0 13 rfl rfl)
theorem dJ28_siftDownUsingComparator_14 : decode cJ28_siftDownUsingComparator 14 = .ok (.iconst 1, 1) := dk_4 (dk_at dksJ28_siftDownUsingComparator_0 14 rfl rfl)
theorem dJ28_siftDownUsingComparator_15 : decode cJ28_siftDownUsingComparator 15 = .ok (.iadd, 1) := dk_96 (dk_at dksJ28_siftDownUsingComparator_0 15 rfl rfl)
theorem dJ28_siftDownUsingComparator_16 : decode cJ28_siftDownUsingComparator 16 = .ok (.istore 6, 2) := dk_54 6 (dk_at dksJ28_siftDownUsingComparator_0 16 rfl rfl)
theorem dJ28_siftDownUsingComparator_18 : decode cJ28_siftDownUsingComparator 18 = .ok (.aload_n 2, 1) := dk_44 (dk_at dksJ28_siftDownUsingComparator_0 18 rfl rfl)
theorem dJ28_siftDownUsingComparator_19 : decode cJ28_siftDownUsingComparator 19 = .ok (.iload 6, 2) := dk_21 6 (dk_at dksJ28_siftDownUsingComparator_0 19 rfl rfl)
theorem dJ28_siftDownUsingComparator_21 : decode cJ28_siftDownUsingComparator 21 = .ok (.aaload, 1) := dk_50 (dk_at dksJ28_siftDownUsingComparator_0 21 rfl rfl)
theorem dJ28_siftDownUsingComparator_22 : decode cJ28_siftDownUsingComparator 22 = .ok (.astore 7, 2) := dk_58 7 (dk_at dksJ28_siftDownUsingComparator_0 22 rfl rfl)
theorem dJ28_siftDownUsingComparator_24 : decode cJ28_siftDownUsingComparator 24 = .ok (.iload 6, 2) := dk_21 6 (dk_at dksJ28_siftDownUsingComparator_1 0 rfl rfl)
theorem dJ28_siftDownUsingComparator_26 : decode cJ28_siftDownUsingComparator 26 = .ok (.iconst 1, 1) := dk_4 (dk_at dksJ28_siftDownUsingComparator_1 2 rfl rfl)
theorem dJ28_siftDownUsingComparator_27 : decode cJ28_siftDownUsingComparator 27 = .ok (.iadd, 1) := dk_96 (dk_at dksJ28_siftDownUsingComparator_1 3 rfl rfl)
theorem dJ28_siftDownUsingComparator_28 : decode cJ28_siftDownUsingComparator 28 = .ok (.istore 8, 2) := dk_54 8 (dk_at dksJ28_siftDownUsingComparator_1 4 rfl rfl)
theorem dJ28_siftDownUsingComparator_30 : decode cJ28_siftDownUsingComparator 30 = .ok (.iload 8, 2) := dk_21 8 (dk_at dksJ28_siftDownUsingComparator_1 6 rfl rfl)
theorem dJ28_siftDownUsingComparator_32 : decode cJ28_siftDownUsingComparator 32 = .ok (.iload_n 3, 1) := dk_29 (dk_at dksJ28_siftDownUsingComparator_1 8 rfl rfl)
theorem dJ28_siftDownUsingComparator_33 : decode cJ28_siftDownUsingComparator 33 = .ok (.if_icmp .ge 28, 3) := dk_162 0 28 (dk_at dksJ28_siftDownUsingComparator_1 9 rfl rfl)
theorem dJ28_siftDownUsingComparator_36 : decode cJ28_siftDownUsingComparator 36 = .ok (.aload 4, 2) := dk_25 4 (dk_at dksJ28_siftDownUsingComparator_1 12 rfl rfl)
theorem dJ28_siftDownUsingComparator_38 : decode cJ28_siftDownUsingComparator 38 = .ok (.aload 7, 2) := dk_25 7 (dk_at dksJ28_siftDownUsingComparator_1 14 rfl rfl)
theorem dJ28_siftDownUsingComparator_40 : decode cJ28_siftDownUsingComparator 40 = .ok (.aload_n 2, 1) := dk_44 (dk_at dksJ28_siftDownUsingComparator_1 16 rfl rfl)
theorem dJ28_siftDownUsingComparator_41 : decode cJ28_siftDownUsingComparator 41 = .ok (.iload 8, 2) := dk_21 8 (dk_at dksJ28_siftDownUsingComparator_1 17 rfl rfl)
theorem dJ28_siftDownUsingComparator_43 : decode cJ28_siftDownUsingComparator 43 = .ok (.aaload, 1) := dk_50 (dk_at dksJ28_siftDownUsingComparator_1 19 rfl rfl)
theorem dJ28_siftDownUsingComparator_44 : decode cJ28_siftDownUsingComparator 44 = .ok (.invokeinterface 149 3, 5) := by decide +kernel
theorem dJ28_siftDownUsingComparator_49 : decode cJ28_siftDownUsingComparator 49 = .ok (.ifCond .le 12, 3) := dk_158 0 12 (dk_at dksJ28_siftDownUsingComparator_2 5 rfl rfl)
theorem dJ28_siftDownUsingComparator_52 : decode cJ28_siftDownUsingComparator 52 = .ok (.aload_n 2, 1) := dk_44 (dk_at dksJ28_siftDownUsingComparator_2 8 rfl rfl)
theorem dJ28_siftDownUsingComparator_53 : decode cJ28_siftDownUsingComparator 53 = .ok (.iload 8, 2) := dk_21 8 (dk_at dksJ28_siftDownUsingComparator_2 9 rfl rfl)
theorem dJ28_siftDownUsingComparator_55 : decode cJ28_siftDownUsingComparator 55 = .ok (.dup, 1) := dk_89 (dk_at dksJ28_siftDownUsingComparator_2 11 rfl rfl)
theorem dJ28_siftDownUsingComparator_56 : decode cJ28_siftDownUsingComparator 56 = .ok (.istore 6, 2) := dk_54 6 (dk_at dksJ28_siftDownUsingComparator_2 12 rfl rfl)
theorem dJ28_siftDownUsingComparator_58 : decode cJ28_siftDownUsingComparator 58 = .ok (.aaload, 1) := dk_50 (dk_at dksJ28_siftDownUsingComparator_2 14 rfl rfl)
theorem dJ28_siftDownUsingComparator_59 : decode cJ28_siftDownUsingComparator 59 = .ok (.astore 7, 2) := dk_58 7 (dk_at dksJ28_siftDownUsingComparator_2 15 rfl rfl)
theorem dJ28_siftDownUsingComparator_61 : decode cJ28_siftDownUsingComparator 61 = .ok (.aload 4, 2) := dk_25 4 (dk_at dksJ28_siftDownUsingComparator_2 17 rfl rfl)
theorem dJ28_siftDownUsingComparator_63 : decode cJ28_siftDownUsingComparator 63 = .ok (.aload_n 1, 1) := dk_43 (dk_at dksJ28_siftDownUsingComparator_2 19 rfl rfl)
theorem dJ28_siftDownUsingComparator_64 : decode cJ28_siftDownUsingComparator 64 = .ok (.aload 7, 2) := dk_25 7 (dk_at dksJ28_siftDownUsingComparator_2 20 rfl rfl)
theorem dJ28_siftDownUsingComparator_66 : decode cJ28_siftDownUsingComparator 66 = .ok (.invokeinterface 149 3, 5) := by decide +kernel
theorem dJ28_siftDownUsingComparator_71 : decode cJ28_siftDownUsingComparator 71 = .ok (.ifCond .gt 6, 3) := dk_157 0 6 (dk_at dksJ28_siftDownUsingComparator_3 5 rfl rfl)
theorem dJ28_siftDownUsingComparator_74 : decode cJ28_siftDownUsingComparator 74 = .ok (.goto 14, 3) := dk_167 0 14 (dk_at dksJ28_siftDownUsingComparator_3 8 rfl rfl)
theorem dJ28_siftDownUsingComparator_77 : decode cJ28_siftDownUsingComparator 77 = .ok (.aload_n 2, 1) := dk_44 (dk_at dksJ28_siftDownUsingComparator_3 11 rfl rfl)
theorem dJ28_siftDownUsingComparator_78 : decode cJ28_siftDownUsingComparator 78 = .ok (.iload_n 0, 1) := dk_26 (dk_at dksJ28_siftDownUsingComparator_3 12 rfl rfl)
theorem dJ28_siftDownUsingComparator_79 : decode cJ28_siftDownUsingComparator 79 = .ok (.aload 7, 2) := dk_25 7 (dk_at dksJ28_siftDownUsingComparator_3 13 rfl rfl)
theorem dJ28_siftDownUsingComparator_81 : decode cJ28_siftDownUsingComparator 81 = .ok (.aastore, 1) := dk_83 (dk_at dksJ28_siftDownUsingComparator_3 15 rfl rfl)
theorem dJ28_siftDownUsingComparator_82 : decode cJ28_siftDownUsingComparator 82 = .ok (.iload 6, 2) := dk_21 6 (dk_at dksJ28_siftDownUsingComparator_3 16 rfl rfl)
theorem dJ28_siftDownUsingComparator_84 : decode cJ28_siftDownUsingComparator 84 = .ok (.istore_n 0, 1) := dk_59 (dk_at dksJ28_siftDownUsingComparator_3 18 rfl rfl)
theorem dJ28_siftDownUsingComparator_85 : decode cJ28_siftDownUsingComparator 85 = .ok (.goto (-80), 3) := dk_167 255 176 (dk_at dksJ28_siftDownUsingComparator_3 19 rfl rfl)
theorem dJ28_siftDownUsingComparator_88 : decode cJ28_siftDownUsingComparator 88 = .ok (.aload_n 2, 1) := dk_44 (dk_at dksJ28_siftDownUsingComparator_3 22 rfl rfl)
theorem dJ28_siftDownUsingComparator_89 : decode cJ28_siftDownUsingComparator 89 = .ok (.iload_n 0, 1) := dk_26 (dk_at dksJ28_siftDownUsingComparator_3 23 rfl rfl)
theorem dJ28_siftDownUsingComparator_90 : decode cJ28_siftDownUsingComparator 90 = .ok (.aload_n 1, 1) := dk_43 (dk_at dksJ28_siftDownUsingComparator_4 0 rfl rfl)
theorem dJ28_siftDownUsingComparator_91 : decode cJ28_siftDownUsingComparator 91 = .ok (.aastore, 1) := dk_83 (dk_at dksJ28_siftDownUsingComparator_4 1 rfl rfl)
theorem dJ28_siftDownUsingComparator_92 : decode cJ28_siftDownUsingComparator 92 = .ok (.return_, 1) := dk_177 (dk_at dksJ28_siftDownUsingComparator_4 2 rfl rfl)
theorem c_81_0 : LkP (OkP 81) [(0, o_iload 3 1), (1, o_push 1 (.int 1)), (2, o_iop (fun x y => (x.toUInt32 >>> (y.toUInt32 &&& Int32.toUInt32 31)).toInt32)), (3, o_istore 5 2), (5, o_iload 0 1), (6, o_iload 5 2), (8, o_icmp (fun x y => decide (y ≤ x)) 88), (11, o_iload 0 1), (12, o_push 1 (.int 1)), (13, o_iop (fun x y => x <<< (y &&& 31))), (14, o_push 1 (.int 1)), (15, o_iop (fun x y => x + y)), (16, o_istore 6 2), (18, o_aload 2 1), (19, o_iload 6 2), (21, o_rdQ), (22, o_astore 7 2), (24, o_iload 6 2), (26, o_push 1 (.int 1)), (27, o_iop (fun x y => x + y)), (28, o_istore 8 2), (30, o_iload 8 2), (32, o_iload 3 1), (33, o_icmp (fun x y => decide (y ≤ x)) 61), (36, o_aload 4 2), (38, o_aload 7 2), (40, o_aload 2 1), (41, o_iload 8 2), (43, o_rdQ), (44, o_cv [(19, 239)] 2 5 false none), (49, o_if (fun x => decide (x ≤ 0)) 61), (52, o_aload 2 1), (53, o_iload 8 2), (55, o_dup), (56, o_istore 6 2), (58, o_rdQ), (59, o_astore 7 2), (61, o_aload 4 2), (63, o_aload 1 1)] := lkp_c (P := OkP 81) ⟨(PuOK.ok (ok_iload_n dJ28_siftDownUsingComparator_0 rfl)), m_iload⟩ (
  lkp_c (P := OkP 81) ⟨(PuOK.ok (ok_iconst dJ28_siftDownUsingComparator_1 rfl)), m_push⟩ (
  lkp_c (P := OkP 81) ⟨(PuOK.ok (ok_iushr dJ28_siftDownUsingComparator_2)), m_iop⟩ (
  lkp_c (P := OkP 81) ⟨(PuOK.ok (ok_istore dJ28_siftDownUsingComparator_3)), m_istore⟩ (
  lkp_c (P := OkP 81) ⟨(PuOK.ok (ok_iload_n dJ28_siftDownUsingComparator_5 rfl)), m_iload⟩ (
  lkp_c (P := OkP 81) ⟨(PuOK.ok (ok_iload dJ28_siftDownUsingComparator_6)), m_iload⟩ (
  lkp_c (P := OkP 81) ⟨(PuOK.ok (ok_icmp_ge dJ28_siftDownUsingComparator_8 rfl)), m_icmp⟩ (
  lkp_c (P := OkP 81) ⟨(PuOK.ok (ok_iload_n dJ28_siftDownUsingComparator_11 rfl)), m_iload⟩ (
  lkp_c (P := OkP 81) ⟨(PuOK.ok (ok_iconst dJ28_siftDownUsingComparator_12 rfl)), m_push⟩ (
  lkp_c (P := OkP 81) ⟨(PuOK.ok (ok_ishl dJ28_siftDownUsingComparator_13)), m_iop⟩ (
  lkp_c (P := OkP 81) ⟨(PuOK.ok (ok_iconst dJ28_siftDownUsingComparator_14 rfl)), m_push⟩ (
  lkp_c (P := OkP 81) ⟨(PuOK.ok (ok_iadd dJ28_siftDownUsingComparator_15)), m_iop⟩ (
  lkp_c (P := OkP 81) ⟨(PuOK.ok (ok_istore dJ28_siftDownUsingComparator_16)), m_istore⟩ (
  lkp_c (P := OkP 81) ⟨(PuOK.ok (ok_aload_n dJ28_siftDownUsingComparator_18 rfl)), m_aload⟩ (
  lkp_c (P := OkP 81) ⟨(PuOK.ok (ok_iload dJ28_siftDownUsingComparator_19)), m_iload⟩ (
  lkp_c (P := OkP 81) ⟨ok_aald dJ28_siftDownUsingComparator_21, m_rdQ⟩ (
  lkp_c (P := OkP 81) ⟨(PuOK.ok (ok_astore dJ28_siftDownUsingComparator_22)), m_astore⟩ (
  lkp_c (P := OkP 81) ⟨(PuOK.ok (ok_iload dJ28_siftDownUsingComparator_24)), m_iload⟩ (
  lkp_c (P := OkP 81) ⟨(PuOK.ok (ok_iconst dJ28_siftDownUsingComparator_26 rfl)), m_push⟩ (
  lkp_c (P := OkP 81) ⟨(PuOK.ok (ok_iadd dJ28_siftDownUsingComparator_27)), m_iop⟩ (
  lkp_c (P := OkP 81) ⟨(PuOK.ok (ok_istore dJ28_siftDownUsingComparator_28)), m_istore⟩ (
  lkp_c (P := OkP 81) ⟨(PuOK.ok (ok_iload dJ28_siftDownUsingComparator_30)), m_iload⟩ (
  lkp_c (P := OkP 81) ⟨(PuOK.ok (ok_iload_n dJ28_siftDownUsingComparator_32 rfl)), m_iload⟩ (
  lkp_c (P := OkP 81) ⟨(PuOK.ok (ok_icmp_ge dJ28_siftDownUsingComparator_33 rfl)), m_icmp⟩ (
  lkp_c (P := OkP 81) ⟨(PuOK.ok (ok_aload dJ28_siftDownUsingComparator_36)), m_aload⟩ (
  lkp_c (P := OkP 81) ⟨(PuOK.ok (ok_aload dJ28_siftDownUsingComparator_38)), m_aload⟩ (
  lkp_c (P := OkP 81) ⟨(PuOK.ok (ok_aload_n dJ28_siftDownUsingComparator_40 rfl)), m_aload⟩ (
  lkp_c (P := OkP 81) ⟨(PuOK.ok (ok_iload dJ28_siftDownUsingComparator_41)), m_iload⟩ (
  lkp_c (P := OkP 81) ⟨ok_aald dJ28_siftDownUsingComparator_43, m_rdQ⟩ (
  lkp_c (P := OkP 81) ⟨ok_cv (List.forall_mem_cons.mpr ⟨tg_F (ci := 19) (r := CLr 19) (y := 239) rfl ⟨rfl, by decide⟩ q2158 q2162 q2164 q160 q2166 q2160 q2159 q2165 q2163 q2161 ⟨cn_18.1, cn_18.2, pd_30⟩ dJ28_siftDownUsingComparator_44, (List.forall_mem_nil _)⟩) hd_no, m_cv⟩ (
  lkp_c (P := OkP 81) ⟨(PuOK.ok (ok_if_le dJ28_siftDownUsingComparator_49 rfl)), m_if⟩ (
  lkp_c (P := OkP 81) ⟨(PuOK.ok (ok_aload_n dJ28_siftDownUsingComparator_52 rfl)), m_aload⟩ (
  lkp_c (P := OkP 81) ⟨(PuOK.ok (ok_iload dJ28_siftDownUsingComparator_53)), m_iload⟩ (
  lkp_c (P := OkP 81) ⟨(PuOK.ok (ok_dup dJ28_siftDownUsingComparator_55)), m_dup⟩ (
  lkp_c (P := OkP 81) ⟨(PuOK.ok (ok_istore dJ28_siftDownUsingComparator_56)), m_istore⟩ (
  lkp_c (P := OkP 81) ⟨ok_aald dJ28_siftDownUsingComparator_58, m_rdQ⟩ (
  lkp_c (P := OkP 81) ⟨(PuOK.ok (ok_astore dJ28_siftDownUsingComparator_59)), m_astore⟩ (
  lkp_c (P := OkP 81) ⟨(PuOK.ok (ok_aload dJ28_siftDownUsingComparator_61)), m_aload⟩ (
  lkp_c (P := OkP 81) ⟨(PuOK.ok (ok_aload_n dJ28_siftDownUsingComparator_63 rfl)), m_aload⟩ (
  trivial)))))))))))))))))))))))))))))))))))))))
theorem c_81_1 : LkP (OkP 81) [(64, o_aload 7 2), (66, o_cv [(19, 239)] 2 5 false none), (71, o_if (fun x => decide (0 < x)) 77), (74, o_goto 88), (77, o_aload 2 1), (78, o_iload 0 1), (79, o_aload 7 2), (81, o_wrQ 5 [0, 1, 2, 3, 4, 5, 6, 7, 8, 9, 10, 11, 12, 13, 14, 15, 16, 17, 18, 19, 20, 21, 22, 23, 24, 25, 26, 27, 28, 29, 30, 31, 32, 33, 34]), (82, o_iload 6 2), (84, o_istore 0 1), (85, o_goto 5), (88, o_aload 2 1), (89, o_iload 0 1), (90, o_aload 1 1), (91, o_wrQ 5 [0, 1, 2, 3, 4, 5, 6, 7, 8, 9, 10, 11, 12, 13, 14, 15, 16, 17, 18, 19, 20, 21, 22, 23, 24, 25, 26, 27, 28, 29, 30, 31, 32, 33, 34]), (92, o_vret)] := lkp_c (P := OkP 81) ⟨(PuOK.ok (ok_aload dJ28_siftDownUsingComparator_64)), m_aload⟩ (
  lkp_c (P := OkP 81) ⟨ok_cv (List.forall_mem_cons.mpr ⟨tg_F (ci := 19) (r := CLr 19) (y := 239) rfl ⟨rfl, by decide⟩ q2158 q2162 q2164 q160 q2166 q2160 q2159 q2165 q2163 q2161 ⟨cn_18.1, cn_18.2, pd_30⟩ dJ28_siftDownUsingComparator_66, (List.forall_mem_nil _)⟩) hd_no, m_cv⟩ (
  lkp_c (P := OkP 81) ⟨(PuOK.ok (ok_if_gt dJ28_siftDownUsingComparator_71 rfl)), m_if⟩ (
  lkp_c (P := OkP 81) ⟨(PuOK.ok (ok_goto dJ28_siftDownUsingComparator_74 rfl)), m_goto⟩ (
  lkp_c (P := OkP 81) ⟨(PuOK.ok (ok_aload_n dJ28_siftDownUsingComparator_77 rfl)), m_aload⟩ (
  lkp_c (P := OkP 81) ⟨(PuOK.ok (ok_iload_n dJ28_siftDownUsingComparator_78 rfl)), m_iload⟩ (
  lkp_c (P := OkP 81) ⟨(PuOK.ok (ok_aload dJ28_siftDownUsingComparator_79)), m_aload⟩ (
  lkp_c (P := OkP 81) ⟨ok_aast rfl cst_0 dJ28_siftDownUsingComparator_81, m_wrQ⟩ (
  lkp_c (P := OkP 81) ⟨(PuOK.ok (ok_iload dJ28_siftDownUsingComparator_82)), m_iload⟩ (
  lkp_c (P := OkP 81) ⟨(PuOK.ok (ok_istore_n dJ28_siftDownUsingComparator_84 rfl)), m_istore⟩ (
  lkp_c (P := OkP 81) ⟨(PuOK.ok (ok_goto dJ28_siftDownUsingComparator_85 rfl)), m_goto⟩ (
  lkp_c (P := OkP 81) ⟨(PuOK.ok (ok_aload_n dJ28_siftDownUsingComparator_88 rfl)), m_aload⟩ (
  lkp_c (P := OkP 81) ⟨(PuOK.ok (ok_iload_n dJ28_siftDownUsingComparator_89 rfl)), m_iload⟩ (
  lkp_c (P := OkP 81) ⟨(PuOK.ok (ok_aload_n dJ28_siftDownUsingComparator_90 rfl)), m_aload⟩ (
  lkp_c (P := OkP 81) ⟨ok_aast rfl cst_0 dJ28_siftDownUsingComparator_91, m_wrQ⟩ (
  lkp_c (P := OkP 81) ⟨ok_vret rfl dJ28_siftDownUsingComparator_92, m_vret⟩ (
  trivial))))))))))))))))
theorem mt_81 : MtOK TB NT IT 81 := ⟨by decide +kernel, rfl, (fun h => by cases h), Or.inl ⟨rfl, rfl⟩, rfl, by decide, lk2_all (P := OkP 81) ⟨c_81_0, c_81_1, trivial⟩⟩
def dkwJ3_init_3_2 : List UInt8 := [44, 181, 0, 7, 29, 154, 0, 8, 42, 1, 181, 0, 24, 177]
abbrev dktJ3_init_3_2 : List UInt8 := dkwJ3_init_3_2 ++ []
def dkwJ3_init_3_1 : List UInt8 := [21, 4, 153, 0, 11, 42, 182, 0, 27, 87, 167, 0, 8, 42, 1, 181, 0, 17, 42, 43, 181, 0, 31, 42]
abbrev dktJ3_init_3_1 : List UInt8 := dkwJ3_init_3_1 ++ dktJ3_init_3_2
def dkwJ3_init_3_0 : List UInt8 := [42, 183, 0, 1, 42, 42, 181, 0, 7, 42, 178, 0, 13, 181, 0, 17, 42, 178, 0, 20, 181, 0, 24]
abbrev dktJ3_init_3_0 : List UInt8 := dkwJ3_init_3_0 ++ dktJ3_init_3_1
theorem dksJ3_init_3_0 : cJ3_init_3.data.toList.drop 0 = dktJ3_init_3_0 := by decide +kernel
theorem dksJ3_init_3_1 : cJ3_init_3.data.toList.drop 23 = dktJ3_init_3_1 := dk_seg dksJ3_init_3_0 23 rfl rfl
theorem dksJ3_init_3_2 : cJ3_init_3.data.toList.drop 47 = dktJ3_init_3_2 := dk_seg dksJ3_init_3_1 24 rfl rfl
theorem dJ3_init_3_0 : decode cJ3_init_3 0 = .ok (.aload_n 0, 1) := dk_42 (dk_at dksJ3_init_3_0 0 rfl rfl)
theorem dJ3_init_3_1 : decode cJ3_init_3 1 = .ok (.invokespecial 1, 3) := dk_183 0 1 (dk_at dksJ3_init_3_0 1 rfl rfl)
theorem dJ3_init_3_4 : decode cJ3_init_3 4 = .ok (.aload_n 0, 1) := dk_42 (dk_at dksJ3_init_3_0 4 rfl rfl)
theorem dJ3_init_3_5 : decode cJ3_init_3 5 = .ok (.aload_n 0, 1) := dk_42 (dk_at dksJ3_init_3_0 5 rfl rfl)
theorem dJ3_init_3_6 : decode cJ3_init_3 6 = .ok (.putfield 7, 3) := dk_181 0 7 (dk_at dksJ3_init_3_0 6 rfl rfl)
theorem dJ3_init_3_9 : decode cJ3_init_3 9 = .ok (.aload_n 0, 1) := dk_42 (dk_at dksJ3_init_3_0 9 rfl rfl)
theorem dJ3_init_3_10 : decode cJ3_init_3 10 = .ok (.getstatic 13, 3) := dk_178 0 13 (dk_at dksJ3_init_3_0 10 rfl rfl)
theorem dJ3_init_3_13 : decode cJ3_init_3 13 = .ok (.putfield 17, 3) := dk_181 0 17 (dk_at dksJ3_init_3_0 13 rfl rfl)
theorem dJ3_init_3_16 : decode cJ3_init_3 16 = .ok (.aload_n 0, 1) := dk_42 (dk_at dksJ3_init_3_0 16 rfl rfl)
theorem dJ3_init_3_17 : decode cJ3_init_3 17 = .ok (.getstatic 20, 3) := dk_178 0 20 (dk_at dksJ3_init_3_0 17 rfl rfl)
theorem dJ3_init_3_20 : decode cJ3_init_3 20 = .ok (.putfield 24, 3) := dk_181 0 24 (dk_at dksJ3_init_3_0 20 rfl rfl)
theorem dJ3_init_3_23 : decode cJ3_init_3 23 = .ok (.iload 4, 2) := dk_21 4 (dk_at dksJ3_init_3_1 0 rfl rfl)
theorem dJ3_init_3_25 : decode cJ3_init_3 25 = .ok (.ifCond .eq 11, 3) := dk_153 0 11 (dk_at dksJ3_init_3_1 2 rfl rfl)
theorem dJ3_init_3_28 : decode cJ3_init_3 28 = .ok (.aload_n 0, 1) := dk_42 (dk_at dksJ3_init_3_1 5 rfl rfl)
theorem dJ3_init_3_32 : decode cJ3_init_3 32 = .ok (.pop, 1) := dk_87 (dk_at dksJ3_init_3_1 9 rfl rfl)
theorem dJ3_init_3_33 : decode cJ3_init_3 33 = .ok (.goto 8, 3) := dk_167 0 8 (dk_at dksJ3_init_3_1 10 rfl rfl)
theorem dJ3_init_3_36 : decode cJ3_init_3 36 = .ok (.aload_n 0, 1) := dk_42 (dk_at dksJ3_init_3_1 13 rfl rfl)
theorem dJ3_init_3_37 : decode cJ3_init_3 37 = .ok (.aconst_null, 1) := dk_1 (dk_at dksJ3_init_3_1 14 rfl rfl)
theorem dJ3_init_3_38 : decode cJ3_init_3 38 = .ok (.putfield 17, 3) := dk_181 0 17 (dk_at dksJ3_init_3_1 15 rfl rfl)
theorem dJ3_init_3_41 : decode cJ3_init_3 41 = .ok (.aload_n 0, 1) := dk_42 (dk_at dksJ3_init_3_1 18 rfl rfl)
theorem dJ3_init_3_42 : decode cJ3_init_3 42 = .ok (.aload_n 1, 1) := dk_43 (dk_at dksJ3_init_3_1 19 rfl rfl)
theorem dJ3_init_3_43 : decode cJ3_init_3 43 = .ok (.putfield 31, 3) := dk_181 0 31 (dk_at dksJ3_init_3_1 20 rfl rfl)
theorem dJ3_init_3_46 : decode cJ3_init_3 46 = .ok (.aload_n 0, 1) := dk_42 (dk_at dksJ3_init_3_1 23 rfl rfl)
theorem dJ3_init_3_47 : decode cJ3_init_3 47 = .ok (.aload_n 2, 1) := dk_44 (dk_at dksJ3_init_3_2 0 rfl rfl)
theorem dJ3_init_3_48 : decode cJ3_init_3 48 = .ok (.putfield 7, 3) := dk_181 0 7 (dk_at dksJ3_init_3_2 1 rfl rfl)
theorem dJ3_init_3_51 : decode cJ3_init_3 51 = .ok (.iload_n 3, 1) := dk_29 (dk_at dksJ3_init_3_2 4 rfl rfl)
theorem dJ3_init_3_52 : decode cJ3_init_3 52 = .ok (.ifCond .ne 8, 3) := dk_154 0 8 (dk_at dksJ3_init_3_2 5 rfl rfl)
theorem dJ3_init_3_55 : decode cJ3_init_3 55 = .ok (.aload_n 0, 1) := dk_42 (dk_at dksJ3_init_3_2 8 rfl rfl)
theorem dJ3_init_3_56 : decode cJ3_init_3 56 = .ok (.aconst_null, 1) := dk_1 (dk_at dksJ3_init_3_2 9 rfl rfl)
theorem dJ3_init_3_57 : decode cJ3_init_3 57 = .ok (.putfield 24, 3) := dk_181 0 24 (dk_at dksJ3_init_3_2 10 rfl rfl)
theorem dJ3_init_3_60 : decode cJ3_init_3 60 = .ok (.return_, 1) := dk_177 (dk_at dksJ3_init_3_2 13 rfl rfl)
theorem c_82_0 : LkP (OkP 82) [(0, o_aload 0 1), (1, o_oi), (4, o_aload 0 1), (5, o_aload 0 1), (6, o_put 52 0), (9, o_aload 0 1), (10, o_pushR 3 0), (13, o_put 53 0), (16, o_aload 0 1), (17, o_pushR 3 1), (20, o_put 54 0), (23, o_iload 4 2), (25, o_if (fun x => decide (x = 0)) 36), (28, o_aload 0 1), (32, o_pop), (33, o_goto 41), (36, o_aload 0 1), (37, o_push 1 .null), (38, o_put 53 0), (41, o_aload 0 1), (42, o_aload 1 1), (43, o_put 55 0), (46, o_aload 0 1), (47, o_aload 2 1), (48, o_put 52 0), (51, o_iload 3 1), (52, o_if (fun x => decide (¬ x = 0)) 60), (55, o_aload 0 1), (56, o_push 1 .null), (57, o_put 54 0), (60, o_vret)] := lkp_c (P := OkP 82) ⟨(PuOK.ok (ok_aload_n dJ3_init_3_0 rfl)), m_aload⟩ (
  lkp_c (P := OkP 82) ⟨ok_oi q268 q188 q_oi dJ3_init_3_1, m_oi⟩ (
  lkp_c (P := OkP 82) ⟨(PuOK.ok (ok_aload_n dJ3_init_3_4 rfl)), m_aload⟩ (
  lkp_c (P := OkP 82) ⟨(PuOK.ok (ok_aload_n dJ3_init_3_5 rfl)), m_aload⟩ (
  lkp_c (P := OkP 82) ⟨ok_put ⟨"java/lang/Throwable", q535, Or.inl rfl⟩ rfl fd_52 rfl dJ3_init_3_6, m_put⟩ (
  lkp_c (P := OkP 82) ⟨(PuOK.ok (ok_aload_n dJ3_init_3_9 rfl)), m_aload⟩ (
  lkp_c (P := OkP 82) ⟨ok_gsu (q := ("java/lang/Throwable", "UNASSIGNED_STACK", "[Ljava/lang/StackTraceElement;", 0)) (by decide +kernel) q269 dJ3_init_3_10, m_pushR⟩ (
  lkp_c (P := OkP 82) ⟨ok_put ⟨"java/lang/Throwable", q536, Or.inl rfl⟩ rfl fd_53 rfl dJ3_init_3_13, m_put⟩ (
  lkp_c (P := OkP 82) ⟨(PuOK.ok (ok_aload_n dJ3_init_3_16 rfl)), m_aload⟩ (
  lkp_c (P := OkP 82) ⟨ok_gsu (q := ("java/lang/Throwable", "SUPPRESSED_SENTINEL", "Ljava/util/List;", 1)) (by decide +kernel) q271 dJ3_init_3_17, m_pushR⟩ (
  lkp_c (P := OkP 82) ⟨ok_put ⟨"java/lang/Throwable", q537, Or.inl rfl⟩ rfl fd_54 rfl dJ3_init_3_20, m_put⟩ (
  lkp_c (P := OkP 82) ⟨(PuOK.ok (ok_iload dJ3_init_3_23)), m_iload⟩ (
  lkp_c (P := OkP 82) ⟨(PuOK.ok (ok_if_eq dJ3_init_3_25 rfl)), m_if⟩ (
  lkp_c (P := OkP 82) ⟨(PuOK.ok (ok_aload_n dJ3_init_3_28 rfl)), m_aload⟩ (
  lkp_c (P := OkP 82) ⟨(PuOK.ok (ok_pop dJ3_init_3_32)), m_pop⟩ (
  lkp_c (P := OkP 82) ⟨(PuOK.ok (ok_goto dJ3_init_3_33 rfl)), m_goto⟩ (
  lkp_c (P := OkP 82) ⟨(PuOK.ok (ok_aload_n dJ3_init_3_36 rfl)), m_aload⟩ (
  lkp_c (P := OkP 82) ⟨(PuOK.ok (ok_null dJ3_init_3_37)), m_push⟩ (
  lkp_c (P := OkP 82) ⟨ok_put ⟨"java/lang/Throwable", q536, Or.inl rfl⟩ rfl fd_53 rfl dJ3_init_3_38, m_put⟩ (
  lkp_c (P := OkP 82) ⟨(PuOK.ok (ok_aload_n dJ3_init_3_41 rfl)), m_aload⟩ (
  lkp_c (P := OkP 82) ⟨(PuOK.ok (ok_aload_n dJ3_init_3_42 rfl)), m_aload⟩ (
  lkp_c (P := OkP 82) ⟨ok_put ⟨"java/lang/Throwable", q534, Or.inl rfl⟩ rfl fd_55 rfl dJ3_init_3_43, m_put⟩ (
  lkp_c (P := OkP 82) ⟨(PuOK.ok (ok_aload_n dJ3_init_3_46 rfl)), m_aload⟩ (
  lkp_c (P := OkP 82) ⟨(PuOK.ok (ok_aload_n dJ3_init_3_47 rfl)), m_aload⟩ (
  lkp_c (P := OkP 82) ⟨ok_put ⟨"java/lang/Throwable", q535, Or.inl rfl⟩ rfl fd_52 rfl dJ3_init_3_48, m_put⟩ (
  lkp_c (P := OkP 82) ⟨(PuOK.ok (ok_iload_n dJ3_init_3_51 rfl)), m_iload⟩ (
  lkp_c (P := OkP 82) ⟨(PuOK.ok (ok_if_ne dJ3_init_3_52 rfl)), m_if⟩ (
  lkp_c (P := OkP 82) ⟨(PuOK.ok (ok_aload_n dJ3_init_3_55 rfl)), m_aload⟩ (
  lkp_c (P := OkP 82) ⟨(PuOK.ok (ok_null dJ3_init_3_56)), m_push⟩ (
  lkp_c (P := OkP 82) ⟨ok_put ⟨"java/lang/Throwable", q537, Or.inl rfl⟩ rfl fd_54 rfl dJ3_init_3_57, m_put⟩ (
  lkp_c (P := OkP 82) ⟨ok_vret rfl dJ3_init_3_60, m_vret⟩ (
  trivial)))))))))))))))))))))))))))))))
theorem mt_82 : MtOK TB NT IT 82 := ⟨by decide +kernel, rfl, fun _ => rfl, Or.inl ⟨rfl, rfl⟩, rfl, by decide, lk2_all (P := OkP 82) ⟨c_82_0, trivial⟩⟩
def dkwJ32_init_1 : List UInt8 := [177]
abbrev dktJ32_init_1 : List UInt8 := dkwJ32_init_1 ++ []
def dkwJ32_init_0 : List UInt8 := [42, 183, 0, 3, 42, 4, 181, 0, 9, 42, 43, 181, 0, 15, 42, 44, 181, 0, 19, 42, 45, 181, 0, 22]
abbrev dktJ32_init_0 : List UInt8 := dkwJ32_init_0 ++ dktJ32_init_1
theorem dksJ32_init_0 : cJ32_init.data.toList.drop 0 = dktJ32_init_0 := by decide +kernel
theorem dksJ32_init_1 : cJ32_init.data.toList.drop 24 = dktJ32_init_1 := dk_seg dksJ32_init_0 24 rfl rfl
theorem dJ32_init_0 : decode cJ32_init 0 = .ok (.aload_n 0, 1) := dk_42 (dk_at dksJ32_init_0 0 rfl rfl)
theorem dJ32_init_1 : decode cJ32_init 1 = .ok (.invokespecial 3, 3) := dk_183 0 3 (dk_at dksJ32_init_0 1 rfl rfl)
theorem dJ32_init_4 : decode cJ32_init 4 = .ok (.aload_n 0, 1) := dk_42 (dk_at dksJ32_init_0 4 rfl rfl)
theorem dJ32_init_5 : decode cJ32_init 5 = .ok (.iconst 1, 1) := dk_4 (dk_at dksJ32_init_0 5 rfl rfl)
theorem dJ32_init_6 : decode cJ32_init 6 = .ok (.putfield 9, 3) := dk_181 0 9 (dk_at dksJ32_init_0 6 rfl rfl)
theorem dJ32_init_9 : decode cJ32_init 9 = .ok (.aload_n 0, 1) := dk_42 (dk_at dksJ32_init_0 9 rfl rfl)
theorem dJ32_init_10 : decode cJ32_init 10 = .ok (.aload_n 1, 1) := dk_43 (dk_at dksJ32_init_0 10 rfl rfl)
theorem dJ32_init_11 : decode cJ32_init 11 = .ok (.putfield 15, 3) := dk_181 0 15 (dk_at dksJ32_init_0 11 rfl rfl)
theorem dJ32_init_14 : decode cJ32_init 14 = .ok (.aload_n 0, 1) := dk_42 (dk_at dksJ32_init_0 14 rfl rfl)
theorem dJ32_init_15 : decode cJ32_init 15 = .ok (.aload_n 2, 1) := dk_44 (dk_at dksJ32_init_0 15 rfl rfl)
theorem dJ32_init_16 : decode cJ32_init 16 = .ok (.putfield 19, 3) := dk_181 0 19 (dk_at dksJ32_init_0 16 rfl rfl)
theorem dJ32_init_19 : decode cJ32_init 19 = .ok (.aload_n 0, 1) := dk_42 (dk_at dksJ32_init_0 19 rfl rfl)
theorem dJ32_init_20 : decode cJ32_init 20 = .ok (.aload_n 3, 1) := dk_45 (dk_at dksJ32_init_0 20 rfl rfl)
theorem dJ32_init_21 : decode cJ32_init 21 = .ok (.putfield 22, 3) := dk_181 0 22 (dk_at dksJ32_init_0 21 rfl rfl)
theorem dJ32_init_24 : decode cJ32_init 24 = .ok (.return_, 1) := dk_177 (dk_at dksJ32_init_1 0 rfl rfl)
theorem c_83_0 : LkP (OkP 83) [(0, o_aload 0 1), (1, o_oi), (4, o_aload 0 1), (5, o_push 1 (.int 1)), (6, o_put 115 5), (9, o_aload 0 1), (10, o_aload 1 1), (11, o_put 110 0), (14, o_aload 0 1), (15, o_aload 2 1), (16, o_put 111 0), (19, o_aload 0 1), (20, o_aload 3 1), (21, o_put 114 0), (24, o_vret)] := lkp_c (P := OkP 83) ⟨(PuOK.ok (ok_aload_n dJ32_init_0 rfl)), m_aload⟩ (
  lkp_c (P := OkP 83) ⟨ok_oi q2297 q188 q_oi dJ32_init_1, m_oi⟩ (
  lkp_c (P := OkP 83) ⟨(PuOK.ok (ok_aload_n dJ32_init_4 rfl)), m_aload⟩ (
  lkp_c (P := OkP 83) ⟨(PuOK.ok (ok_iconst dJ32_init_5 rfl)), m_push⟩ (
  lkp_c (P := OkP 83) ⟨ok_put ⟨"java/util/TreeMap$Entry", q2307, Or.inl rfl⟩ rfl fd_115 rfl dJ32_init_6, m_put⟩ (
  lkp_c (P := OkP 83) ⟨(PuOK.ok (ok_aload_n dJ32_init_9 rfl)), m_aload⟩ (
  lkp_c (P := OkP 83) ⟨(PuOK.ok (ok_aload_n dJ32_init_10 rfl)), m_aload⟩ (
  lkp_c (P := OkP 83) ⟨ok_put ⟨"java/util/TreeMap$Entry", q2298, Or.inl rfl⟩ rfl fd_110 rfl dJ32_init_11, m_put⟩ (
  lkp_c (P := OkP 83) ⟨(PuOK.ok (ok_aload_n dJ32_init_14 rfl)), m_aload⟩ (
  lkp_c (P := OkP 83) ⟨(PuOK.ok (ok_aload_n dJ32_init_15 rfl)), m_aload⟩ (
  lkp_c (P := OkP 83) ⟨ok_put ⟨"java/util/TreeMap$Entry", q2300, Or.inl rfl⟩ rfl fd_111 rfl dJ32_init_16, m_put⟩ (
  lkp_c (P := OkP 83) ⟨(PuOK.ok (ok_aload_n dJ32_init_19 rfl)), m_aload⟩ (
  lkp_c (P := OkP 83) ⟨(PuOK.ok (ok_aload_n dJ32_init_20 rfl)), m_aload⟩ (
  lkp_c (P := OkP 83) ⟨ok_put ⟨"java/util/TreeMap$Entry", q2305, Or.inl rfl⟩ rfl fd_114 rfl dJ32_init_21, m_put⟩ (
  lkp_c (P := OkP 83) ⟨ok_vret rfl dJ32_init_24, m_vret⟩ (
  trivial)))))))))))))))
theorem mt_83 : MtOK TB NT IT 83 := ⟨by decide +kernel, rfl, fun _ => rfl, Or.inl ⟨rfl, rfl⟩, rfl, by decide, lk2_all (P := OkP 83) ⟨c_83_0, trivial⟩⟩
def dkwJ33_init_0 : List UInt8 := [42, 43, 181, 0, 1, 42, 183, 0, 7, 177]
abbrev dktJ33_init_0 : List UInt8 := dkwJ33_init_0 ++ []
theorem dksJ33_init_0 : cJ33_init.data.toList.drop 0 = dktJ33_init_0 := by decide +kernel
theorem dJ33_init_0 : decode cJ33_init 0 = .ok (.aload_n 0, 1) := dk_42 (dk_at dksJ33_init_0 0 rfl rfl)
theorem dJ33_init_1 : decode cJ33_init 1 = .ok (.aload_n 1, 1) := dk_43 (dk_at dksJ33_init_0 1 rfl rfl)
theorem dJ33_init_2 : decode cJ33_init 2 = .ok (.putfield 1, 3) := dk_181 0 1 (dk_at dksJ33_init_0 2 rfl rfl)
theorem dJ33_init_5 : decode cJ33_init 5 = .ok (.aload_n 0, 1) := dk_42 (dk_at dksJ33_init_0 5 rfl rfl)
theorem dJ33_init_6 : decode cJ33_init 6 = .ok (.invokespecial 7, 3) := dk_183 0 7 (dk_at dksJ33_init_0 6 rfl rfl)
theorem dJ33_init_9 : decode cJ33_init 9 = .ok (.return_, 1) := dk_177 (dk_at dksJ33_init_0 9 rfl rfl)
theorem c_84_0 : LkP (OkP 84) [(0, o_aload 0 1), (1, o_aload 1 1), (2, o_put 116 0), (5, o_aload 0 1), (6, o_ci 0 0), (9, o_vret)] := lkp_c (P := OkP 84) ⟨(PuOK.ok (ok_aload_n dJ33_init_0 rfl)), m_aload⟩ (
  lkp_c (P := OkP 84) ⟨(PuOK.ok (ok_aload_n dJ33_init_1 rfl)), m_aload⟩ (
  lkp_c (P := OkP 84) ⟨ok_putF q2368 rfl rfl rfl fd_116 rfl dJ33_init_2, m_put⟩ (
  lkp_c (P := OkP 84) ⟨(PuOK.ok (ok_aload_n dJ33_init_5 rfl)), m_aload⟩ (
  lkp_c (P := OkP 84) ⟨ok_ci (tg_I (rt := none) ⟨rfl, by decide⟩ rfl q2367 q236 q118 q237 ⟨cn_0.1, cn_0.2, pd_0⟩ dJ33_init_6) hd_no, m_ci⟩ (
  lkp_c (P := OkP 84) ⟨ok_vret rfl dJ33_init_9, m_vret⟩ (
  trivial))))))
theorem mt_84 : MtOK TB NT IT 84 := ⟨by decide +kernel, rfl, fun _ => rfl, Or.inl ⟨rfl, rfl⟩, rfl, by decide, lk2_all (P := OkP 84) ⟨c_84_0, trivial⟩⟩
def dkwJ33_iterator_0 : List UInt8 := [187, 0, 13, 89, 42, 180, 0, 1, 42, 180, 0, 1, 182, 0, 15, 183, 0, 21, 176]
abbrev dktJ33_iterator_0 : List UInt8 := dkwJ33_iterator_0 ++ []
theorem dksJ33_iterator_0 : cJ33_iterator.data.toList.drop 0 = dktJ33_iterator_0 := by decide +kernel
theorem dJ33_iterator_0 : decode cJ33_iterator 0 = .ok (.new 13, 3) := dk_187 0 13 (dk_at dksJ33_iterator_0 0 rfl rfl)
theorem dJ33_iterator_3 : decode cJ33_iterator 3 = .ok (.dup, 1) := dk_89 (dk_at dksJ33_iterator_0 3 rfl rfl)
theorem dJ33_iterator_4 : decode cJ33_iterator 4 = .ok (.aload_n 0, 1) := dk_42 (dk_at dksJ33_iterator_0 4 rfl rfl)
theorem dJ33_iterator_5 : decode cJ33_iterator 5 = .ok (.getfield 1, 3) := dk_180 0 1 (dk_at dksJ33_iterator_0 5 rfl rfl)
theorem dJ33_iterator_8 : decode cJ33_iterator 8 = .ok (.aload_n 0, 1) := dk_42 (dk_at dksJ33_iterator_0 8 rfl rfl)
theorem dJ33_iterator_9 : decode cJ33_iterator 9 = .ok (.getfield 1, 3) := dk_180 0 1 (dk_at dksJ33_iterator_0 9 rfl rfl)
theorem dJ33_iterator_12 : decode cJ33_iterator 12 = .ok (.invokevirtual 15, 3) := dk_182 0 15 (dk_at dksJ33_iterator_0 12 rfl rfl)
theorem dJ33_iterator_15 : decode cJ33_iterator 15 = .ok (.invokespecial 21, 3) := dk_183 0 21 (dk_at dksJ33_iterator_0 15 rfl rfl)
theorem dJ33_iterator_18 : decode cJ33_iterator 18 = .ok (.areturn, 1) := dk_176 (dk_at dksJ33_iterator_0 18 rfl rfl)
theorem c_85_0 : LkP (OkP 85) [(0, o_new 25 4 dv25), (3, o_dup), (4, o_aload 0 1), (5, o_get 116), (8, o_aload 0 1), (9, o_get 116), (12, o_cv [(20, 69)] 0 3 false none), (15, o_ci 96 2), (18, o_ret 0)] := lkp_c (P := OkP 85) ⟨ok_new (ci := 25) (r := CLr 25) rfl dvok_25 q2448 q2449 q172 dJ33_iterator_0, m_new⟩ (
  lkp_c (P := OkP 85) ⟨(PuOK.ok (ok_dup dJ33_iterator_3)), m_dup⟩ (
  lkp_c (P := OkP 85) ⟨(PuOK.ok (ok_aload_n dJ33_iterator_4 rfl)), m_aload⟩ (
  lkp_c (P := OkP 85) ⟨ok_get ⟨"java/util/TreeMap$Values", q2368, Or.inl rfl⟩ dJ33_iterator_5, m_get⟩ (
  lkp_c (P := OkP 85) ⟨(PuOK.ok (ok_aload_n dJ33_iterator_8 rfl)), m_aload⟩ (
  lkp_c (P := OkP 85) ⟨ok_get ⟨"java/util/TreeMap$Values", q2368, Or.inl rfl⟩ dJ33_iterator_9, m_get⟩ (
  lkp_c (P := OkP 85) ⟨ok_cv (List.forall_mem_cons.mpr ⟨tg_V (ci := 20) (r := CLr 20) (y := 69) rfl ⟨rfl, by decide⟩ rfl q2450 q2451 q2452 q152 q2453 ⟨cn_17.1, cn_17.2, pd_43⟩ dJ33_iterator_12, (List.forall_mem_nil _)⟩) hd_no, m_cv⟩ (
  lkp_c (P := OkP 85) ⟨ok_ci (tg_I (rt := none) ⟨rfl, by decide⟩ rfl q2454 q2455 q172 q2456 ⟨cn_25.1, cn_25.2, pd_44⟩ dJ33_iterator_15) hd_no, m_ci⟩ (
  lkp_c (P := OkP 85) ⟨ok_aret rfl (Or.inl ⟨_, rfl⟩) dJ33_iterator_18, m_ret⟩ (
  trivial)))))))))
theorem mt_85 : MtOK TB NT IT 85 := ⟨by decide +kernel, rfl, (fun h => by cases h), Or.inl ⟨rfl, rfl⟩, rfl, by decide, lk2_all (P := OkP 85) ⟨c_85_0, trivial⟩⟩
def dkwJ34_hasNext_0 : List UInt8 := [42, 180, 0, 26, 198, 0, 7, 4, 167, 0, 4, 3, 172]
abbrev dktJ34_hasNext_0 : List UInt8 := dkwJ34_hasNext_0 ++ []
theorem dksJ34_hasNext_0 : cJ34_hasNext.data.toList.drop 0 = dktJ34_hasNext_0 := by decide +kernel
theorem dJ34_hasNext_0 : decode cJ34_hasNext 0 = .ok (.aload_n 0, 1) := dk_42 (dk_at dksJ34_hasNext_0 0 rfl rfl)
theorem dJ34_hasNext_1 : decode cJ34_hasNext 1 = .ok (.getfield 26, 3) := dk_180 0 26 (dk_at dksJ34_hasNext_0 1 rfl rfl)
theorem dJ34_hasNext_4 : decode cJ34_hasNext 4 = .ok (.ifnull 7, 3) := dk_198 0 7 (dk_at dksJ34_hasNext_0 4 rfl rfl)
theorem dJ34_hasNext_7 : decode cJ34_hasNext 7 = .ok (.iconst 1, 1) := dk_4 (dk_at dksJ34_hasNext_0 7 rfl rfl)
theorem dJ34_hasNext_8 : decode cJ34_hasNext 8 = .ok (.goto 4, 3) := dk_167 0 4 (dk_at dksJ34_hasNext_0 8 rfl rfl)
theorem dJ34_hasNext_11 : decode cJ34_hasNext 11 = .ok (.iconst 0, 1) := dk_3 (dk_at dksJ34_hasNext_0 11 rfl rfl)
theorem dJ34_hasNext_12 : decode cJ34_hasNext 12 = .ok (.ireturn, 1) := dk_172 (dk_at dksJ34_hasNext_0 12 rfl rfl)
theorem c_86_0 : LkP (OkP 86) [(0, o_aload 0 1), (1, o_get 117), (4, o_ifnull 11), (7, o_push 1 (.int 1)), (8, o_goto 12), (11, o_push 1 (.int 0)), (12, o_ret 5)] := lkp_c (P := OkP 86) ⟨(PuOK.ok (ok_aload_n dJ34_hasNext_0 rfl)), m_aload⟩ (
  lkp_c (P := OkP 86) ⟨ok_get ⟨"java/util/HashMap$HashIterator", q2395, Or.inl rfl⟩ dJ34_hasNext_1, m_get⟩ (
  lkp_c (P := OkP 86) ⟨(PuOK.ok (ok_ifnull dJ34_hasNext_4 rfl)), m_ifnull⟩ (
  lkp_c (P := OkP 86) ⟨(PuOK.ok (ok_iconst dJ34_hasNext_7 rfl)), m_push⟩ (
  lkp_c (P := OkP 86) ⟨(PuOK.ok (ok_goto dJ34_hasNext_8 rfl)), m_goto⟩ (
  lkp_c (P := OkP 86) ⟨(PuOK.ok (ok_iconst dJ34_hasNext_11 rfl)), m_push⟩ (
  lkp_c (P := OkP 86) ⟨ok_iret rfl rfl (by decide) dJ34_hasNext_12, m_ret⟩ (
  trivial)))))))
theorem mt_86 : MtOK TB NT IT 86 := ⟨by decide +kernel, rfl, (fun h => by cases h), Or.inl ⟨rfl, rfl⟩, rfl, by decide, lk2_all (P := OkP 86) ⟨c_86_0, trivial⟩⟩
def dkwJ34_nextNode_4 : List UInt8 := [181, 0, 26, 198, 255, 229, 44, 176]
abbrev dktJ34_nextNode_4 : List UInt8 := dkwJ34_nextNode_4 ++ []
def dkwJ34_nextNode_3 : List UInt8 := [180, 0, 33, 43, 190, 162, 0, 24, 42, 43, 42, 89, 180, 0, 33, 90, 4, 96, 181, 0, 33, 50, 90]
abbrev dktJ34_nextNode_3 : List UInt8 := dkwJ34_nextNode_3 ++ dktJ34_nextNode_4
def dkwJ34_nextNode_2 : List UInt8 := [180, 0, 45, 90, 181, 0, 26, 199, 0, 45, 42, 180, 0, 1, 180, 0, 22, 89, 76, 198, 0, 33, 42]
abbrev dktJ34_nextNode_2 : List UInt8 := dkwJ34_nextNode_2 ++ dktJ34_nextNode_3
def dkwJ34_nextNode_1 : List UInt8 := [183, 0, 41, 191, 44, 199, 0, 11, 187, 0, 42, 89, 183, 0, 44, 191, 42, 42, 44, 90, 181, 0, 30]
abbrev dktJ34_nextNode_1 : List UInt8 := dkwJ34_nextNode_1 ++ dktJ34_nextNode_2
def dkwJ34_nextNode_0 : List UInt8 := [42, 180, 0, 26, 77, 42, 180, 0, 1, 180, 0, 13, 42, 180, 0, 19, 159, 0, 11, 187, 0, 39, 89]
abbrev dktJ34_nextNode_0 : List UInt8 := dkwJ34_nextNode_0 ++ dktJ34_nextNode_1
theorem dksJ34_nextNode_0 : cJ34_nextNode.data.toList.drop 0 = dktJ34_nextNode_0 := by decide +kernel
theorem dksJ34_nextNode_1 : cJ34_nextNode.data.toList.drop 23 = dktJ34_nextNode_1 := dk_seg dksJ34_nextNode_0 23 rfl rfl
theorem dksJ34_nextNode_2 : cJ34_nextNode.data.toList.drop 46 = dktJ34_nextNode_2 := dk_seg dksJ34_nextNode_1 23 rfl rfl
theorem dksJ34_nextNode_3 : cJ34_nextNode.data.toList.drop 69 = dktJ34_nextNode_3 := dk_seg dksJ34_nextNode_2 23 rfl rfl
theorem dksJ34_nextNode_4 : cJ34_nextNode.data.toList.drop 92 = dktJ34_nextNode_4 := dk_seg dksJ34_nextNode_3 23 rfl rfl
theorem dJ34_nextNode_0 : decode cJ34_nextNode 0 = .ok (.aload_n 0, 1) := dk_42 (dk_at dksJ34_nextNode_0 0 rfl rfl)
theorem dJ34_nextNode_1 : decode cJ34_nextNode 1 = .ok (.getfield 26, 3) := dk_180 0 26 (dk_at dksJ34_nextNode_0 1 rfl rfl)
theorem dJ34_nextNode_4 : decode cJ34_nextNode 4 = .ok (.astore_n 2, 1) := dk_77 (dk_at dksJ34_nextNode_0 4 rfl rfl)
theorem dJ34_nextNode_5 : decode cJ34_nextNode 5 = .ok (.aload_n 0, 1) := dk_42 (dk_at dksJ34_nextNode_0 5 rfl rfl)
theorem dJ34_nextNode_6 : decode cJ34_nextNode 6 = .ok (.getfield 1, 3) := dk_180 0 1 (dk_at dksJ34_nextNode_0 6 rfl rfl)
theorem dJ34_nextNode_9 : decode cJ34_nextNode 9 = .ok (.getfield 13, 3) := dk_180 0 13 (dk_at dksJ34_nextNode_0 9 rfl rfl)
theorem dJ34_nextNode_12 : decode cJ34_nextNode 12 = .ok (.aload_n 0, 1) := dk_42 (dk_at dksJ34_nextNode_0 12 rfl rfl)
theorem dJ34_nextNode_13 : decode cJ34_nextNode 13 = .ok (.getfield 19, 3) := dk_180 0 19 (dk_at dksJ34_nextNode_0 13 rfl rfl)
theorem dJ34_nextNode_16 : decode cJ34_nextNode 16 = .ok (.if_icmp .eq 11, 3) := dk_159 0 11 (dk_at dksJ34_nextNode_0 16 rfl rfl)
theorem dJ34_nextNode_22 : decode cJ34_nextNode 22 = .ok (.dup, 1) := dk_89 (dk_at dksJ34_nextNode_0 22 rfl rfl)
theorem dJ34_nextNode_27 : decode cJ34_nextNode 27 = .ok (.aload_n 2, 1) := dk_44 (dk_at dksJ34_nextNode_1 4 rfl rfl)
theorem dJ34_nextNode_28 : decode cJ34_nextNode 28 = .ok (.ifnonnull 11, 3) := dk_199 0 11 (dk_at dksJ34_nextNode_1 5 rfl rfl)
theorem dJ34_nextNode_34 : decode cJ34_nextNode 34 = .ok (.dup, 1) := dk_89 (dk_at dksJ34_nextNode_1 11 rfl rfl)
theorem dJ34_nextNode_39 : decode cJ34_nextNode 39 = .ok (.aload_n 0, 1) := dk_42 (dk_at dksJ34_nextNode_1 16 rfl rfl)
theorem dJ34_nextNode_40 : decode cJ34_nextNode 40 = .ok (.aload_n 0, 1) := dk_42 (dk_at dksJ34_nextNode_1 17 rfl rfl)
theorem dJ34_nextNode_41 : decode cJ34_nextNode 41 = .ok (.aload_n 2, 1) := dk_44 (dk_at dksJ34_nextNode_1 18 rfl rfl)
theorem dJ34_nextNode_42 : decode cJ34_nextNode 42 = .ok (.dup_x1, 1) := dk_90 (dk_at dksJ34_nextNode_1 19 rfl rfl)
theorem dJ34_nextNode_43 : decode cJ34_nextNode 43 = .ok (.putfield 30, 3) := dk_181 0 30 (dk_at dksJ34_nextNode_1 20 rfl rfl)
theorem dJ34_nextNode_46 : decode cJ34_nextNode 46 = .ok (.getfield 45, 3) := dk_180 0 45 (dk_at dksJ34_nextNode_2 0 rfl rfl)
theorem dJ34_nextNode_49 : decode cJ34_nextNode 49 = .ok (.dup_x1, 1) := dk_90 (dk_at dksJ34_nextNode_2 3 rfl rfl)
theorem dJ34_nextNode_50 : decode cJ34_nextNode 50 = .ok (.putfield 26, 3) := dk_181 0 26 (dk_at dksJ34_nextNode_2 4 rfl rfl)
theorem dJ34_nextNode_53 : decode cJ34_nextNode 53 = .ok (.ifnonnull 45, 3) := dk_199 0 45 (dk_at dksJ34_nextNode_2 7 rfl rfl)
theorem dJ34_nextNode_56 : decode cJ34_nextNode 56 = .ok (.aload_n 0, 1) := dk_42 (dk_at dksJ34_nextNode_2 10 rfl rfl)
theorem dJ34_nextNode_57 : decode cJ34_nextNode 57 = .ok (.getfield 1, 3) := dk_180 0 1 (dk_at dksJ34_nextNode_2 11 rfl rfl)
theorem dJ34_nextNode_60 : decode cJ34_nextNode 60 = .ok (.getfield 22, 3) := dk_180 0 22 (dk_at dksJ34_nextNode_2 14 rfl rfl)
theorem dJ34_nextNode_63 : decode cJ34_nextNode 63 = .ok (.dup, 1) := dk_89 (dk_at dksJ34_nextNode_2 17 rfl rfl)
theorem dJ34_nextNode_64 : decode cJ34_nextNode 64 = .ok (.astore_n 1, 1) := dk_76 (dk_at dksJ34_nextNode_2 18 rfl rfl)
theorem dJ34_nextNode_65 : decode cJ34_nextNode 65 = .ok (.ifnull 33, 3) := dk_198 0 33 (dk_at dksJ34_nextNode_2 19 rfl rfl)
theorem dJ34_nextNode_68 : decode cJ34_nextNode 68 = .ok (.aload_n 0, 1) := dk_42 (dk_at dksJ34_nextNode_2 22 rfl rfl)
theorem dJ34_nextNode_69 : decode cJ34_nextNode 69 = .ok (.getfield 33, 3) := dk_180 0 33 (dk_at dksJ34_nextNode_3 0 rfl rfl)
theorem dJ34_nextNode_72 : decode cJ34_nextNode 72 = .ok (.aload_n 1, 1) := dk_43 (dk_at dksJ34_nextNode_3 3 rfl rfl)
theorem dJ34_nextNode_73 : decode cJ34_nextNode 73 = .ok (.arraylength, 1) := dk_190 (dk_at dksJ34_nextNode_3 4 rfl rfl)
theorem dJ34_nextNode_74 : decode cJ34_nextNode 74 = .ok (.if_icmp .ge 24, 3) := dk_162 0 24 (dk_at dksJ34_nextNode_3 5 rfl rfl)
theorem dJ34_nextNode_77 : decode cJ34_nextNode 77 = .ok (.aload_n 0, 1) := dk_42 (dk_at dksJ34_nextNode_3 8 rfl rfl)
theorem dJ34_nextNode_78 : decode cJ34_nextNode 78 = .ok (.aload_n 1, 1) := dk_43 (dk_at dksJ34_nextNode_3 9 rfl rfl)
theorem dJ34_nextNode_79 : decode cJ34_nextNode 79 = .ok (.aload_n 0, 1) := dk_42 (dk_at dksJ34_nextNode_3 10 rfl rfl)
theorem dJ34_nextNode_80 : decode cJ34_nextNode 80 = .ok (.dup, 1) := dk_89 (dk_at dksJ34_nextNode_3 11 rfl rfl)
theorem dJ34_nextNode_81 : decode cJ34_nextNode 81 = .ok (.getfield 33, 3) := dk_180 0 33 (dk_at dksJ34_nextNode_3 12 rfl rfl)
theorem dJ34_nextNode_84 : decode cJ34_nextNode 84 = .ok (.dup_x1, 1) := dk_90 (dk_at dksJ34_nextNode_3 15 rfl rfl)
theorem dJ34_nextNode_85 : decode cJ34_nextNode 85 = .ok (.iconst 1, 1) := dk_4 (dk_at dksJ34_nextNode_3 16 rfl rfl)
theorem dJ34_nextNode_86 : decode cJ34_nextNode 86 = .ok (.iadd, 1) := dk_96 (dk_at dksJ34_nextNode_3 17 rfl rfl)
theorem dJ34_nextNode_87 : decode cJ34_nextNode 87 = .ok (.putfield 33, 3) := dk_181 0 33 (dk_at dksJ34_nextNode_3 18 rfl rfl)
theorem dJ34_nextNode_90 : decode cJ34_nextNode 90 = .ok (.aaload, 1) := dk_50 (dk_at dksJ34_nextNode_3 21 rfl rfl)
theorem dJ34_nextNode_91 : decode cJ34_nextNode 91 = .ok (.dup_x1, 1) := dk_90 (dk_at dksJ34_nextNode_3 22 rfl rfl)
theorem dJ34_nextNode_92 : decode cJ34_nextNode 92 = .ok (.putfield 26, 3) := dk_181 0 26 (dk_at dksJ34_nextNode_4 0 rfl rfl)
theorem dJ34_nextNode_95 : decode cJ34_nextNode 95 = .ok (.ifnull (-27), 3) := dk_198 255 229 (dk_at dksJ34_nextNode_4 3 rfl rfl)
theorem dJ34_nextNode_98 : decode cJ34_nextNode 98 = .ok (.aload_n 2, 1) := dk_44 (dk_at dksJ34_nextNode_4 6 rfl rfl)
theorem dJ34_nextNode_99 : decode cJ34_nextNode 99 = .ok (.areturn, 1) := dk_176 (dk_at dksJ34_nextNode_4 7 rfl rfl)
theorem c_87_0 : LkP (OkP 87) [(0, o_aload 0 1), (1, o_get 117), (4, o_astore 2 1), (5, o_aload 0 1), (6, o_get 121), (9, o_get 34), (12, o_aload 0 1), (13, o_get 119), (16, o_icmp (fun x y => decide (x = y)) 27), (22, o_dup), (27, o_aload 2 1), (28, o_ifnonnull 39), (34, o_dup), (39, o_aload 0 1), (40, o_aload 0 1), (41, o_aload 2 1), (42, o_dupx1), (43, o_put 118 0), (46, o_get 146), (49, o_dupx1), (50, o_put 117 0), (53, o_ifnonnull 98), (56, o_aload 0 1), (57, o_get 121), (60, o_get 31), (63, o_dup)] := lkp_c (P := OkP 87) ⟨(PuOK.ok (ok_aload_n dJ34_nextNode_0 rfl)), m_aload⟩ (
  lkp_c (P := OkP 87) ⟨ok_get ⟨"java/util/HashMap$HashIterator", q2395, Or.inl rfl⟩ dJ34_nextNode_1, m_get⟩ (
  lkp_c (P := OkP 87) ⟨(PuOK.ok (ok_astore_n dJ34_nextNode_4 rfl)), m_astore⟩ (
  lkp_c (P := OkP 87) ⟨(PuOK.ok (ok_aload_n dJ34_nextNode_5 rfl)), m_aload⟩ (
  lkp_c (P := OkP 87) ⟨ok_get ⟨"java/util/HashMap$HashIterator", q2399, Or.inl rfl⟩ dJ34_nextNode_6, m_get⟩ (
  lkp_c (P := OkP 87) ⟨ok_get ⟨"java/util/HashMap", q603, Or.inl rfl⟩ dJ34_nextNode_9, m_get⟩ (
  lkp_c (P := OkP 87) ⟨(PuOK.ok (ok_aload_n dJ34_nextNode_12 rfl)), m_aload⟩ (
  lkp_c (P := OkP 87) ⟨ok_get ⟨"java/util/HashMap$HashIterator", q2397, Or.inl rfl⟩ dJ34_nextNode_13, m_get⟩ (
  lkp_c (P := OkP 87) ⟨(PuOK.ok (ok_icmp_eq dJ34_nextNode_16 rfl)), m_icmp⟩ (
  lkp_c (P := OkP 87) ⟨(PuOK.ok (ok_dup dJ34_nextNode_22)), m_dup⟩ (
  lkp_c (P := OkP 87) ⟨(PuOK.ok (ok_aload_n dJ34_nextNode_27 rfl)), m_aload⟩ (
  lkp_c (P := OkP 87) ⟨(PuOK.ok (ok_ifnonnull dJ34_nextNode_28 rfl)), m_ifnonnull⟩ (
  lkp_c (P := OkP 87) ⟨(PuOK.ok (ok_dup dJ34_nextNode_34)), m_dup⟩ (
  lkp_c (P := OkP 87) ⟨(PuOK.ok (ok_aload_n dJ34_nextNode_39 rfl)), m_aload⟩ (
  lkp_c (P := OkP 87) ⟨(PuOK.ok (ok_aload_n dJ34_nextNode_40 rfl)), m_aload⟩ (
  lkp_c (P := OkP 87) ⟨(PuOK.ok (ok_aload_n dJ34_nextNode_41 rfl)), m_aload⟩ (
  lkp_c (P := OkP 87) ⟨(PuOK.ok (ok_dupx1 dJ34_nextNode_42)), m_dupx1⟩ (
  lkp_c (P := OkP 87) ⟨ok_put ⟨"java/util/HashMap$HashIterator", q2396, Or.inl rfl⟩ rfl fd_118 rfl dJ34_nextNode_43, m_put⟩ (
  lkp_c (P := OkP 87) ⟨ok_get ⟨"java/util/HashMap$Node", q2740, Or.inl rfl⟩ dJ34_nextNode_46, m_get⟩ (
  lkp_c (P := OkP 87) ⟨(PuOK.ok (ok_dupx1 dJ34_nextNode_49)), m_dupx1⟩ (
  lkp_c (P := OkP 87) ⟨ok_put ⟨"java/util/HashMap$HashIterator", q2395, Or.inl rfl⟩ rfl fd_117 rfl dJ34_nextNode_50, m_put⟩ (
  lkp_c (P := OkP 87) ⟨(PuOK.ok (ok_ifnonnull dJ34_nextNode_53 rfl)), m_ifnonnull⟩ (
  lkp_c (P := OkP 87) ⟨(PuOK.ok (ok_aload_n dJ34_nextNode_56 rfl)), m_aload⟩ (
  lkp_c (P := OkP 87) ⟨ok_get ⟨"java/util/HashMap$HashIterator", q2399, Or.inl rfl⟩ dJ34_nextNode_57, m_get⟩ (
  lkp_c (P := OkP 87) ⟨ok_get ⟨"java/util/HashMap", q598, Or.inl rfl⟩ dJ34_nextNode_60, m_get⟩ (
  lkp_c (P := OkP 87) ⟨(PuOK.ok (ok_dup dJ34_nextNode_63)), m_dup⟩ (
  trivial))))))))))))))))))))))))))
theorem c_87_1 : LkP (OkP 87) [(64, o_astore 1 1), (65, o_ifnull 98), (68, o_aload 0 1), (69, o_get 120), (72, o_aload 1 1), (73, o_alen), (74, o_icmp (fun x y => decide (y ≤ x)) 98), (77, o_aload 0 1), (78, o_aload 1 1), (79, o_aload 0 1), (80, o_dup), (81, o_get 120), (84, o_dupx1), (85, o_push 1 (.int 1)), (86, o_iop (fun x y => x + y)), (87, o_put 120 1), (90, o_rdQ), (91, o_dupx1), (92, o_put 117 0), (95, o_ifnull 68), (98, o_aload 2 1), (99, o_ret 0)] := lkp_c (P := OkP 87) ⟨(PuOK.ok (ok_astore_n dJ34_nextNode_64 rfl)), m_astore⟩ (
  lkp_c (P := OkP 87) ⟨(PuOK.ok (ok_ifnull dJ34_nextNode_65 rfl)), m_ifnull⟩ (
  lkp_c (P := OkP 87) ⟨(PuOK.ok (ok_aload_n dJ34_nextNode_68 rfl)), m_aload⟩ (
  lkp_c (P := OkP 87) ⟨ok_get ⟨"java/util/HashMap$HashIterator", q2398, Or.inl rfl⟩ dJ34_nextNode_69, m_get⟩ (
  lkp_c (P := OkP 87) ⟨(PuOK.ok (ok_aload_n dJ34_nextNode_72 rfl)), m_aload⟩ (
  lkp_c (P := OkP 87) ⟨ok_alen dJ34_nextNode_73, m_alen⟩ (
  lkp_c (P := OkP 87) ⟨(PuOK.ok (ok_icmp_ge dJ34_nextNode_74 rfl)), m_icmp⟩ (
  lkp_c (P := OkP 87) ⟨(PuOK.ok (ok_aload_n dJ34_nextNode_77 rfl)), m_aload⟩ (
  lkp_c (P := OkP 87) ⟨(PuOK.ok (ok_aload_n dJ34_nextNode_78 rfl)), m_aload⟩ (
  lkp_c (P := OkP 87) ⟨(PuOK.ok (ok_aload_n dJ34_nextNode_79 rfl)), m_aload⟩ (
  lkp_c (P := OkP 87) ⟨(PuOK.ok (ok_dup dJ34_nextNode_80)), m_dup⟩ (
  lkp_c (P := OkP 87) ⟨ok_get ⟨"java/util/HashMap$HashIterator", q2398, Or.inl rfl⟩ dJ34_nextNode_81, m_get⟩ (
  lkp_c (P := OkP 87) ⟨(PuOK.ok (ok_dupx1 dJ34_nextNode_84)), m_dupx1⟩ (
  lkp_c (P := OkP 87) ⟨(PuOK.ok (ok_iconst dJ34_nextNode_85 rfl)), m_push⟩ (
  lkp_c (P := OkP 87) ⟨(PuOK.ok (ok_iadd dJ34_nextNode_86)), m_iop⟩ (
  lkp_c (P := OkP 87) ⟨ok_put ⟨"java/util/HashMap$HashIterator", q2398, Or.inl rfl⟩ rfl fd_120 rfl dJ34_nextNode_87, m_put⟩ (
  lkp_c (P := OkP 87) ⟨ok_aald dJ34_nextNode_90, m_rdQ⟩ (
  lkp_c (P := OkP 87) ⟨(PuOK.ok (ok_dupx1 dJ34_nextNode_91)), m_dupx1⟩ (
  lkp_c (P := OkP 87) ⟨ok_put ⟨"java/util/HashMap$HashIterator", q2395, Or.inl rfl⟩ rfl fd_117 rfl dJ34_nextNode_92, m_put⟩ (
  lkp_c (P := OkP 87) ⟨(PuOK.ok (ok_ifnull dJ34_nextNode_95 rfl)), m_ifnull⟩ (
  lkp_c (P := OkP 87) ⟨(PuOK.ok (ok_aload_n dJ34_nextNode_98 rfl)), m_aload⟩ (
  lkp_c (P := OkP 87) ⟨ok_aret rfl (Or.inl ⟨_, rfl⟩) dJ34_nextNode_99, m_ret⟩ (
  trivial))))))))))))))))))))))
theorem mt_87 : MtOK TB NT IT 87 := ⟨by decide +kernel, rfl, (fun h => by cases h), Or.inl ⟨rfl, rfl⟩, rfl, by decide, lk2_all (P := OkP 87) ⟨c_87_0, c_87_1, trivial⟩⟩
def dkwJ34_init_3 : List UInt8 := [181, 0, 26, 198, 255, 229, 177]
abbrev dktJ34_init_3 : List UInt8 := dkwJ34_init_3 ++ []
def dkwJ34_init_2 : List UInt8 := [42, 180, 0, 33, 44, 190, 162, 0, 24, 42, 44, 42, 89, 180, 0, 33, 90, 4, 96, 181, 0, 33, 50, 90]
abbrev dktJ34_init_2 : List UInt8 := dkwJ34_init_2 ++ dktJ34_init_3
def dkwJ34_init_1 : List UInt8 := [1, 90, 181, 0, 26, 181, 0, 30, 42, 3, 181, 0, 33, 44, 198, 0, 40, 43, 180, 0, 36, 158, 0, 33]
abbrev dktJ34_init_1 : List UInt8 := dkwJ34_init_1 ++ dktJ34_init_2
def dkwJ34_init_0 : List UInt8 := [42, 43, 181, 0, 1, 42, 183, 0, 7, 42, 43, 180, 0, 13, 181, 0, 19, 43, 180, 0, 22, 77, 42, 42]
abbrev dktJ34_init_0 : List UInt8 := dkwJ34_init_0 ++ dktJ34_init_1
theorem dksJ34_init_0 : cJ34_init.data.toList.drop 0 = dktJ34_init_0 := by decide +kernel
theorem dksJ34_init_1 : cJ34_init.data.toList.drop 24 = dktJ34_init_1 := dk_seg dksJ34_init_0 24 rfl rfl
theorem dksJ34_init_2 : cJ34_init.data.toList.drop 48 = dktJ34_init_2 := dk_seg dksJ34_init_1 24 rfl rfl
theorem dksJ34_init_3 : cJ34_init.data.toList.drop 72 = dktJ34_init_3 := dk_seg dksJ34_init_2 24 rfl rfl
theorem dJ34_init_0 : decode cJ34_init 0 = .ok (.aload_n 0, 1) := dk_42 (dk_at dksJ34_init_0 0 rfl rfl)
theorem dJ34_init_1 : decode cJ34_init 1 = .ok (.aload_n 1, 1) := dk_43 (dk_at dksJ34_init_0 1 rfl rfl)
theorem dJ34_init_2 : decode cJ34_init 2 = .ok (.putfield 1, 3) := dk_181 0 1 (dk_at dksJ34_init_0 2 rfl rfl)
theorem dJ34_init_5 : decode cJ34_init 5 = .ok (.aload_n 0, 1) := dk_42 (dk_at dksJ34_init_0 5 rfl rfl)
theorem dJ34_init_6 : decode cJ34_init 6 = .ok (.invokespecial 7, 3) := dk_183 0 7 (dk_at dksJ34_init_0 6 rfl rfl)
theorem dJ34_init_9 : decode cJ34_init 9 = .ok (.aload_n 0, 1) := dk_42 (dk_at dksJ34_init_0 9 rfl rfl)
theorem dJ34_init_10 : decode cJ34_init 10 = .ok (.aload_n 1, 1) := dk_43 (dk_at dksJ34_init_0 10 rfl rfl)
theorem dJ34_init_11 : decode cJ34_init 11 = .ok (.getfield 13, 3) := dk_180 0 13 (dk_at dksJ34_init_0 11 rfl rfl)
theorem dJ34_init_14 : decode cJ34_init 14 = .ok (.putfield 19, 3) := dk_181 0 19 (dk_at dksJ34_init_0 14 rfl rfl)
theorem dJ34_init_17 : decode cJ34_init 17 = .ok (.aload_n 1, 1) := dk_43 (dk_at dksJ34_init_0 17 rfl rfl)
theorem dJ34_init_18 : decode cJ34_init 18 = .ok (.getfield 22, 3) := dk_180 0 22 (dk_at dksJ34_init_0 18 rfl rfl)
theorem dJ34_init_21 : decode cJ34_init 21 = .ok (.astore_n 2, 1) := dk_77 (dk_at dksJ34_init_0 21 rfl rfl)
theorem dJ34_init_22 : decode cJ34_init 22 = .ok (.aload_n 0, 1) := dk_42 (dk_at dksJ34_init_0 22 rfl rfl)
theorem dJ34_init_23 : decode cJ34_init 23 = .ok (.aload_n 0, 1) := dk_42 (dk_at dksJ34_init_0 23 rfl rfl)
theorem dJ34_init_24 : decode cJ34_init 24 = .ok (.aconst_null, 1) := dk_1 (dk_at dksJ34_init_1 0 rfl rfl)
theorem dJ34_init_25 : decode cJ34_init 25 = .ok (.dup_x1, 1) := dk_90 (dk_at dksJ34_init_1 1 rfl rfl)
theorem dJ34_init_26 : decode cJ34_init 26 = .ok (.putfield 26, 3) := dk_181 0 26 (dk_at dksJ34_init_1 2 rfl rfl)
theorem dJ34_init_29 : decode cJ34_init 29 = .ok (.putfield 30, 3) := dk_181 0 30 (dk_at dksJ34_init_1 5 rfl rfl)
theorem dJ34_init_32 : decode cJ34_init 32 = .ok (.aload_n 0, 1) := dk_42 (dk_at dksJ34_init_1 8 rfl rfl)
theorem dJ34_init_33 : decode cJ34_init 33 = .ok (.iconst 0, 1) := dk_3 (dk_at dksJ34_init_1 9 rfl rfl)
theorem dJ34_init_34 : decode cJ34_init 34 = .ok (.putfield 33, 3) := dk_181 0 33 (dk_at dksJ34_init_1 10 rfl rfl)
theorem dJ34_init_37 : decode cJ34_init 37 = .ok (.aload_n 2, 1) := dk_44 (dk_at dksJ34_init_1 13 rfl rfl)
theorem dJ34_init_38 : decode cJ34_init 38 = .ok (.ifnull 40, 3) := dk_198 0 40 (dk_at dksJ34_init_1 14 rfl rfl)
theorem dJ34_init_41 : decode cJ34_init 41 = .ok (.aload_n 1, 1) := dk_43 (dk_at dksJ34_init_1 17 rfl rfl)
theorem dJ34_init_42 : decode cJ34_init 42 = .ok (.getfield 36, 3) := dk_180 0 36 (dk_at dksJ34_init_1 18 rfl rfl)
theorem dJ34_init_45 : decode cJ34_init 45 = .ok (.ifCond .le 33, 3) := dk_158 0 33 (dk_at dksJ34_init_1 21 rfl rfl)
theorem dJ34_init_48 : decode cJ34_init 48 = .ok (.aload_n 0, 1) := dk_42 (dk_at dksJ34_init_2 0 rfl rfl)
theorem dJ34_init_49 : decode cJ34_init 49 = .ok (.getfield 33, 3) := dk_180 0 33 (dk_at dksJ34_init_2 1 rfl rfl)
theorem dJ34_init_52 : decode cJ34_init 52 = .ok (.aload_n 2, 1) := dk_44 (dk_at dksJ34_init_2 4 rfl rfl)
theorem dJ34_init_53 : decode cJ34_init 53 = .ok (.arraylength, 1) := dk_190 (dk_at dksJ34_init_2 5 rfl rfl)
theorem dJ34_init_54 : decode cJ34_init 54 = .ok (.if_icmp .ge 24, 3) := dk_162 0 24 (dk_at dksJ34_init_2 6 rfl rfl)
theorem dJ34_init_57 : decode cJ34_init 57 = .ok (.aload_n 0, 1) := dk_42 (dk_at dksJ34_init_2 9 rfl rfl)
theorem dJ34_init_58 : decode cJ34_init 58 = .ok (.aload_n 2, 1) := dk_44 (dk_at dksJ34_init_2 10 rfl rfl)
theorem dJ34_init_59 : decode cJ34_init 59 = .ok (.aload_n 0, 1) := dk_42 (dk_at dksJ34_init_2 11 rfl rfl)
theorem dJ34_init_60 : decode cJ34_init 60 = .ok (.dup, 1) := dk_89 (dk_at dksJ34_init_2 12 rfl rfl)
theorem dJ34_init_61 : decode cJ34_init 61 = .ok (.getfield 33, 3) := dk_180 0 33 (dk_at dksJ34_init_2 13 rfl rfl)
theorem dJ34_init_64 : decode cJ34_init 64 = .ok (.dup_x1, 1) := dk_90 (dk_at dksJ34_init_2 16 rfl rfl)
theorem dJ34_init_65 : decode cJ34_init 65 = .ok (.iconst 1, 1) := dk_4 (dk_at dksJ34_init_2 17 rfl rfl)
theorem dJ34_init_66 : decode cJ34_init 66 = .ok (.iadd, 1) := dk_96 (dk_at dksJ34_init_2 18 rfl rfl)
theorem dJ34_init_67 : decode cJ34_init 67 = .ok (.putfield 33, 3) := dk_181 0 33 (dk_at dksJ34_init_2 19 rfl rfl)
theorem dJ34_init_70 : decode cJ34_init 70 = .ok (.aaload, 1) := dk_50 (dk_at dksJ34_init_2 22 rfl rfl)
theorem dJ34_init_71 : decode cJ34_init 71 = .ok (.dup_x1, 1) := dk_90 (dk_at dksJ34_init_2 23 rfl rfl)
theorem dJ34_init_72 : decode cJ34_init 72 = .ok (.putfield 26, 3) := dk_181 0 26 (dk_at dksJ34_init_3 0 rfl rfl)
theorem dJ34_init_75 : decode cJ34_init 75 = .ok (.ifnull (-27), 3) := dk_198 255 229 (dk_at dksJ34_init_3 3 rfl rfl)
theorem dJ34_init_78 : decode cJ34_init 78 = .ok (.return_, 1) := dk_177 (dk_at dksJ34_init_3 6 rfl rfl)
theorem c_88_0 : LkP (OkP 88) [(0, o_aload 0 1), (1, o_aload 1 1), (2, o_put 121 0), (5, o_aload 0 1), (6, o_oi), (9, o_aload 0 1), (10, o_aload 1 1), (11, o_get 34), (14, o_put 119 1), (17, o_aload 1 1), (18, o_get 31), (21, o_astore 2 1), (22, o_aload 0 1), (23, o_aload 0 1), (24, o_push 1 .null), (25, o_dupx1), (26, o_put 117 0), (29, o_put 118 0), (32, o_aload 0 1), (33, o_push 1 (.int 0)), (34, o_put 120 1), (37, o_aload 2 1), (38, o_ifnull 78), (41, o_aload 1 1), (42, o_get 33), (45, o_if (fun x => decide (x ≤ 0)) 78), (48, o_aload 0 1), (49, o_get 120), (52, o_aload 2 1), (53, o_alen), (54, o_icmp (fun x y => decide (y ≤ x)) 78), (57, o_aload 0 1), (58, o_aload 2 1), (59, o_aload 0 1), (60, o_dup), (61, o_get 120)] := lkp_c (P := OkP 88) ⟨(PuOK.ok (ok_aload_n dJ34_init_0 rfl)), m_aload⟩ (
  lkp_c (P := OkP 88) ⟨(PuOK.ok (ok_aload_n dJ34_init_1 rfl)), m_aload⟩ (
  lkp_c (P := OkP 88) ⟨ok_putF q2399 rfl rfl rfl fd_121 rfl dJ34_init_2, m_put⟩ (
  lkp_c (P := OkP 88) ⟨(PuOK.ok (ok_aload_n dJ34_init_5 rfl)), m_aload⟩ (
  lkp_c (P := OkP 88) ⟨ok_oi q2394 q188 q_oi dJ34_init_6, m_oi⟩ (
  lkp_c (P := OkP 88) ⟨(PuOK.ok (ok_aload_n dJ34_init_9 rfl)), m_aload⟩ (
  lkp_c (P := OkP 88) ⟨(PuOK.ok (ok_aload_n dJ34_init_10 rfl)), m_aload⟩ (
  lkp_c (P := OkP 88) ⟨ok_get ⟨"java/util/HashMap", q603, Or.inl rfl⟩ dJ34_init_11, m_get⟩ (
  lkp_c (P := OkP 88) ⟨ok_put ⟨"java/util/HashMap$HashIterator", q2397, Or.inl rfl⟩ rfl fd_119 rfl dJ34_init_14, m_put⟩ (
  lkp_c (P := OkP 88) ⟨(PuOK.ok (ok_aload_n dJ34_init_17 rfl)), m_aload⟩ (
  lkp_c (P := OkP 88) ⟨ok_get ⟨"java/util/HashMap", q598, Or.inl rfl⟩ dJ34_init_18, m_get⟩ (
  lkp_c (P := OkP 88) ⟨(PuOK.ok (ok_astore_n dJ34_init_21 rfl)), m_astore⟩ (
  lkp_c (P := OkP 88) ⟨(PuOK.ok (ok_aload_n dJ34_init_22 rfl)), m_aload⟩ (
  lkp_c (P := OkP 88) ⟨(PuOK.ok (ok_aload_n dJ34_init_23 rfl)), m_aload⟩ (
  lkp_c (P := OkP 88) ⟨(PuOK.ok (ok_null dJ34_init_24)), m_push⟩ (
  lkp_c (P := OkP 88) ⟨(PuOK.ok (ok_dupx1 dJ34_init_25)), m_dupx1⟩ (
  lkp_c (P := OkP 88) ⟨ok_put ⟨"java/util/HashMap$HashIterator", q2395, Or.inl rfl⟩ rfl fd_117 rfl dJ34_init_26, m_put⟩ (
  lkp_c (P := OkP 88) ⟨ok_put ⟨"java/util/HashMap$HashIterator", q2396, Or.inl rfl⟩ rfl fd_118 rfl dJ34_init_29, m_put⟩ (
  lkp_c (P := OkP 88) ⟨(PuOK.ok (ok_aload_n dJ34_init_32 rfl)), m_aload⟩ (
  lkp_c (P := OkP 88) ⟨(PuOK.ok (ok_iconst dJ34_init_33 rfl)), m_push⟩ (
  lkp_c (P := OkP 88) ⟨ok_put ⟨"java/util/HashMap$HashIterator", q2398, Or.inl rfl⟩ rfl fd_120 rfl dJ34_init_34, m_put⟩ (
  lkp_c (P := OkP 88) ⟨(PuOK.ok (ok_aload_n dJ34_init_37 rfl)), m_aload⟩ (
  lkp_c (P := OkP 88) ⟨(PuOK.ok (ok_ifnull dJ34_init_38 rfl)), m_ifnull⟩ (
  lkp_c (P := OkP 88) ⟨(PuOK.ok (ok_aload_n dJ34_init_41 rfl)), m_aload⟩ (
  lkp_c (P := OkP 88) ⟨ok_get ⟨"java/util/HashMap", q601, Or.inl rfl⟩ dJ34_init_42, m_get⟩ (
  lkp_c (P := OkP 88) ⟨(PuOK.ok (ok_if_le dJ34_init_45 rfl)), m_if⟩ (
  lkp_c (P := OkP 88) ⟨(PuOK.ok (ok_aload_n dJ34_init_48 rfl)), m_aload⟩ (
  lkp_c (P := OkP 88) ⟨ok_get ⟨"java/util/HashMap$HashIterator", q2398, Or.inl rfl⟩ dJ34_init_49, m_get⟩ (
  lkp_c (P := OkP 88) ⟨(PuOK.ok (ok_aload_n dJ34_init_52 rfl)), m_aload⟩ (
  lkp_c (P := OkP 88) ⟨ok_alen dJ34_init_53, m_alen⟩ (
  lkp_c (P := OkP 88) ⟨(PuOK.ok (ok_icmp_ge dJ34_init_54 rfl)), m_icmp⟩ (
  lkp_c (P := OkP 88) ⟨(PuOK.ok (ok_aload_n dJ34_init_57 rfl)), m_aload⟩ (
  lkp_c (P := OkP 88) ⟨(PuOK.ok (ok_aload_n dJ34_init_58 rfl)), m_aload⟩ (
  lkp_c (P := OkP 88) ⟨(PuOK.ok (ok_aload_n dJ34_init_59 rfl)), m_aload⟩ (
  lkp_c (P := OkP 88) ⟨(PuOK.ok (ok_dup dJ34_init_60)), m_dup⟩ (
  lkp_c (P := OkP 88) ⟨ok_get ⟨"java/util/HashMap$HashIterator", q2398, Or.inl rfl⟩ dJ34_init_61, m_get⟩ (
  trivial))))))))))))))))))))))))))))))))))))
theorem c_88_1 : LkP (OkP 88) [(64, o_dupx1), (65, o_push 1 (.int 1)), (66, o_iop (fun x y => x + y)), (67, o_put 120 1), (70, o_rdQ), (71, o_dupx1), (72, o_put 117 0), (75, o_ifnull 48), (78, o_vret)] := lkp_c (P := OkP 88) ⟨(PuOK.ok (ok_dupx1 dJ34_init_64)), m_dupx1⟩ (
  lkp_c (P := OkP 88) ⟨(PuOK.ok (ok_iconst dJ34_init_65 rfl)), m_push⟩ (
  lkp_c (P := OkP 88) ⟨(PuOK.ok (ok_iadd dJ34_init_66)), m_iop⟩ (
  lkp_c (P := OkP 88) ⟨ok_put ⟨"java/util/HashMap$HashIterator", q2398, Or.inl rfl⟩ rfl fd_120 rfl dJ34_init_67, m_put⟩ (
  lkp_c (P := OkP 88) ⟨ok_aald dJ34_init_70, m_rdQ⟩ (
  lkp_c (P := OkP 88) ⟨(PuOK.ok (ok_dupx1 dJ34_init_71)), m_dupx1⟩ (
  lkp_c (P := OkP 88) ⟨ok_put ⟨"java/util/HashMap$HashIterator", q2395, Or.inl rfl⟩ rfl fd_117 rfl dJ34_init_72, m_put⟩ (
  lkp_c (P := OkP 88) ⟨(PuOK.ok (ok_ifnull dJ34_init_75 rfl)), m_ifnull⟩ (
  lkp_c (P := OkP 88) ⟨ok_vret rfl dJ34_init_78, m_vret⟩ (
  trivial)))))))))
theorem mt_88 : MtOK TB NT IT 88 := ⟨by decide +kernel, rfl, fun _ => rfl, Or.inl ⟨rfl, rfl⟩, rfl, by decide, lk2_all (P := OkP 88) ⟨c_88_0, c_88_1, trivial⟩⟩
theorem dJ35_next_0 : decode cJ35_next 0 = .ok (.aload_n 0, 1) := by decide +kernel
theorem dJ35_next_1 : decode cJ35_next 1 = .ok (.invokevirtual 13, 3) := by decide +kernel
theorem dJ35_next_4 : decode cJ35_next 4 = .ok (.areturn, 1) := by decide +kernel
theorem c_89_0 : LkP (OkP 89) [(0, o_aload 0 1), (1, o_cv [(24, 90)] 0 3 false none), (4, o_ret 0)] := lkp_c (P := OkP 89) ⟨(PuOK.ok (ok_aload_n dJ35_next_0 rfl)), m_aload⟩ (
  lkp_c (P := OkP 89) ⟨ok_cv (List.forall_mem_cons.mpr ⟨tg_V (ci := 24) (r := CLr 24) (y := 90) rfl ⟨rfl, by decide⟩ rfl q761 q762 q763 q169 q764 ⟨cn_26.1, cn_26.2, pd_45⟩ dJ35_next_1, (List.forall_mem_nil _)⟩) hd_no, m_cv⟩ (
  lkp_c (P := OkP 89) ⟨ok_aret rfl (Or.inl ⟨_, rfl⟩) dJ35_next_4, m_ret⟩ (
  trivial)))
theorem mt_89 : MtOK TB NT IT 89 := ⟨by decide +kernel, rfl, (fun h => by cases h), Or.inl ⟨rfl, rfl⟩, rfl, by decide, lk2_all (P := OkP 89) ⟨c_89_0, trivial⟩⟩
theorem dJ35_next_2_0 : decode cJ35_next_2 0 = .ok (.aload_n 0, 1) := by decide +kernel
theorem dJ35_next_2_1 : decode cJ35_next_2 1 = .ok (.invokevirtual 7, 3) := by decide +kernel
theorem dJ35_next_2_4 : decode cJ35_next_2 4 = .ok (.areturn, 1) := by decide +kernel
theorem c_90_0 : LkP (OkP 90) [(0, o_aload 0 1), (1, o_cv [(24, 87)] 0 3 false none), (4, o_ret 0)] := lkp_c (P := OkP 90) ⟨(PuOK.ok (ok_aload_n dJ35_next_2_0 rfl)), m_aload⟩ (
  lkp_c (P := OkP 90) ⟨ok_cv (List.forall_mem_cons.mpr ⟨tg_U (ci := 24) (r := CLr 24) (y := 87) rfl (owner := "java/util/HashMap$HashIterator") ⟨rfl, by decide⟩ q765 q766 q768 q769 q168 q770 ⟨cn_27.1, cn_27.2, pd_46⟩ rfl dJ35_next_2_1, (List.forall_mem_nil _)⟩) hd_no, m_cv⟩ (
  lkp_c (P := OkP 90) ⟨ok_aret rfl (Or.inl ⟨_, rfl⟩) dJ35_next_2_4, m_ret⟩ (
  trivial)))
theorem mt_90 : MtOK TB NT IT 90 := ⟨by decide +kernel, rfl, (fun h => by cases h), Or.inl ⟨rfl, rfl⟩, rfl, by decide, lk2_all (P := OkP 90) ⟨c_90_0, trivial⟩⟩
def dkwJ35_init_0 : List UInt8 := [42, 43, 183, 0, 1, 177]
abbrev dktJ35_init_0 : List UInt8 := dkwJ35_init_0 ++ []
theorem dksJ35_init_0 : cJ35_init.data.toList.drop 0 = dktJ35_init_0 := by decide +kernel
theorem dJ35_init_0 : decode cJ35_init 0 = .ok (.aload_n 0, 1) := dk_42 (dk_at dksJ35_init_0 0 rfl rfl)
theorem dJ35_init_1 : decode cJ35_init 1 = .ok (.aload_n 1, 1) := dk_43 (dk_at dksJ35_init_0 1 rfl rfl)
theorem dJ35_init_2 : decode cJ35_init 2 = .ok (.invokespecial 1, 3) := dk_183 0 1 (dk_at dksJ35_init_0 2 rfl rfl)
theorem dJ35_init_5 : decode cJ35_init 5 = .ok (.return_, 1) := dk_177 (dk_at dksJ35_init_0 5 rfl rfl)
theorem c_91_0 : LkP (OkP 91) [(0, o_aload 0 1), (1, o_aload 1 1), (2, o_ci 88 1), (5, o_vret)] := lkp_c (P := OkP 91) ⟨(PuOK.ok (ok_aload_n dJ35_init_0 rfl)), m_aload⟩ (
  lkp_c (P := OkP 91) ⟨(PuOK.ok (ok_aload_n dJ35_init_1 rfl)), m_aload⟩ (
  lkp_c (P := OkP 91) ⟨ok_ci (tg_I (rt := none) ⟨rfl, by decide⟩ rfl q2391 q2392 q168 q2393 ⟨cn_27.1, cn_27.2, pd_20⟩ dJ35_init_2) hd_no, m_ci⟩ (
  lkp_c (P := OkP 91) ⟨ok_vret rfl dJ35_init_5, m_vret⟩ (
  trivial))))
theorem mt_91 : MtOK TB NT IT 91 := ⟨by decide +kernel, rfl, fun _ => rfl, Or.inl ⟨rfl, rfl⟩, rfl, by decide, lk2_all (P := OkP 91) ⟨c_91_0, trivial⟩⟩
def dkwJ37_hasNext_0 : List UInt8 := [42, 180, 0, 26, 198, 0, 7, 4, 167, 0, 4, 3, 172]
abbrev dktJ37_hasNext_0 : List UInt8 := dkwJ37_hasNext_0 ++ []
theorem dksJ37_hasNext_0 : cJ37_hasNext.data.toList.drop 0 = dktJ37_hasNext_0 := by decide +kernel
theorem dJ37_hasNext_0 : decode cJ37_hasNext 0 = .ok (.aload_n 0, 1) := dk_42 (dk_at dksJ37_hasNext_0 0 rfl rfl)
theorem dJ37_hasNext_1 : decode cJ37_hasNext 1 = .ok (.getfield 26, 3) := dk_180 0 26 (dk_at dksJ37_hasNext_0 1 rfl rfl)
theorem dJ37_hasNext_4 : decode cJ37_hasNext 4 = .ok (.ifnull 7, 3) := dk_198 0 7 (dk_at dksJ37_hasNext_0 4 rfl rfl)
theorem dJ37_hasNext_7 : decode cJ37_hasNext 7 = .ok (.iconst 1, 1) := dk_4 (dk_at dksJ37_hasNext_0 7 rfl rfl)
theorem dJ37_hasNext_8 : decode cJ37_hasNext 8 = .ok (.goto 4, 3) := dk_167 0 4 (dk_at dksJ37_hasNext_0 8 rfl rfl)
theorem dJ37_hasNext_11 : decode cJ37_hasNext 11 = .ok (.iconst 0, 1) := dk_3 (dk_at dksJ37_hasNext_0 11 rfl rfl)
theorem dJ37_hasNext_12 : decode cJ37_hasNext 12 = .ok (.ireturn, 1) := dk_172 (dk_at dksJ37_hasNext_0 12 rfl rfl)
theorem c_92_0 : LkP (OkP 92) [(0, o_aload 0 1), (1, o_get 122), (4, o_ifnull 11), (7, o_push 1 (.int 1)), (8, o_goto 12), (11, o_push 1 (.int 0)), (12, o_ret 5)] := lkp_c (P := OkP 92) ⟨(PuOK.ok (ok_aload_n dJ37_hasNext_0 rfl)), m_aload⟩ (
  lkp_c (P := OkP 92) ⟨ok_get ⟨"java/util/TreeMap$PrivateEntryIterator", q2461, Or.inl rfl⟩ dJ37_hasNext_1, m_get⟩ (
  lkp_c (P := OkP 92) ⟨(PuOK.ok (ok_ifnull dJ37_hasNext_4 rfl)), m_ifnull⟩ (
  lkp_c (P := OkP 92) ⟨(PuOK.ok (ok_iconst dJ37_hasNext_7 rfl)), m_push⟩ (
  lkp_c (P := OkP 92) ⟨(PuOK.ok (ok_goto dJ37_hasNext_8 rfl)), m_goto⟩ (
  lkp_c (P := OkP 92) ⟨(PuOK.ok (ok_iconst dJ37_hasNext_11 rfl)), m_push⟩ (
  lkp_c (P := OkP 92) ⟨ok_iret rfl rfl (by decide) dJ37_hasNext_12, m_ret⟩ (
  trivial)))))))
theorem mt_92 : MtOK TB NT IT 92 := ⟨by decide +kernel, rfl, (fun h => by cases h), Or.inl ⟨rfl, rfl⟩, rfl, by decide, lk2_all (P := OkP 92) ⟨c_92_0, trivial⟩⟩
def dkwJ37_nextEntry_2 : List UInt8 := [43, 181, 0, 22, 43, 176]
abbrev dktJ37_nextEntry_2 : List UInt8 := dkwJ37_nextEntry_2 ++ []
def dkwJ37_nextEntry_1 : List UInt8 := [42, 180, 0, 19, 159, 0, 11, 187, 0, 32, 89, 183, 0, 34, 191, 42, 43, 184, 0, 35, 181, 0, 26, 42]
abbrev dktJ37_nextEntry_1 : List UInt8 := dkwJ37_nextEntry_1 ++ dktJ37_nextEntry_2
def dkwJ37_nextEntry_0 : List UInt8 := [42, 180, 0, 26, 76, 43, 199, 0, 11, 187, 0, 29, 89, 183, 0, 31, 191, 42, 180, 0, 1, 180, 0, 13]
abbrev dktJ37_nextEntry_0 : List UInt8 := dkwJ37_nextEntry_0 ++ dktJ37_nextEntry_1
theorem dksJ37_nextEntry_0 : cJ37_nextEntry.data.toList.drop 0 = dktJ37_nextEntry_0 := by decide +kernel
theorem dksJ37_nextEntry_1 : cJ37_nextEntry.data.toList.drop 24 = dktJ37_nextEntry_1 := dk_seg dksJ37_nextEntry_0 24 rfl rfl
theorem dksJ37_nextEntry_2 : cJ37_nextEntry.data.toList.drop 48 = dktJ37_nextEntry_2 := dk_seg dksJ37_nextEntry_1 24 rfl rfl
theorem dJ37_nextEntry_0 : decode cJ37_nextEntry 0 = .ok (.aload_n 0, 1) := dk_42 (dk_at dksJ37_nextEntry_0 0 rfl rfl)
theorem dJ37_nextEntry_1 : decode cJ37_nextEntry 1 = .ok (.getfield 26, 3) := dk_180 0 26 (dk_at dksJ37_nextEntry_0 1 rfl rfl)
theorem dJ37_nextEntry_4 : decode cJ37_nextEntry 4 = .ok (.astore_n 1, 1) := dk_76 (dk_at dksJ37_nextEntry_0 4 rfl rfl)
theorem dJ37_nextEntry_5 : decode cJ37_nextEntry 5 = .ok (.aload_n 1, 1) := dk_43 (dk_at dksJ37_nextEntry_0 5 rfl rfl)
theorem dJ37_nextEntry_6 : decode cJ37_nextEntry 6 = .ok (.ifnonnull 11, 3) := dk_199 0 11 (dk_at dksJ37_nextEntry_0 6 rfl rfl)
theorem dJ37_nextEntry_12 : decode cJ37_nextEntry 12 = .ok (.dup, 1) := dk_89 (dk_at dksJ37_nextEntry_0 12 rfl rfl)
theorem dJ37_nextEntry_17 : decode cJ37_nextEntry 17 = .ok (.aload_n 0, 1) := dk_42 (dk_at dksJ37_nextEntry_0 17 rfl rfl)
theorem dJ37_nextEntry_18 : decode cJ37_nextEntry 18 = .ok (.getfield 1, 3) := dk_180 0 1 (dk_at dksJ37_nextEntry_0 18 rfl rfl)
theorem dJ37_nextEntry_21 : decode cJ37_nextEntry 21 = .ok (.getfield 13, 3) := dk_180 0 13 (dk_at dksJ37_nextEntry_0 21 rfl rfl)
theorem dJ37_nextEntry_24 : decode cJ37_nextEntry 24 = .ok (.aload_n 0, 1) := dk_42 (dk_at dksJ37_nextEntry_1 0 rfl rfl)
theorem dJ37_nextEntry_25 : decode cJ37_nextEntry 25 = .ok (.getfield 19, 3) := dk_180 0 19 (dk_at dksJ37_nextEntry_1 1 rfl rfl)
theorem dJ37_nextEntry_28 : decode cJ37_nextEntry 28 = .ok (.if_icmp .eq 11, 3) := dk_159 0 11 (dk_at dksJ37_nextEntry_1 4 rfl rfl)
theorem dJ37_nextEntry_34 : decode cJ37_nextEntry 34 = .ok (.dup, 1) := dk_89 (dk_at dksJ37_nextEntry_1 10 rfl rfl)
theorem dJ37_nextEntry_39 : decode cJ37_nextEntry 39 = .ok (.aload_n 0, 1) := dk_42 (dk_at dksJ37_nextEntry_1 15 rfl rfl)
theorem dJ37_nextEntry_40 : decode cJ37_nextEntry 40 = .ok (.aload_n 1, 1) := dk_43 (dk_at dksJ37_nextEntry_1 16 rfl rfl)
theorem dJ37_nextEntry_41 : decode cJ37_nextEntry 41 = .ok (.invokestatic 35, 3) := dk_184 0 35 (dk_at dksJ37_nextEntry_1 17 rfl rfl)
theorem dJ37_nextEntry_44 : decode cJ37_nextEntry 44 = .ok (.putfield 26, 3) := dk_181 0 26 (dk_at dksJ37_nextEntry_1 20 rfl rfl)
theorem dJ37_nextEntry_47 : decode cJ37_nextEntry 47 = .ok (.aload_n 0, 1) := dk_42 (dk_at dksJ37_nextEntry_1 23 rfl rfl)
theorem dJ37_nextEntry_48 : decode cJ37_nextEntry 48 = .ok (.aload_n 1, 1) := dk_43 (dk_at dksJ37_nextEntry_2 0 rfl rfl)
theorem dJ37_nextEntry_49 : decode cJ37_nextEntry 49 = .ok (.putfield 22, 3) := dk_181 0 22 (dk_at dksJ37_nextEntry_2 1 rfl rfl)
theorem dJ37_nextEntry_52 : decode cJ37_nextEntry 52 = .ok (.aload_n 1, 1) := dk_43 (dk_at dksJ37_nextEntry_2 4 rfl rfl)
theorem dJ37_nextEntry_53 : decode cJ37_nextEntry 53 = .ok (.areturn, 1) := dk_176 (dk_at dksJ37_nextEntry_2 5 rfl rfl)
theorem c_93_0 : LkP (OkP 93) [(0, o_aload 0 1), (1, o_get 122), (4, o_astore 1 1), (5, o_aload 1 1), (6, o_ifnonnull 17), (12, o_dup), (17, o_aload 0 1), (18, o_get 125), (21, o_get 105), (24, o_aload 0 1), (25, o_get 124), (28, o_icmp (fun x y => decide (x = y)) 39), (34, o_dup), (39, o_aload 0 1), (40, o_aload 1 1), (41, o_cs 53 1 false none), (44, o_put 122 0), (47, o_aload 0 1), (48, o_aload 1 1), (49, o_put 123 0), (52, o_aload 1 1), (53, o_ret 0)] := lkp_c (P := OkP 93) ⟨(PuOK.ok (ok_aload_n dJ37_nextEntry_0 rfl)), m_aload⟩ (
  lkp_c (P := OkP 93) ⟨ok_get ⟨"java/util/TreeMap$PrivateEntryIterator", q2461, Or.inl rfl⟩ dJ37_nextEntry_1, m_get⟩ (
  lkp_c (P := OkP 93) ⟨(PuOK.ok (ok_astore_n dJ37_nextEntry_4 rfl)), m_astore⟩ (
  lkp_c (P := OkP 93) ⟨(PuOK.ok (ok_aload_n dJ37_nextEntry_5 rfl)), m_aload⟩ (
  lkp_c (P := OkP 93) ⟨(PuOK.ok (ok_ifnonnull dJ37_nextEntry_6 rfl)), m_ifnonnull⟩ (
  lkp_c (P := OkP 93) ⟨(PuOK.ok (ok_dup dJ37_nextEntry_12)), m_dup⟩ (
  lkp_c (P := OkP 93) ⟨(PuOK.ok (ok_aload_n dJ37_nextEntry_17 rfl)), m_aload⟩ (
  lkp_c (P := OkP 93) ⟨ok_get ⟨"java/util/TreeMap$PrivateEntryIterator", q2464, Or.inl rfl⟩ dJ37_nextEntry_18, m_get⟩ (
  lkp_c (P := OkP 93) ⟨ok_getN ⟨"java/util/TreeMap", "java/util/TreeMap", q2234, Or.inl rfl⟩ dJ37_nextEntry_21, m_get⟩ (
  lkp_c (P := OkP 93) ⟨(PuOK.ok (ok_aload_n dJ37_nextEntry_24 rfl)), m_aload⟩ (
  lkp_c (P := OkP 93) ⟨ok_get ⟨"java/util/TreeMap$PrivateEntryIterator", q2463, Or.inl rfl⟩ dJ37_nextEntry_25, m_get⟩ (
  lkp_c (P := OkP 93) ⟨(PuOK.ok (ok_icmp_eq dJ37_nextEntry_28 rfl)), m_icmp⟩ (
  lkp_c (P := OkP 93) ⟨(PuOK.ok (ok_dup dJ37_nextEntry_34)), m_dup⟩ (
  lkp_c (P := OkP 93) ⟨(PuOK.ok (ok_aload_n dJ37_nextEntry_39 rfl)), m_aload⟩ (
  lkp_c (P := OkP 93) ⟨(PuOK.ok (ok_aload_n dJ37_nextEntry_40 rfl)), m_aload⟩ (
  lkp_c (P := OkP 93) ⟨ok_cs (tg_S ⟨rfl, by decide⟩ q801 q802 q152 q803 ⟨cn_17.1, cn_17.2, pd_35⟩ dJ37_nextEntry_41) hd_no, m_cs⟩ (
  lkp_c (P := OkP 93) ⟨ok_put ⟨"java/util/TreeMap$PrivateEntryIterator", q2461, Or.inl rfl⟩ rfl fd_122 rfl dJ37_nextEntry_44, m_put⟩ (
  lkp_c (P := OkP 93) ⟨(PuOK.ok (ok_aload_n dJ37_nextEntry_47 rfl)), m_aload⟩ (
  lkp_c (P := OkP 93) ⟨(PuOK.ok (ok_aload_n dJ37_nextEntry_48 rfl)), m_aload⟩ (
  lkp_c (P := OkP 93) ⟨ok_put ⟨"java/util/TreeMap$PrivateEntryIterator", q2462, Or.inl rfl⟩ rfl fd_123 rfl dJ37_nextEntry_49, m_put⟩ (
  lkp_c (P := OkP 93) ⟨(PuOK.ok (ok_aload_n dJ37_nextEntry_52 rfl)), m_aload⟩ (
  lkp_c (P := OkP 93) ⟨ok_aret rfl (Or.inl ⟨_, rfl⟩) dJ37_nextEntry_53, m_ret⟩ (
  trivial))))))))))))))))))))))
theorem mt_93 : MtOK TB NT IT 93 := ⟨by decide +kernel, rfl, (fun h => by cases h), Or.inl ⟨rfl, rfl⟩, rfl, by decide, lk2_all (P := OkP 93) ⟨c_93_0, trivial⟩⟩
def dkwJ37_init_1 : List UInt8 := [181, 0, 26, 177]
abbrev dktJ37_init_1 : List UInt8 := dkwJ37_init_1 ++ []
def dkwJ37_init_0 : List UInt8 := [42, 43, 181, 0, 1, 42, 183, 0, 7, 42, 43, 180, 0, 13, 181, 0, 19, 42, 1, 181, 0, 22, 42, 44]
abbrev dktJ37_init_0 : List UInt8 := dkwJ37_init_0 ++ dktJ37_init_1
theorem dksJ37_init_0 : cJ37_init.data.toList.drop 0 = dktJ37_init_0 := by decide +kernel
theorem dksJ37_init_1 : cJ37_init.data.toList.drop 24 = dktJ37_init_1 := dk_seg dksJ37_init_0 24 rfl rfl
theorem dJ37_init_0 : decode cJ37_init 0 = .ok (.aload_n 0, 1) := dk_42 (dk_at dksJ37_init_0 0 rfl rfl)
theorem dJ37_init_1 : decode cJ37_init 1 = .ok (.aload_n 1, 1) := dk_43 (dk_at dksJ37_init_0 1 rfl rfl)
theorem dJ37_init_2 : decode cJ37_init 2 = .ok (.putfield 1, 3) := dk_181 0 1 (dk_at dksJ37_init_0 2 rfl rfl)
theorem dJ37_init_5 : decode cJ37_init 5 = .ok (.aload_n 0, 1) := dk_42 (dk_at dksJ37_init_0 5 rfl rfl)
theorem dJ37_init_6 : decode cJ37_init 6 = .ok (.invokespecial 7, 3) := dk_183 0 7 (dk_at dksJ37_init_0 6 rfl rfl)
theorem dJ37_init_9 : decode cJ37_init 9 = .ok (.aload_n 0, 1) := dk_42 (dk_at dksJ37_init_0 9 rfl rfl)
theorem dJ37_init_10 : decode cJ37_init 10 = .ok (.aload_n 1, 1) := dk_43 (dk_at dksJ37_init_0 10 rfl rfl)
theorem dJ37_init_11 : decode cJ37_init 11 = .ok (.getfield 13, 3) := dk_180 0 13 (dk_at dksJ37_init_0 11 rfl rfl)
theorem dJ37_init_14 : decode cJ37_init 14 = .ok (.putfield 19, 3) := dk_181 0 19 (dk_at dksJ37_init_0 14 rfl rfl)
theorem dJ37_init_17 : decode cJ37_init 17 = .ok (.aload_n 0, 1) := dk_42 (dk_at dksJ37_init_0 17 rfl rfl)
theorem dJ37_init_18 : decode cJ37_init 18 = .ok (.aconst_null, 1) := dk_1 (dk_at dksJ37_init_0 18 rfl rfl)
theorem dJ37_init_19 : decode cJ37_init 19 = .ok (.putfield 22, 3) := dk_181 0 22 (dk_at dksJ37_init_0 19 rfl rfl)
theorem dJ37_init_22 : decode cJ37_init 22 = .ok (.aload_n 0, 1) := dk_42 (dk_at dksJ37_init_0 22 rfl rfl)
theorem dJ37_init_23 : decode cJ37_init 23 = .ok (.aload_n 2, 1) := dk_44 (dk_at dksJ37_init_0 23 rfl rfl)
theorem dJ37_init_24 : decode cJ37_init 24 = .ok (.putfield 26, 3) := dk_181 0 26 (dk_at dksJ37_init_1 0 rfl rfl)
theorem dJ37_init_27 : decode cJ37_init 27 = .ok (.return_, 1) := dk_177 (dk_at dksJ37_init_1 3 rfl rfl)
theorem c_94_0 : LkP (OkP 94) [(0, o_aload 0 1), (1, o_aload 1 1), (2, o_put 125 0), (5, o_aload 0 1), (6, o_oi), (9, o_aload 0 1), (10, o_aload 1 1), (11, o_get 105), (14, o_put 124 1), (17, o_aload 0 1), (18, o_push 1 .null), (19, o_put 123 0), (22, o_aload 0 1), (23, o_aload 2 1), (24, o_put 122 0), (27, o_vret)] := lkp_c (P := OkP 94) ⟨(PuOK.ok (ok_aload_n dJ37_init_0 rfl)), m_aload⟩ (
  lkp_c (P := OkP 94) ⟨(PuOK.ok (ok_aload_n dJ37_init_1 rfl)), m_aload⟩ (
  lkp_c (P := OkP 94) ⟨ok_putF q2464 rfl rfl rfl fd_125 rfl dJ37_init_2, m_put⟩ (
  lkp_c (P := OkP 94) ⟨(PuOK.ok (ok_aload_n dJ37_init_5 rfl)), m_aload⟩ (
  lkp_c (P := OkP 94) ⟨ok_oi q2460 q188 q_oi dJ37_init_6, m_oi⟩ (
  lkp_c (P := OkP 94) ⟨(PuOK.ok (ok_aload_n dJ37_init_9 rfl)), m_aload⟩ (
  lkp_c (P := OkP 94) ⟨(PuOK.ok (ok_aload_n dJ37_init_10 rfl)), m_aload⟩ (
  lkp_c (P := OkP 94) ⟨ok_getN ⟨"java/util/TreeMap", "java/util/TreeMap", q2234, Or.inl rfl⟩ dJ37_init_11, m_get⟩ (
  lkp_c (P := OkP 94) ⟨ok_put ⟨"java/util/TreeMap$PrivateEntryIterator", q2463, Or.inl rfl⟩ rfl fd_124 rfl dJ37_init_14, m_put⟩ (
  lkp_c (P := OkP 94) ⟨(PuOK.ok (ok_aload_n dJ37_init_17 rfl)), m_aload⟩ (
  lkp_c (P := OkP 94) ⟨(PuOK.ok (ok_null dJ37_init_18)), m_push⟩ (
  lkp_c (P := OkP 94) ⟨ok_put ⟨"java/util/TreeMap$PrivateEntryIterator", q2462, Or.inl rfl⟩ rfl fd_123 rfl dJ37_init_19, m_put⟩ (
  lkp_c (P := OkP 94) ⟨(PuOK.ok (ok_aload_n dJ37_init_22 rfl)), m_aload⟩ (
  lkp_c (P := OkP 94) ⟨(PuOK.ok (ok_aload_n dJ37_init_23 rfl)), m_aload⟩ (
  lkp_c (P := OkP 94) ⟨ok_put ⟨"java/util/TreeMap$PrivateEntryIterator", q2461, Or.inl rfl⟩ rfl fd_122 rfl dJ37_init_24, m_put⟩ (
  lkp_c (P := OkP 94) ⟨ok_vret rfl dJ37_init_27, m_vret⟩ (
  trivial))))))))))))))))
theorem mt_94 : MtOK TB NT IT 94 := ⟨by decide +kernel, rfl, fun _ => rfl, Or.inl ⟨rfl, rfl⟩, rfl, by decide, lk2_all (P := OkP 94) ⟨c_94_0, trivial⟩⟩
def dkwJ38_next_0 : List UInt8 := [42, 182, 0, 7, 180, 0, 13, 176]
abbrev dktJ38_next_0 : List UInt8 := dkwJ38_next_0 ++ []
theorem dksJ38_next_0 : cJ38_next.data.toList.drop 0 = dktJ38_next_0 := by decide +kernel
theorem dJ38_next_0 : decode cJ38_next 0 = .ok (.aload_n 0, 1) := dk_42 (dk_at dksJ38_next_0 0 rfl rfl)
theorem dJ38_next_1 : decode cJ38_next 1 = .ok (.invokevirtual 7, 3) := dk_182 0 7 (dk_at dksJ38_next_0 1 rfl rfl)
theorem dJ38_next_4 : decode cJ38_next 4 = .ok (.getfield 13, 3) := dk_180 0 13 (dk_at dksJ38_next_0 4 rfl rfl)
theorem dJ38_next_7 : decode cJ38_next 7 = .ok (.areturn, 1) := dk_176 (dk_at dksJ38_next_0 7 rfl rfl)
theorem c_95_0 : LkP (OkP 95) [(0, o_aload 0 1), (1, o_cv [(25, 93)] 0 3 false none), (4, o_get 111), (7, o_ret 0)] := lkp_c (P := OkP 95) ⟨(PuOK.ok (ok_aload_n dJ38_next_0 rfl)), m_aload⟩ (
  lkp_c (P := OkP 95) ⟨ok_cv (List.forall_mem_cons.mpr ⟨tg_U (ci := 25) (r := CLr 25) (y := 93) rfl (owner := "java/util/TreeMap$PrivateEntryIterator") ⟨rfl, by decide⟩ q795 q796 q798 q799 q171 q800 ⟨cn_28.1, cn_28.2, pd_43⟩ rfl dJ38_next_1, (List.forall_mem_nil _)⟩) hd_no, m_cv⟩ (
  lkp_c (P := OkP 95) ⟨ok_get ⟨"java/util/TreeMap$Entry", q2301, Or.inl rfl⟩ dJ38_next_4, m_get⟩ (
  lkp_c (P := OkP 95) ⟨ok_aret rfl (Or.inl ⟨_, rfl⟩) dJ38_next_7, m_ret⟩ (
  trivial))))
theorem mt_95 : MtOK TB NT IT 95 := ⟨by decide +kernel, rfl, (fun h => by cases h), Or.inl ⟨rfl, rfl⟩, rfl, by decide, lk2_all (P := OkP 95) ⟨c_95_0, trivial⟩⟩
def dkwJ38_init_0 : List UInt8 := [42, 43, 44, 183, 0, 1, 177]
abbrev dktJ38_init_0 : List UInt8 := dkwJ38_init_0 ++ []
theorem dksJ38_init_0 : cJ38_init.data.toList.drop 0 = dktJ38_init_0 := by decide +kernel
theorem dJ38_init_0 : decode cJ38_init 0 = .ok (.aload_n 0, 1) := dk_42 (dk_at dksJ38_init_0 0 rfl rfl)
theorem dJ38_init_1 : decode cJ38_init 1 = .ok (.aload_n 1, 1) := dk_43 (dk_at dksJ38_init_0 1 rfl rfl)
theorem dJ38_init_2 : decode cJ38_init 2 = .ok (.aload_n 2, 1) := dk_44 (dk_at dksJ38_init_0 2 rfl rfl)
theorem dJ38_init_3 : decode cJ38_init 3 = .ok (.invokespecial 1, 3) := dk_183 0 1 (dk_at dksJ38_init_0 3 rfl rfl)
theorem dJ38_init_6 : decode cJ38_init 6 = .ok (.return_, 1) := dk_177 (dk_at dksJ38_init_0 6 rfl rfl)
theorem c_96_0 : LkP (OkP 96) [(0, o_aload 0 1), (1, o_aload 1 1), (2, o_aload 2 1), (3, o_ci 94 2), (6, o_vret)] := lkp_c (P := OkP 96) ⟨(PuOK.ok (ok_aload_n dJ38_init_0 rfl)), m_aload⟩ (
  lkp_c (P := OkP 96) ⟨(PuOK.ok (ok_aload_n dJ38_init_1 rfl)), m_aload⟩ (
  lkp_c (P := OkP 96) ⟨(PuOK.ok (ok_aload_n dJ38_init_2 rfl)), m_aload⟩ (
  lkp_c (P := OkP 96) ⟨ok_ci (tg_I (rt := none) ⟨rfl, by decide⟩ rfl q2457 q2458 q171 q2459 ⟨cn_28.1, cn_28.2, pd_44⟩ dJ38_init_3) hd_no, m_ci⟩ (
  lkp_c (P := OkP 96) ⟨ok_vret rfl dJ38_init_6, m_vret⟩ (
  trivial)))))
theorem mt_96 : MtOK TB NT IT 96 := ⟨by decide +kernel, rfl, fun _ => rfl, Or.inl ⟨rfl, rfl⟩, rfl, by decide, lk2_all (P := OkP 96) ⟨c_96_0, trivial⟩⟩
def dkwJ39_init_1 : List UInt8 := [181, 0, 20, 177]
abbrev dktJ39_init_1 : List UInt8 := dkwJ39_init_1 ++ []
def dkwJ39_init_0 : List UInt8 := [42, 183, 0, 1, 42, 27, 181, 0, 7, 42, 44, 181, 0, 13, 42, 45, 181, 0, 17, 42, 25, 4]
abbrev dktJ39_init_0 : List UInt8 := dkwJ39_init_0 ++ dktJ39_init_1
theorem dksJ39_init_0 : cJ39_init.data.toList.drop 0 = dktJ39_init_0 := by decide +kernel
theorem dksJ39_init_1 : cJ39_init.data.toList.drop 22 = dktJ39_init_1 := dk_seg dksJ39_init_0 22 rfl rfl
theorem dJ39_init_0 : decode cJ39_init 0 = .ok (.aload_n 0, 1) := dk_42 (dk_at dksJ39_init_0 0 rfl rfl)
theorem dJ39_init_1 : decode cJ39_init 1 = .ok (.invokespecial 1, 3) := dk_183 0 1 (dk_at dksJ39_init_0 1 rfl rfl)
theorem dJ39_init_4 : decode cJ39_init 4 = .ok (.aload_n 0, 1) := dk_42 (dk_at dksJ39_init_0 4 rfl rfl)
theorem dJ39_init_5 : decode cJ39_init 5 = .ok (.iload_n 1, 1) := dk_27 (dk_at dksJ39_init_0 5 rfl rfl)
theorem dJ39_init_6 : decode cJ39_init 6 = .ok (.putfield 7, 3) := dk_181 0 7 (dk_at dksJ39_init_0 6 rfl rfl)
theorem dJ39_init_9 : decode cJ39_init 9 = .ok (.aload_n 0, 1) := dk_42 (dk_at dksJ39_init_0 9 rfl rfl)
theorem dJ39_init_10 : decode cJ39_init 10 = .ok (.aload_n 2, 1) := dk_44 (dk_at dksJ39_init_0 10 rfl rfl)
theorem dJ39_init_11 : decode cJ39_init 11 = .ok (.putfield 13, 3) := dk_181 0 13 (dk_at dksJ39_init_0 11 rfl rfl)
theorem dJ39_init_14 : decode cJ39_init 14 = .ok (.aload_n 0, 1) := dk_42 (dk_at dksJ39_init_0 14 rfl rfl)
theorem dJ39_init_15 : decode cJ39_init 15 = .ok (.aload_n 3, 1) := dk_45 (dk_at dksJ39_init_0 15 rfl rfl)
theorem dJ39_init_16 : decode cJ39_init 16 = .ok (.putfield 17, 3) := dk_181 0 17 (dk_at dksJ39_init_0 16 rfl rfl)
theorem dJ39_init_19 : decode cJ39_init 19 = .ok (.aload_n 0, 1) := dk_42 (dk_at dksJ39_init_0 19 rfl rfl)
theorem dJ39_init_20 : decode cJ39_init 20 = .ok (.aload 4, 2) := dk_25 4 (dk_at dksJ39_init_0 20 rfl rfl)
theorem dJ39_init_22 : decode cJ39_init 22 = .ok (.putfield 20, 3) := dk_181 0 20 (dk_at dksJ39_init_1 0 rfl rfl)
theorem dJ39_init_25 : decode cJ39_init 25 = .ok (.return_, 1) := dk_177 (dk_at dksJ39_init_1 3 rfl rfl)
theorem c_97_0 : LkP (OkP 97) [(0, o_aload 0 1), (1, o_oi), (4, o_aload 0 1), (5, o_iload 1 1), (6, o_put 143 1), (9, o_aload 0 1), (10, o_aload 2 1), (11, o_put 144 0), (14, o_aload 0 1), (15, o_aload 3 1), (16, o_put 145 0), (19, o_aload 0 1), (20, o_aload 4 2), (22, o_put 146 0), (25, o_vret)] := lkp_c (P := OkP 97) ⟨(PuOK.ok (ok_aload_n dJ39_init_0 rfl)), m_aload⟩ (
  lkp_c (P := OkP 97) ⟨ok_oi q2728 q188 q_oi dJ39_init_1, m_oi⟩ (
  lkp_c (P := OkP 97) ⟨(PuOK.ok (ok_aload_n dJ39_init_4 rfl)), m_aload⟩ (
  lkp_c (P := OkP 97) ⟨(PuOK.ok (ok_iload_n dJ39_init_5 rfl)), m_iload⟩ (
  lkp_c (P := OkP 97) ⟨ok_putF q2729 rfl rfl rfl fd_143 rfl dJ39_init_6, m_put⟩ (
  lkp_c (P := OkP 97) ⟨(PuOK.ok (ok_aload_n dJ39_init_9 rfl)), m_aload⟩ (
  lkp_c (P := OkP 97) ⟨(PuOK.ok (ok_aload_n dJ39_init_10 rfl)), m_aload⟩ (
  lkp_c (P := OkP 97) ⟨ok_putF q2733 rfl rfl rfl fd_144 rfl dJ39_init_11, m_put⟩ (
  lkp_c (P := OkP 97) ⟨(PuOK.ok (ok_aload_n dJ39_init_14 rfl)), m_aload⟩ (
  lkp_c (P := OkP 97) ⟨(PuOK.ok (ok_aload_n dJ39_init_15 rfl)), m_aload⟩ (
  lkp_c (P := OkP 97) ⟨ok_put ⟨"java/util/HashMap$Node", q2737, Or.inl rfl⟩ rfl fd_145 rfl dJ39_init_16, m_put⟩ (
  lkp_c (P := OkP 97) ⟨(PuOK.ok (ok_aload_n dJ39_init_19 rfl)), m_aload⟩ (
  lkp_c (P := OkP 97) ⟨(PuOK.ok (ok_aload dJ39_init_20)), m_aload⟩ (
  lkp_c (P := OkP 97) ⟨ok_put ⟨"java/util/HashMap$Node", q2739, Or.inl rfl⟩ rfl fd_146 rfl dJ39_init_22, m_put⟩ (
  lkp_c (P := OkP 97) ⟨ok_vret rfl dJ39_init_25, m_vret⟩ (
  trivial)))))))))))))))
theorem mt_97 : MtOK TB NT IT 97 := ⟨by decide +kernel, rfl, fun _ => rfl, Or.inl ⟨rfl, rfl⟩, rfl, by decide, lk2_all (P := OkP 97) ⟨c_97_0, trivial⟩⟩
theorem dJ39_getKey_0 : decode cJ39_getKey 0 = .ok (.aload_n 0, 1) := by decide +kernel
theorem dJ39_getKey_1 : decode cJ39_getKey 1 = .ok (.getfield 13, 3) := by decide +kernel
theorem dJ39_getKey_4 : decode cJ39_getKey 4 = .ok (.areturn, 1) := by decide +kernel
theorem c_98_0 : LkP (OkP 98) [(0, o_aload 0 1), (1, o_get 144), (4, o_ret 0)] := lkp_c (P := OkP 98) ⟨(PuOK.ok (ok_aload_n dJ39_getKey_0 rfl)), m_aload⟩ (
  lkp_c (P := OkP 98) ⟨ok_get ⟨"java/util/HashMap$Node", q2733, Or.inl rfl⟩ dJ39_getKey_1, m_get⟩ (
  lkp_c (P := OkP 98) ⟨ok_aret rfl (Or.inl ⟨_, rfl⟩) dJ39_getKey_4, m_ret⟩ (
  trivial)))
theorem mt_98 : MtOK TB NT IT 98 := ⟨by decide +kernel, rfl, (fun h => by cases h), Or.inl ⟨rfl, rfl⟩, rfl, by decide, lk2_all (P := OkP 98) ⟨c_98_0, trivial⟩⟩
theorem dJ39_getValue_0 : decode cJ39_getValue 0 = .ok (.aload_n 0, 1) := by decide +kernel
theorem dJ39_getValue_1 : decode cJ39_getValue 1 = .ok (.getfield 17, 3) := by decide +kernel
theorem dJ39_getValue_4 : decode cJ39_getValue 4 = .ok (.areturn, 1) := by decide +kernel
theorem c_99_0 : LkP (OkP 99) [(0, o_aload 0 1), (1, o_get 145), (4, o_ret 0)] := lkp_c (P := OkP 99) ⟨(PuOK.ok (ok_aload_n dJ39_getValue_0 rfl)), m_aload⟩ (
  lkp_c (P := OkP 99) ⟨ok_get ⟨"java/util/HashMap$Node", q2737, Or.inl rfl⟩ dJ39_getValue_1, m_get⟩ (
  lkp_c (P := OkP 99) ⟨ok_aret rfl (Or.inl ⟨_, rfl⟩) dJ39_getValue_4, m_ret⟩ (
  trivial)))
theorem mt_99 : MtOK TB NT IT 99 := ⟨by decide +kernel, rfl, (fun h => by cases h), Or.inl ⟨rfl, rfl⟩, rfl, by decide, lk2_all (P := OkP 99) ⟨c_99_0, trivial⟩⟩
def dkwJ4_init_2_0 : List UInt8 := [42, 43, 44, 29, 21, 4, 183, 0, 16, 177]
abbrev dktJ4_init_2_0 : List UInt8 := dkwJ4_init_2_0 ++ []
theorem dksJ4_init_2_0 : cJ4_init_2.data.toList.drop 0 = dktJ4_init_2_0 := by decide +kernel
theorem dJ4_init_2_0 : decode cJ4_init_2 0 = .ok (.aload_n 0, 1) := dk_42 (dk_at dksJ4_init_2_0 0 rfl rfl)
theorem dJ4_init_2_1 : decode cJ4_init_2 1 = .ok (.aload_n 1, 1) := dk_43 (dk_at dksJ4_init_2_0 1 rfl rfl)
theorem dJ4_init_2_2 : decode cJ4_init_2 2 = .ok (.aload_n 2, 1) := dk_44 (dk_at dksJ4_init_2_0 2 rfl rfl)
theorem dJ4_init_2_3 : decode cJ4_init_2 3 = .ok (.iload_n 3, 1) := dk_29 (dk_at dksJ4_init_2_0 3 rfl rfl)
theorem dJ4_init_2_4 : decode cJ4_init_2 4 = .ok (.iload 4, 2) := dk_21 4 (dk_at dksJ4_init_2_0 4 rfl rfl)
theorem dJ4_init_2_6 : decode cJ4_init_2 6 = .ok (.invokespecial 16, 3) := dk_183 0 16 (dk_at dksJ4_init_2_0 6 rfl rfl)
theorem dJ4_init_2_9 : decode cJ4_init_2 9 = .ok (.return_, 1) := dk_177 (dk_at dksJ4_init_2_0 9 rfl rfl)
theorem c_100_0 : LkP (OkP 100) [(0, o_aload 0 1), (1, o_aload 1 1), (2, o_aload 2 1), (3, o_iload 3 1), (4, o_iload 4 2), (6, o_ci 82 4), (9, o_vret)] := lkp_c (P := OkP 100) ⟨(PuOK.ok (ok_aload_n dJ4_init_2_0 rfl)), m_aload⟩ (
  lkp_c (P := OkP 100) ⟨(PuOK.ok (ok_aload_n dJ4_init_2_1 rfl)), m_aload⟩ (
  lkp_c (P := OkP 100) ⟨(PuOK.ok (ok_aload_n dJ4_init_2_2 rfl)), m_aload⟩ (
  lkp_c (P := OkP 100) ⟨(PuOK.ok (ok_iload_n dJ4_init_2_3 rfl)), m_iload⟩ (
  lkp_c (P := OkP 100) ⟨(PuOK.ok (ok_iload dJ4_init_2_4)), m_iload⟩ (
  lkp_c (P := OkP 100) ⟨ok_ci (tg_I (rt := none) ⟨rfl, by decide⟩ rfl q1394 q1395 q121 q1396 ⟨cn_29.1, cn_29.2, pd_47⟩ dJ4_init_2_6) hd_no, m_ci⟩ (
  lkp_c (P := OkP 100) ⟨ok_vret rfl dJ4_init_2_9, m_vret⟩ (
  trivial)))))))
theorem mt_100 : MtOK TB NT IT 100 := ⟨by decide +kernel, rfl, fun _ => rfl, Or.inl ⟨rfl, rfl⟩, rfl, by decide, lk2_all (P := OkP 100) ⟨c_100_0, trivial⟩⟩
theorem dJ42_init_0 : decode cJ42_init 0 = .ok (.aload_n 0, 1) := by decide +kernel
theorem dJ42_init_1 : decode cJ42_init 1 = .ok (.invokespecial 1, 3) := by decide +kernel
theorem dJ42_init_4 : decode cJ42_init 4 = .ok (.return_, 1) := by decide +kernel
theorem c_101_0 : LkP (OkP 101) [(0, o_aload 0 1), (1, o_ci 0 0), (4, o_vret)] := lkp_c (P := OkP 101) ⟨(PuOK.ok (ok_aload_n dJ42_init_0 rfl)), m_aload⟩ (
  lkp_c (P := OkP 101) ⟨ok_ci (tg_I (rt := none) ⟨rfl, by decide⟩ rfl q3016 q236 q118 q237 ⟨cn_0.1, cn_0.2, pd_0⟩ dJ42_init_1) hd_no, m_ci⟩ (
  lkp_c (P := OkP 101) ⟨ok_vret rfl dJ42_init_4, m_vret⟩ (
  trivial)))
theorem mt_101 : MtOK TB NT IT 101 := ⟨by decide +kernel, rfl, fun _ => rfl, Or.inl ⟨rfl, rfl⟩, rfl, by decide, lk2_all (P := OkP 101) ⟨c_101_0, trivial⟩⟩
def dkwJ43_iterator_0 : List UInt8 := [187, 0, 22, 89, 42, 180, 0, 1, 183, 0, 24, 176]
abbrev dktJ43_iterator_0 : List UInt8 := dkwJ43_iterator_0 ++ []
theorem dksJ43_iterator_0 : cJ43_iterator.data.toList.drop 0 = dktJ43_iterator_0 := by decide +kernel
theorem dJ43_iterator_0 : decode cJ43_iterator 0 = .ok (.new 22, 3) := dk_187 0 22 (dk_at dksJ43_iterator_0 0 rfl rfl)
theorem dJ43_iterator_3 : decode cJ43_iterator 3 = .ok (.dup, 1) := dk_89 (dk_at dksJ43_iterator_0 3 rfl rfl)
theorem dJ43_iterator_4 : decode cJ43_iterator 4 = .ok (.aload_n 0, 1) := dk_42 (dk_at dksJ43_iterator_0 4 rfl rfl)
theorem dJ43_iterator_5 : decode cJ43_iterator 5 = .ok (.getfield 1, 3) := dk_180 0 1 (dk_at dksJ43_iterator_0 5 rfl rfl)
theorem dJ43_iterator_8 : decode cJ43_iterator 8 = .ok (.invokespecial 24, 3) := dk_183 0 24 (dk_at dksJ43_iterator_0 8 rfl rfl)
theorem dJ43_iterator_11 : decode cJ43_iterator 11 = .ok (.areturn, 1) := dk_176 (dk_at dksJ43_iterator_0 11 rfl rfl)
theorem c_102_0 : LkP (OkP 102) [(0, o_new 24 5 dv24), (3, o_dup), (4, o_aload 0 1), (5, o_get 147), (8, o_ci 91 1), (11, o_ret 0)] := lkp_c (P := OkP 102) ⟨ok_new (ci := 24) (r := CLr 24) rfl dvok_24 q2386 q2387 q169 dJ43_iterator_0, m_new⟩ (
  lkp_c (P := OkP 102) ⟨(PuOK.ok (ok_dup dJ43_iterator_3)), m_dup⟩ (
  lkp_c (P := OkP 102) ⟨(PuOK.ok (ok_aload_n dJ43_iterator_4 rfl)), m_aload⟩ (
  lkp_c (P := OkP 102) ⟨ok_get ⟨"java/util/HashMap$EntrySet", q3017, Or.inl rfl⟩ dJ43_iterator_5, m_get⟩ (
  lkp_c (P := OkP 102) ⟨ok_ci (tg_I (rt := none) ⟨rfl, by decide⟩ rfl q2388 q2389 q169 q2390 ⟨cn_26.1, cn_26.2, pd_20⟩ dJ43_iterator_8) hd_no, m_ci⟩ (
  lkp_c (P := OkP 102) ⟨ok_aret rfl (Or.inl ⟨_, rfl⟩) dJ43_iterator_11, m_ret⟩ (
  trivial))))))
theorem mt_102 : MtOK TB NT IT 102 := ⟨by decide +kernel, rfl, (fun h => by cases h), Or.inl ⟨rfl, rfl⟩, rfl, by decide, lk2_all (P := OkP 102) ⟨c_102_0, trivial⟩⟩
def dkwJ43_init_0 : List UInt8 := [42, 43, 181, 0, 1, 42, 183, 0, 7, 177]
abbrev dktJ43_init_0 : List UInt8 := dkwJ43_init_0 ++ []
theorem dksJ43_init_0 : cJ43_init.data.toList.drop 0 = dktJ43_init_0 := by decide +kernel
theorem dJ43_init_0 : decode cJ43_init 0 = .ok (.aload_n 0, 1) := dk_42 (dk_at dksJ43_init_0 0 rfl rfl)
theorem dJ43_init_1 : decode cJ43_init 1 = .ok (.aload_n 1, 1) := dk_43 (dk_at dksJ43_init_0 1 rfl rfl)
theorem dJ43_init_2 : decode cJ43_init 2 = .ok (.putfield 1, 3) := dk_181 0 1 (dk_at dksJ43_init_0 2 rfl rfl)
theorem dJ43_init_5 : decode cJ43_init 5 = .ok (.aload_n 0, 1) := dk_42 (dk_at dksJ43_init_0 5 rfl rfl)
theorem dJ43_init_6 : decode cJ43_init 6 = .ok (.invokespecial 7, 3) := dk_183 0 7 (dk_at dksJ43_init_0 6 rfl rfl)
theorem dJ43_init_9 : decode cJ43_init 9 = .ok (.return_, 1) := dk_177 (dk_at dksJ43_init_0 9 rfl rfl)
theorem c_103_0 : LkP (OkP 103) [(0, o_aload 0 1), (1, o_aload 1 1), (2, o_put 147 0), (5, o_aload 0 1), (6, o_ci 101 0), (9, o_vret)] := lkp_c (P := OkP 103) ⟨(PuOK.ok (ok_aload_n dJ43_init_0 rfl)), m_aload⟩ (
  lkp_c (P := OkP 103) ⟨(PuOK.ok (ok_aload_n dJ43_init_1 rfl)), m_aload⟩ (
  lkp_c (P := OkP 103) ⟨ok_putF q3017 rfl rfl rfl fd_147 rfl dJ43_init_2, m_put⟩ (
  lkp_c (P := OkP 103) ⟨(PuOK.ok (ok_aload_n dJ43_init_5 rfl)), m_aload⟩ (
  lkp_c (P := OkP 103) ⟨ok_ci (tg_I (rt := none) ⟨rfl, by decide⟩ rfl q3013 q3014 q180 q3015 ⟨cn_30.1, cn_30.2, pd_0⟩ dJ43_init_6) hd_no, m_ci⟩ (
  lkp_c (P := OkP 103) ⟨ok_vret rfl dJ43_init_9, m_vret⟩ (
  trivial))))))
theorem mt_103 : MtOK TB NT IT 103 := ⟨by decide +kernel, rfl, fun _ => rfl, Or.inl ⟨rfl, rfl⟩, rfl, by decide, lk2_all (P := OkP 103) ⟨c_103_0, trivial⟩⟩
def dkwJ7_init_1 : List UInt8 := [167, 0, 16, 42, 27, 184, 0, 26, 181, 0, 15, 42, 4, 181, 0, 22, 177]
abbrev dktJ7_init_1 : List UInt8 := dkwJ7_init_1 ++ []
def dkwJ7_init_0 : List UInt8 := [42, 183, 0, 3, 178, 0, 18, 153, 0, 18, 42, 27, 188, 8, 181, 0, 15, 42, 3, 181, 0, 22]
abbrev dktJ7_init_0 : List UInt8 := dkwJ7_init_0 ++ dktJ7_init_1
theorem dksJ7_init_0 : cJ7_init.data.toList.drop 0 = dktJ7_init_0 := by decide +kernel
theorem dksJ7_init_1 : cJ7_init.data.toList.drop 22 = dktJ7_init_1 := dk_seg dksJ7_init_0 22 rfl rfl
theorem dJ7_init_0 : decode cJ7_init 0 = .ok (.aload_n 0, 1) := dk_42 (dk_at dksJ7_init_0 0 rfl rfl)
theorem dJ7_init_1 : decode cJ7_init 1 = .ok (.invokespecial 3, 3) := dk_183 0 3 (dk_at dksJ7_init_0 1 rfl rfl)
theorem dJ7_init_4 : decode cJ7_init 4 = .ok (.getstatic 18, 3) := dk_178 0 18 (dk_at dksJ7_init_0 4 rfl rfl)
theorem dJ7_init_7 : decode cJ7_init 7 = .ok (.ifCond .eq 18, 3) := dk_153 0 18 (dk_at dksJ7_init_0 7 rfl rfl)
theorem dJ7_init_10 : decode cJ7_init 10 = .ok (.aload_n 0, 1) := dk_42 (dk_at dksJ7_init_0 10 rfl rfl)
theorem dJ7_init_11 : decode cJ7_init 11 = .ok (.iload_n 1, 1) := dk_27 (dk_at dksJ7_init_0 11 rfl rfl)
theorem dJ7_init_12 : decode cJ7_init 12 = .ok (.newarray .byte, 2) := dk_188_8 (dk_at dksJ7_init_0 12 rfl rfl)
theorem dJ7_init_14 : decode cJ7_init 14 = .ok (.putfield 15, 3) := dk_181 0 15 (dk_at dksJ7_init_0 14 rfl rfl)
theorem dJ7_init_17 : decode cJ7_init 17 = .ok (.aload_n 0, 1) := dk_42 (dk_at dksJ7_init_0 17 rfl rfl)
theorem dJ7_init_18 : decode cJ7_init 18 = .ok (.iconst 0, 1) := dk_3 (dk_at dksJ7_init_0 18 rfl rfl)
theorem dJ7_init_19 : decode cJ7_init 19 = .ok (.putfield 22, 3) := dk_181 0 22 (dk_at dksJ7_init_0 19 rfl rfl)
theorem dJ7_init_22 : decode cJ7_init 22 = .ok (.goto 16, 3) := dk_167 0 16 (dk_at dksJ7_init_1 0 rfl rfl)
theorem dJ7_init_25 : decode cJ7_init 25 = .ok (.aload_n 0, 1) := dk_42 (dk_at dksJ7_init_1 3 rfl rfl)
theorem dJ7_init_26 : decode cJ7_init 26 = .ok (.iload_n 1, 1) := dk_27 (dk_at dksJ7_init_1 4 rfl rfl)
theorem dJ7_init_30 : decode cJ7_init 30 = .ok (.putfield 15, 3) := dk_181 0 15 (dk_at dksJ7_init_1 8 rfl rfl)
theorem dJ7_init_33 : decode cJ7_init 33 = .ok (.aload_n 0, 1) := dk_42 (dk_at dksJ7_init_1 11 rfl rfl)
theorem dJ7_init_34 : decode cJ7_init 34 = .ok (.iconst 1, 1) := dk_4 (dk_at dksJ7_init_1 12 rfl rfl)
theorem dJ7_init_35 : decode cJ7_init 35 = .ok (.putfield 22, 3) := dk_181 0 22 (dk_at dksJ7_init_1 13 rfl rfl)
theorem dJ7_init_38 : decode cJ7_init 38 = .ok (.return_, 1) := dk_177 (dk_at dksJ7_init_1 16 rfl rfl)
theorem c_104_0 : LkP (OkP 104) [(0, o_aload 0 1), (1, o_oi), (4, o_push 3 (.int 1)), (7, o_if (fun x => decide (x = 0)) 25), (10, o_aload 0 1), (11, o_iload 1 1), (12, o_newa 1 2), (14, o_put 21 0), (17, o_aload 0 1), (18, o_push 1 (.int 0)), (19, o_put 22 6), (22, o_goto 38), (25, o_aload 0 1), (26, o_iload 1 1), (30, o_put 21 0), (33, o_aload 0 1), (34, o_push 1 (.int 1)), (35, o_put 22 6), (38, o_vret)] := lkp_c (P := OkP 104) ⟨(PuOK.ok (ok_aload_n dJ7_init_0 rfl)), m_aload⟩ (
  lkp_c (P := OkP 104) ⟨ok_oi q308 q188 q_oi dJ7_init_1, m_oi⟩ (
  lkp_c (P := OkP 104) ⟨ok_gsi (q := ("java/lang/String", "COMPACT_STRINGS", "Z", 1)) (by decide +kernel) q309 dJ7_init_4, m_push⟩ (
  lkp_c (P := OkP 104) ⟨(PuOK.ok (ok_if_eq dJ7_init_7 rfl)), m_if⟩ (
  lkp_c (P := OkP 104) ⟨(PuOK.ok (ok_aload_n dJ7_init_10 rfl)), m_aload⟩ (
  lkp_c (P := OkP 104) ⟨(PuOK.ok (ok_iload_n dJ7_init_11 rfl)), m_iload⟩ (
  lkp_c (P := OkP 104) ⟨ok_newa (by decide) rfl q331 dJ7_init_12, m_newa⟩ (
  lkp_c (P := OkP 104) ⟨ok_put ⟨"java/lang/AbstractStringBuilder", q318, Or.inl rfl⟩ rfl fd_21 rfl dJ7_init_14, m_put⟩ (
  lkp_c (P := OkP 104) ⟨(PuOK.ok (ok_aload_n dJ7_init_17 rfl)), m_aload⟩ (
  lkp_c (P := OkP 104) ⟨(PuOK.ok (ok_iconst dJ7_init_18 rfl)), m_push⟩ (
  lkp_c (P := OkP 104) ⟨ok_put ⟨"java/lang/AbstractStringBuilder", q319, Or.inl rfl⟩ rfl fd_22 rfl dJ7_init_19, m_put⟩ (
  lkp_c (P := OkP 104) ⟨(PuOK.ok (ok_goto dJ7_init_22 rfl)), m_goto⟩ (
  lkp_c (P := OkP 104) ⟨(PuOK.ok (ok_aload_n dJ7_init_25 rfl)), m_aload⟩ (
  lkp_c (P := OkP 104) ⟨(PuOK.ok (ok_iload_n dJ7_init_26 rfl)), m_iload⟩ (
  lkp_c (P := OkP 104) ⟨ok_put ⟨"java/lang/AbstractStringBuilder", q318, Or.inl rfl⟩ rfl fd_21 rfl dJ7_init_30, m_put⟩ (
  lkp_c (P := OkP 104) ⟨(PuOK.ok (ok_aload_n dJ7_init_33 rfl)), m_aload⟩ (
  lkp_c (P := OkP 104) ⟨(PuOK.ok (ok_iconst dJ7_init_34 rfl)), m_push⟩ (
  lkp_c (P := OkP 104) ⟨ok_put ⟨"java/lang/AbstractStringBuilder", q319, Or.inl rfl⟩ rfl fd_22 rfl dJ7_init_35, m_put⟩ (
  lkp_c (P := OkP 104) ⟨ok_vret rfl dJ7_init_38, m_vret⟩ (
  trivial)))))))))))))))))))
theorem mt_104 : MtOK TB NT IT 104 := ⟨by decide +kernel, rfl, fun _ => rfl, Or.inl ⟨rfl, rfl⟩, rfl, by decide, lk2_all (P := OkP 104) ⟨c_104_0, trivial⟩⟩
def dkwJ7_ensureCapacityInternal_1 : List UInt8 := [182, 0, 104, 42, 180, 0, 22, 120, 184, 0, 108, 181, 0, 15, 177]
abbrev dktJ7_ensureCapacityInternal_1 : List UInt8 := dkwJ7_ensureCapacityInternal_1 ++ []
def dkwJ7_ensureCapacityInternal_0 : List UInt8 := [42, 180, 0, 15, 190, 42, 180, 0, 22, 122, 61, 27, 28, 100, 158, 0, 24, 42, 42, 180, 0, 15, 42, 27]
abbrev dktJ7_ensureCapacityInternal_0 : List UInt8 := dkwJ7_ensureCapacityInternal_0 ++ dktJ7_ensureCapacityInternal_1
theorem dksJ7_ensureCapacityInternal_0 : cJ7_ensureCapacityInternal.data.toList.drop 0 = dktJ7_ensureCapacityInternal_0 := by decide +kernel
theorem dksJ7_ensureCapacityInternal_1 : cJ7_ensureCapacityInternal.data.toList.drop 24 = dktJ7_ensureCapacityInternal_1 := dk_seg dksJ7_ensureCapacityInternal_0 24 rfl rfl
theorem dJ7_ensureCapacityInternal_0 : decode cJ7_ensureCapacityInternal 0 = .ok (.aload_n 0, 1) := dk_42 (dk_at dksJ7_ensureCapacityInternal_0 0 rfl rfl)
theorem dJ7_ensureCapacityInternal_1 : decode cJ7_ensureCapacityInternal 1 = .ok (.getfield 15, 3) := dk_180 0 15 (dk_at dksJ7_ensureCapacityInternal_0 1 rfl rfl)
theorem dJ7_ensureCapacityInternal_4 : decode cJ7_ensureCapacityInternal 4 = .ok (.arraylength, 1) := dk_190 (dk_at dksJ7_ensureCapacityInternal_0 4 rfl rfl)
theorem dJ7_ensureCapacityInternal_5 : decode cJ7_ensureCapacityInternal 5 = .ok (.aload_n 0, 1) := dk_42 (dk_at dksJ7_ensureCapacityInternal_0 5 rfl rfl)
theorem dJ7_ensureCapacityInternal_6 : decode cJ7_ensureCapacityInternal 6 = .ok (.getfield 22, 3) := dk_180 0 22 (dk_at dksJ7_ensureCapacityInternal_0 6 rfl rfl)
theorem dJ7_ensureCapacityInternal_9 : decode cJ7_ensureCapacityInternal 9 = .ok (.ishr, 1) := dk_122 (dk_at dksJ7_ensureCapacityInternal_0 9 rfl rfl)
theorem dJ7_ensureCapacityInternal_10 : decode cJ7_ensureCapacityInternal 10 = .ok (.istore_n 2, 1) := dk_61 (dk_at dksJ7_ensureCapacityInternal_0 10 rfl rfl)
theorem dJ7_ensureCapacityInternal_11 : decode cJ7_ensureCapacityInternal 11 = .ok (.iload_n 1, 1) := dk_27 (dk_at dksJ7_ensureCapacityInternal_0 11 rfl rfl)
theorem dJ7_ensureCapacityInternal_12 : decode cJ7_ensureCapacityInternal 12 = .ok (.iload_n 2, 1) := dk_28 (dk_at dksJ7_ensureCapacityInternal_0 12 rfl rfl)
theorem dJ7_ensureCapacityInternal_13 : decode cJ7_ensureCapacityInternal 13 = .ok (.isub, 1) := dk_100 (dk_at dksJ7_ensureCapacityInternal_0 13 rfl rfl)
theorem dJ7_ensureCapacityInternal_14 : decode cJ7_ensureCapacityInternal 14 = .ok (.ifCond .le 24, 3) := dk_158 0 24 (dk_at dksJ7_ensureCapacityInternal_0 14 rfl rfl)
theorem dJ7_ensureCapacityInternal_17 : decode cJ7_ensureCapacityInternal 17 = .ok (.aload_n 0, 1) := dk_42 (dk_at dksJ7_ensureCapacityInternal_0 17 rfl rfl)
theorem dJ7_ensureCapacityInternal_18 : decode cJ7_ensureCapacityInternal 18 = .ok (.aload_n 0, 1) := dk_42 (dk_at dksJ7_ensureCapacityInternal_0 18 rfl rfl)
theorem dJ7_ensureCapacityInternal_19 : decode cJ7_ensureCapacityInternal 19 = .ok (.getfield 15, 3) := dk_180 0 15 (dk_at dksJ7_ensureCapacityInternal_0 19 rfl rfl)
theorem dJ7_ensureCapacityInternal_22 : decode cJ7_ensureCapacityInternal 22 = .ok (.aload_n 0, 1) := dk_42 (dk_at dksJ7_ensureCapacityInternal_0 22 rfl rfl)
theorem dJ7_ensureCapacityInternal_23 : decode cJ7_ensureCapacityInternal 23 = .ok (.iload_n 1, 1) := dk_27 (dk_at dksJ7_ensureCapacityInternal_0 23 rfl rfl)
theorem dJ7_ensureCapacityInternal_24 : decode cJ7_ensureCapacityInternal 24 = .ok (.invokevirtual 104, 3) := dk_182 0 104 (dk_at dksJ7_ensureCapacityInternal_1 0 rfl rfl)
theorem dJ7_ensureCapacityInternal_27 : decode cJ7_ensureCapacityInternal 27 = .ok (.aload_n 0, 1) := dk_42 (dk_at dksJ7_ensureCapacityInternal_1 3 rfl rfl)
theorem dJ7_ensureCapacityInternal_28 : decode cJ7_ensureCapacityInternal 28 = .ok (.getfield 22, 3) := dk_180 0 22 (dk_at dksJ7_ensureCapacityInternal_1 4 rfl rfl)
theorem dJ7_ensureCapacityInternal_31 : decode cJ7_ensureCapacityInternal 31 = .ok (.ishl, 1) := dk_120 (dk_at dksJ7_ensureCapacityInternal_1 7 rfl rfl)
theorem dJ7_ensureCapacityInternal_32 : decode cJ7_ensureCapacityInternal 32 = .ok (.invokestatic 108, 3) := dk_184 0 108 (dk_at dksJ7_ensureCapacityInternal_1 8 rfl rfl)
theorem dJ7_ensureCapacityInternal_35 : decode cJ7_ensureCapacityInternal 35 = .ok (.putfield 15, 3) := dk_181 0 15 (dk_at dksJ7_ensureCapacityInternal_1 11 rfl rfl)
theorem dJ7_ensureCapacityInternal_38 : decode cJ7_ensureCapacityInternal 38 = .ok (.return_, 1) := dk_177 (dk_at dksJ7_ensureCapacityInternal_1 14 rfl rfl)
theorem c_105_0 : LkP (OkP 105) [(0, o_aload 0 1), (1, o_get 21), (4, o_alen), (5, o_aload 0 1), (6, o_get 22), (9, o_iop (fun x y => x >>> (y &&& 31))), (10, o_istore 2 1), (11, o_iload 1 1), (12, o_iload 2 1), (13, o_iop (fun x y => x - y)), (14, o_if (fun x => decide (x ≤ 0)) 38), (17, o_aload 0 1), (18, o_aload 0 1), (19, o_get 21), (22, o_aload 0 1), (23, o_iload 1 1), (24, o_cv [(4, 106)] 1 3 false none), (27, o_aload 0 1), (28, o_get 22), (31, o_iop (fun x y => x <<< (y &&& 31))), (32, o_cs 9 2 false none), (35, o_put 21 0), (38, o_vret)] := lkp_c (P := OkP 105) ⟨(PuOK.ok (ok_aload_n dJ7_ensureCapacityInternal_0 rfl)), m_aload⟩ (
  lkp_c (P := OkP 105) ⟨ok_get ⟨"java/lang/AbstractStringBuilder", q318, Or.inl rfl⟩ dJ7_ensureCapacityInternal_1, m_get⟩ (
  lkp_c (P := OkP 105) ⟨ok_alen dJ7_ensureCapacityInternal_4, m_alen⟩ (
  lkp_c (P := OkP 105) ⟨(PuOK.ok (ok_aload_n dJ7_ensureCapacityInternal_5 rfl)), m_aload⟩ (
  lkp_c (P := OkP 105) ⟨ok_get ⟨"java/lang/AbstractStringBuilder", q319, Or.inl rfl⟩ dJ7_ensureCapacityInternal_6, m_get⟩ (
  lkp_c (P := OkP 105) ⟨(PuOK.ok (ok_ishr dJ7_ensureCapacityInternal_9)), m_iop⟩ (
  lkp_c (P := OkP 105) ⟨(PuOK.ok (ok_istore_n dJ7_ensureCapacityInternal_10 rfl)), m_istore⟩ (
  lkp_c (P := OkP 105) ⟨(PuOK.ok (ok_iload_n dJ7_ensureCapacityInternal_11 rfl)), m_iload⟩ (
  lkp_c (P := OkP 105) ⟨(PuOK.ok (ok_iload_n dJ7_ensureCapacityInternal_12 rfl)), m_iload⟩ (
  lkp_c (P := OkP 105) ⟨(PuOK.ok (ok_isub dJ7_ensureCapacityInternal_13)), m_iop⟩ (
  lkp_c (P := OkP 105) ⟨(PuOK.ok (ok_if_le dJ7_ensureCapacityInternal_14 rfl)), m_if⟩ (
  lkp_c (P := OkP 105) ⟨(PuOK.ok (ok_aload_n dJ7_ensureCapacityInternal_17 rfl)), m_aload⟩ (
  lkp_c (P := OkP 105) ⟨(PuOK.ok (ok_aload_n dJ7_ensureCapacityInternal_18 rfl)), m_aload⟩ (
  lkp_c (P := OkP 105) ⟨ok_get ⟨"java/lang/AbstractStringBuilder", q318, Or.inl rfl⟩ dJ7_ensureCapacityInternal_19, m_get⟩ (
  lkp_c (P := OkP 105) ⟨(PuOK.ok (ok_aload_n dJ7_ensureCapacityInternal_22 rfl)), m_aload⟩ (
  lkp_c (P := OkP 105) ⟨(PuOK.ok (ok_iload_n dJ7_ensureCapacityInternal_23 rfl)), m_iload⟩ (
  lkp_c (P := OkP 105) ⟨ok_cv (List.forall_mem_cons.mpr ⟨tg_P (ci := 4) (r := CLr 4) (y := 106) rfl ⟨rfl, by decide⟩ q348 q3700 q349 q350 q125 q351 ⟨cn_31.1, cn_31.2, pd_48⟩ dJ7_ensureCapacityInternal_24, (List.forall_mem_nil _)⟩) hd_no, m_cv⟩ (
  lkp_c (P := OkP 105) ⟨(PuOK.ok (ok_aload_n dJ7_ensureCapacityInternal_27 rfl)), m_aload⟩ (
  lkp_c (P := OkP 105) ⟨ok_get ⟨"java/lang/AbstractStringBuilder", q319, Or.inl rfl⟩ dJ7_ensureCapacityInternal_28, m_get⟩ (
  lkp_c (P := OkP 105) ⟨(PuOK.ok (ok_ishl dJ7_ensureCapacityInternal_31)), m_iop⟩ (
  lkp_c (P := OkP 105) ⟨ok_cs (tg_S ⟨rfl, by decide⟩ q363 q364 q131 q365 ⟨cn_4.1, cn_4.2, pd_49⟩ dJ7_ensureCapacityInternal_32) hd_no, m_cs⟩ (
  lkp_c (P := OkP 105) ⟨ok_put ⟨"java/lang/AbstractStringBuilder", q318, Or.inl rfl⟩ rfl fd_21 rfl dJ7_ensureCapacityInternal_35, m_put⟩ (
  lkp_c (P := OkP 105) ⟨ok_vret rfl dJ7_ensureCapacityInternal_38, m_vret⟩ (
  trivial)))))))))))))))))))))))
theorem mt_105 : MtOK TB NT IT 105 := ⟨by decide +kernel, rfl, (fun h => by cases h), Or.inl ⟨rfl, rfl⟩, rfl, by decide, lk2_all (P := OkP 105) ⟨c_105_0, trivial⟩⟩
def dkwJ7_newCapacity_2 : List UInt8 := [183, 0, 124, 191, 21, 5, 42, 180, 0, 22, 122, 172]
abbrev dktJ7_newCapacity_2 : List UInt8 := dkwJ7_newCapacity_2 ++ []
def dkwJ7_newCapacity_1 : List UInt8 := [180, 0, 22, 120, 96, 184, 0, 114, 54, 5, 21, 5, 18, 39, 160, 0, 13, 187, 0, 120, 89, 18, 122]
abbrev dktJ7_newCapacity_1 : List UInt8 := dkwJ7_newCapacity_1 ++ dktJ7_newCapacity_2
def dkwJ7_newCapacity_0 : List UInt8 := [42, 180, 0, 15, 190, 61, 27, 42, 180, 0, 22, 120, 62, 29, 28, 100, 54, 4, 28, 21, 4, 28, 5, 42]
abbrev dktJ7_newCapacity_0 : List UInt8 := dkwJ7_newCapacity_0 ++ dktJ7_newCapacity_1
theorem dksJ7_newCapacity_0 : cJ7_newCapacity.data.toList.drop 0 = dktJ7_newCapacity_0 := by decide +kernel
theorem dksJ7_newCapacity_1 : cJ7_newCapacity.data.toList.drop 24 = dktJ7_newCapacity_1 := dk_seg dksJ7_newCapacity_0 24 rfl rfl
theorem dksJ7_newCapacity_2 : cJ7_newCapacity.data.toList.drop 47 = dktJ7_newCapacity_2 := dk_seg dksJ7_newCapacity_1 23 rfl rfl
theorem dJ7_newCapacity_0 : decode cJ7_newCapacity 0 = .ok (.aload_n 0, 1) := dk_42 (dk_at dksJ7_newCapacity_0 0 rfl rfl)
theorem dJ7_newCapacity_1 : decode cJ7_newCapacity 1 = .ok (.getfield 15, 3) := dk_180 0 15 (dk_at dksJ7_newCapacity_0 1 rfl rfl)
theorem dJ7_newCapacity_4 : decode cJ7_newCapacity 4 = .ok (.arraylength, 1) := dk_190 (dk_at dksJ7_newCapacity_0 4 rfl rfl)
theorem dJ7_newCapacity_5 : decode cJ7_newCapacity 5 = .ok (.istore_n 2, 1) := dk_61 (dk_at dksJ7_newCapacity_0 5 rfl rfl)
theorem dJ7_newCapacity_6 : decode cJ7_newCapacity 6 = .ok (.iload_n 1, 1) := dk_27 (dk_at dksJ7_newCapacity_0 6 rfl rfl)
theorem dJ7_newCapacity_7 : decode cJ7_newCapacity 7 = .ok (.aload_n 0, 1) := dk_42 (dk_at dksJ7_newCapacity_0 7 rfl rfl)
theorem dJ7_newCapacity_8 : decode cJ7_newCapacity 8 = .ok (.getfield 22, 3) := dk_180 0 22 (dk_at dksJ7_newCapacity_0 8 rfl rfl)
theorem dJ7_newCapacity_11 : decode cJ7_newCapacity 11 = .ok (.ishl, 1) := dk_120 (dk_at dksJ7_newCapacity_0 11 rfl rfl)
theorem dJ7_newCapacity_12 : decode cJ7_newCapacity 12 = .ok (.istore_n 3, 1) := dk_62 (dk_at dksJ7_newCapacity_0 12 rfl rfl)
theorem dJ7_newCapacity_13 : decode cJ7_newCapacity 13 = .ok (.iload_n 3, 1) := dk_29 (dk_at dksJ7_newCapacity_0 13 rfl rfl)
theorem dJ7_newCapacity_14 : decode cJ7_newCapacity 14 = .ok (.iload_n 2, 1) := dk_28 (dk_at dksJ7_newCapacity_0 14 rfl rfl)
theorem dJ7_newCapacity_15 : decode cJ7_newCapacity 15 = .ok (.isub, 1) := dk_100 (dk_at dksJ7_newCapacity_0 15 rfl rfl)
theorem dJ7_newCapacity_16 : decode cJ7_newCapacity 16 = .ok (.istore 4, 2) := dk_54 4 (dk_at dksJ7_newCapacity_0 16 rfl rfl)
theorem dJ7_newCapacity_18 : decode cJ7_newCapacity 18 = .ok (.iload_n 2, 1) := dk_28 (dk_at dksJ7_newCapacity_0 18 rfl rfl)
theorem dJ7_newCapacity_19 : decode cJ7_newCapacity 19 = .ok (.iload 4, 2) := dk_21 4 (dk_at dksJ7_newCapacity_0 19 rfl rfl)
theorem dJ7_newCapacity_21 : decode cJ7_newCapacity 21 = .ok (.iload_n 2, 1) := dk_28 (dk_at dksJ7_newCapacity_0 21 rfl rfl)
theorem dJ7_newCapacity_22 : decode cJ7_newCapacity 22 = .ok (.iconst 2, 1) := dk_5 (dk_at dksJ7_newCapacity_0 22 rfl rfl)
theorem dJ7_newCapacity_23 : decode cJ7_newCapacity 23 = .ok (.aload_n 0, 1) := dk_42 (dk_at dksJ7_newCapacity_0 23 rfl rfl)
theorem dJ7_newCapacity_24 : decode cJ7_newCapacity 24 = .ok (.getfield 22, 3) := dk_180 0 22 (dk_at dksJ7_newCapacity_1 0 rfl rfl)
theorem dJ7_newCapacity_27 : decode cJ7_newCapacity 27 = .ok (.ishl, 1) := dk_120 (dk_at dksJ7_newCapacity_1 3 rfl rfl)
theorem dJ7_newCapacity_28 : decode cJ7_newCapacity 28 = .ok (.iadd, 1) := dk_96 (dk_at dksJ7_newCapacity_1 4 rfl rfl)
theorem dJ7_newCapacity_29 : decode cJ7_newCapacity 29 = .ok (.invokestatic 114, 3) := dk_184 0 114 (dk_at dksJ7_newCapacity_1 5 rfl rfl)
theorem dJ7_newCapacity_32 : decode cJ7_newCapacity 32 = .ok (.istore 5, 2) := dk_54 5 (dk_at dksJ7_newCapacity_1 8 rfl rfl)
theorem dJ7_newCapacity_34 : decode cJ7_newCapacity 34 = .ok (.iload 5, 2) := dk_21 5 (dk_at dksJ7_newCapacity_1 10 rfl rfl)
theorem dJ7_newCapacity_36 : decode cJ7_newCapacity 36 = .ok (.ldc 39, 2) := dk_18 39 (dk_at dksJ7_newCapacity_1 12 rfl rfl)
theorem dJ7_newCapacity_38 : decode cJ7_newCapacity 38 = .ok (.if_icmp .ne 13, 3) := dk_160 0 13 (dk_at dksJ7_newCapacity_1 14 rfl rfl)
theorem dJ7_newCapacity_44 : decode cJ7_newCapacity 44 = .ok (.dup, 1) := dk_89 (dk_at dksJ7_newCapacity_1 20 rfl rfl)
theorem dJ7_newCapacity_51 : decode cJ7_newCapacity 51 = .ok (.iload 5, 2) := dk_21 5 (dk_at dksJ7_newCapacity_2 4 rfl rfl)
theorem dJ7_newCapacity_53 : decode cJ7_newCapacity 53 = .ok (.aload_n 0, 1) := dk_42 (dk_at dksJ7_newCapacity_2 6 rfl rfl)
theorem dJ7_newCapacity_54 : decode cJ7_newCapacity 54 = .ok (.getfield 22, 3) := dk_180 0 22 (dk_at dksJ7_newCapacity_2 7 rfl rfl)
theorem dJ7_newCapacity_57 : decode cJ7_newCapacity 57 = .ok (.ishr, 1) := dk_122 (dk_at dksJ7_newCapacity_2 10 rfl rfl)
theorem dJ7_newCapacity_58 : decode cJ7_newCapacity 58 = .ok (.ireturn, 1) := dk_172 (dk_at dksJ7_newCapacity_2 11 rfl rfl)
theorem c_106_0 : LkP (OkP 106) [(0, o_aload 0 1), (1, o_get 21), (4, o_alen), (5, o_istore 2 1), (6, o_iload 1 1), (7, o_aload 0 1), (8, o_get 22), (11, o_iop (fun x y => x <<< (y &&& 31))), (12, o_istore 3 1), (13, o_iload 3 1), (14, o_iload 2 1), (15, o_iop (fun x y => x - y)), (16, o_istore 4 2), (18, o_iload 2 1), (19, o_iload 4 2), (21, o_iload 2 1), (22, o_push 1 (.int 2)), (23, o_aload 0 1), (24, o_get 22), (27, o_iop (fun x y => x <<< (y &&& 31))), (28, o_iop (fun x y => x + y)), (29, o_cs 2 3 false none), (32, o_istore 5 2), (34, o_iload 5 2), (36, o_push 2 (.int 2147483647)), (38, o_icmp (fun x y => decide (¬ x = y)) 51), (44, o_dup), (51, o_iload 5 2), (53, o_aload 0 1), (54, o_get 22), (57, o_iop (fun x y => x >>> (y &&& 31))), (58, o_ret 1)] := lkp_c (P := OkP 106) ⟨(PuOK.ok (ok_aload_n dJ7_newCapacity_0 rfl)), m_aload⟩ (
  lkp_c (P := OkP 106) ⟨ok_get ⟨"java/lang/AbstractStringBuilder", q318, Or.inl rfl⟩ dJ7_newCapacity_1, m_get⟩ (
  lkp_c (P := OkP 106) ⟨ok_alen dJ7_newCapacity_4, m_alen⟩ (
  lkp_c (P := OkP 106) ⟨(PuOK.ok (ok_istore_n dJ7_newCapacity_5 rfl)), m_istore⟩ (
  lkp_c (P := OkP 106) ⟨(PuOK.ok (ok_iload_n dJ7_newCapacity_6 rfl)), m_iload⟩ (
  lkp_c (P := OkP 106) ⟨(PuOK.ok (ok_aload_n dJ7_newCapacity_7 rfl)), m_aload⟩ (
  lkp_c (P := OkP 106) ⟨ok_get ⟨"java/lang/AbstractStringBuilder", q319, Or.inl rfl⟩ dJ7_newCapacity_8, m_get⟩ (
  lkp_c (P := OkP 106) ⟨(PuOK.ok (ok_ishl dJ7_newCapacity_11)), m_iop⟩ (
  lkp_c (P := OkP 106) ⟨(PuOK.ok (ok_istore_n dJ7_newCapacity_12 rfl)), m_istore⟩ (
  lkp_c (P := OkP 106) ⟨(PuOK.ok (ok_iload_n dJ7_newCapacity_13 rfl)), m_iload⟩ (
  lkp_c (P := OkP 106) ⟨(PuOK.ok (ok_iload_n dJ7_newCapacity_14 rfl)), m_iload⟩ (
  lkp_c (P := OkP 106) ⟨(PuOK.ok (ok_isub dJ7_newCapacity_15)), m_iop⟩ (
  lkp_c (P := OkP 106) ⟨(PuOK.ok (ok_istore dJ7_newCapacity_16)), m_istore⟩ (
  lkp_c (P := OkP 106) ⟨(PuOK.ok (ok_iload_n dJ7_newCapacity_18 rfl)), m_iload⟩ (
  lkp_c (P := OkP 106) ⟨(PuOK.ok (ok_iload dJ7_newCapacity_19)), m_iload⟩ (
  lkp_c (P := OkP 106) ⟨(PuOK.ok (ok_iload_n dJ7_newCapacity_21 rfl)), m_iload⟩ (
  lkp_c (P := OkP 106) ⟨(PuOK.ok (ok_iconst dJ7_newCapacity_22 rfl)), m_push⟩ (
  lkp_c (P := OkP 106) ⟨(PuOK.ok (ok_aload_n dJ7_newCapacity_23 rfl)), m_aload⟩ (
  lkp_c (P := OkP 106) ⟨ok_get ⟨"java/lang/AbstractStringBuilder", q319, Or.inl rfl⟩ dJ7_newCapacity_24, m_get⟩ (
  lkp_c (P := OkP 106) ⟨(PuOK.ok (ok_ishl dJ7_newCapacity_27)), m_iop⟩ (
  lkp_c (P := OkP 106) ⟨(PuOK.ok (ok_iadd dJ7_newCapacity_28)), m_iop⟩ (
  lkp_c (P := OkP 106) ⟨ok_cs (tg_S ⟨rfl, by decide⟩ q352 q353 q129 q354 ⟨cn_2.1, cn_2.2, pd_25⟩ dJ7_newCapacity_29) hd_no, m_cs⟩ (
  lkp_c (P := OkP 106) ⟨(PuOK.ok (ok_istore dJ7_newCapacity_32)), m_istore⟩ (
  lkp_c (P := OkP 106) ⟨(PuOK.ok (ok_iload dJ7_newCapacity_34)), m_iload⟩ (
  lkp_c (P := OkP 106) ⟨(PuOK.ok (ok_ldc q362 dJ7_newCapacity_36)), m_push⟩ (
  lkp_c (P := OkP 106) ⟨(PuOK.ok (ok_icmp_ne dJ7_newCapacity_38 rfl)), m_icmp⟩ (
  lkp_c (P := OkP 106) ⟨(PuOK.ok (ok_dup dJ7_newCapacity_44)), m_dup⟩ (
  lkp_c (P := OkP 106) ⟨(PuOK.ok (ok_iload dJ7_newCapacity_51)), m_iload⟩ (
  lkp_c (P := OkP 106) ⟨(PuOK.ok (ok_aload_n dJ7_newCapacity_53 rfl)), m_aload⟩ (
  lkp_c (P := OkP 106) ⟨ok_get ⟨"java/lang/AbstractStringBuilder", q319, Or.inl rfl⟩ dJ7_newCapacity_54, m_get⟩ (
  lkp_c (P := OkP 106) ⟨(PuOK.ok (ok_ishr dJ7_newCapacity_57)), m_iop⟩ (
  lkp_c (P := OkP 106) ⟨ok_iret rfl rfl (by decide) dJ7_newCapacity_58, m_ret⟩ (
  trivial))))))))))))))))))))))))))))))))
theorem mt_106 : MtOK TB NT IT 106 := ⟨by decide +kernel, rfl, (fun h => by cases h), Or.inl ⟨rfl, rfl⟩, rfl, by decide, lk2_all (P := OkP 106) ⟨c_106_0, trivial⟩⟩
def dkwJ7_isLatin1_0 : List UInt8 := [178, 0, 18, 153, 0, 14, 42, 180, 0, 22, 154, 0, 7, 4, 167, 0, 4, 3, 172]
abbrev dktJ7_isLatin1_0 : List UInt8 := dkwJ7_isLatin1_0 ++ []
theorem dksJ7_isLatin1_0 : cJ7_isLatin1.data.toList.drop 0 = dktJ7_isLatin1_0 := by decide +kernel
theorem dJ7_isLatin1_0 : decode cJ7_isLatin1 0 = .ok (.getstatic 18, 3) := dk_178 0 18 (dk_at dksJ7_isLatin1_0 0 rfl rfl)
theorem dJ7_isLatin1_3 : decode cJ7_isLatin1 3 = .ok (.ifCond .eq 14, 3) := dk_153 0 14 (dk_at dksJ7_isLatin1_0 3 rfl rfl)
theorem dJ7_isLatin1_6 : decode cJ7_isLatin1 6 = .ok (.aload_n 0, 1) := dk_42 (dk_at dksJ7_isLatin1_0 6 rfl rfl)
theorem dJ7_isLatin1_7 : decode cJ7_isLatin1 7 = .ok (.getfield 22, 3) := dk_180 0 22 (dk_at dksJ7_isLatin1_0 7 rfl rfl)
theorem dJ7_isLatin1_10 : decode cJ7_isLatin1 10 = .ok (.ifCond .ne 7, 3) := dk_154 0 7 (dk_at dksJ7_isLatin1_0 10 rfl rfl)
theorem dJ7_isLatin1_13 : decode cJ7_isLatin1 13 = .ok (.iconst 1, 1) := dk_4 (dk_at dksJ7_isLatin1_0 13 rfl rfl)
theorem dJ7_isLatin1_14 : decode cJ7_isLatin1 14 = .ok (.goto 4, 3) := dk_167 0 4 (dk_at dksJ7_isLatin1_0 14 rfl rfl)
theorem dJ7_isLatin1_17 : decode cJ7_isLatin1 17 = .ok (.iconst 0, 1) := dk_3 (dk_at dksJ7_isLatin1_0 17 rfl rfl)
theorem dJ7_isLatin1_18 : decode cJ7_isLatin1 18 = .ok (.ireturn, 1) := dk_172 (dk_at dksJ7_isLatin1_0 18 rfl rfl)
theorem c_107_0 : LkP (OkP 107) [(0, o_push 3 (.int 1)), (3, o_if (fun x => decide (x = 0)) 17), (6, o_aload 0 1), (7, o_get 22), (10, o_if (fun x => decide (¬ x = 0)) 17), (13, o_push 1 (.int 1)), (14, o_goto 18), (17, o_push 1 (.int 0)), (18, o_ret 5)] := lkp_c (P := OkP 107) ⟨ok_gsi (q := ("java/lang/String", "COMPACT_STRINGS", "Z", 1)) (by decide +kernel) q309 dJ7_isLatin1_0, m_push⟩ (
  lkp_c (P := OkP 107) ⟨(PuOK.ok (ok_if_eq dJ7_isLatin1_3 rfl)), m_if⟩ (
  lkp_c (P := OkP 107) ⟨(PuOK.ok (ok_aload_n dJ7_isLatin1_6 rfl)), m_aload⟩ (
  lkp_c (P := OkP 107) ⟨ok_get ⟨"java/lang/AbstractStringBuilder", q319, Or.inl rfl⟩ dJ7_isLatin1_7, m_get⟩ (
  lkp_c (P := OkP 107) ⟨(PuOK.ok (ok_if_ne dJ7_isLatin1_10 rfl)), m_if⟩ (
  lkp_c (P := OkP 107) ⟨(PuOK.ok (ok_iconst dJ7_isLatin1_13 rfl)), m_push⟩ (
  lkp_c (P := OkP 107) ⟨(PuOK.ok (ok_goto dJ7_isLatin1_14 rfl)), m_goto⟩ (
  lkp_c (P := OkP 107) ⟨(PuOK.ok (ok_iconst dJ7_isLatin1_17 rfl)), m_push⟩ (
  lkp_c (P := OkP 107) ⟨ok_iret rfl rfl (by decide) dJ7_isLatin1_18, m_ret⟩ (
  trivial)))))))))
theorem mt_107 : MtOK TB NT IT 107 := ⟨by decide +kernel, rfl, (fun h => by cases h), Or.inl ⟨rfl, rfl⟩, rfl, by decide, lk2_all (P := OkP 107) ⟨c_107_0, trivial⟩⟩
theorem dJ7_getValue_0 : decode cJ7_getValue 0 = .ok (.aload_n 0, 1) := by decide +kernel
theorem dJ7_getValue_1 : decode cJ7_getValue 1 = .ok (.getfield 15, 3) := by decide +kernel
theorem dJ7_getValue_4 : decode cJ7_getValue 4 = .ok (.areturn, 1) := by decide +kernel
theorem c_108_0 : LkP (OkP 108) [(0, o_aload 0 1), (1, o_get 21), (4, o_ret 0)] := lkp_c (P := OkP 108) ⟨(PuOK.ok (ok_aload_n dJ7_getValue_0 rfl)), m_aload⟩ (
  lkp_c (P := OkP 108) ⟨ok_get ⟨"java/lang/AbstractStringBuilder", q318, Or.inl rfl⟩ dJ7_getValue_1, m_get⟩ (
  lkp_c (P := OkP 108) ⟨ok_aret rfl (Or.inr ⟨_, rfl⟩) dJ7_getValue_4, m_ret⟩ (
  trivial)))
theorem mt_108 : MtOK TB NT IT 108 := ⟨by decide +kernel, rfl, (fun h => by cases h), Or.inl ⟨rfl, rfl⟩, rfl, by decide, lk2_all (P := OkP 108) ⟨c_108_0, trivial⟩⟩
theorem dJ7_length_0 : decode cJ7_length 0 = .ok (.aload_n 0, 1) := by decide +kernel
theorem dJ7_length_1 : decode cJ7_length 1 = .ok (.getfield 79, 3) := by decide +kernel
theorem dJ7_length_4 : decode cJ7_length 4 = .ok (.ireturn, 1) := by decide +kernel
theorem c_109_0 : LkP (OkP 109) [(0, o_aload 0 1), (1, o_get 24), (4, o_ret 1)] := lkp_c (P := OkP 109) ⟨(PuOK.ok (ok_aload_n dJ7_length_0 rfl)), m_aload⟩ (
  lkp_c (P := OkP 109) ⟨ok_get ⟨"java/lang/AbstractStringBuilder", q321, Or.inl rfl⟩ dJ7_length_1, m_get⟩ (
  lkp_c (P := OkP 109) ⟨ok_iret rfl rfl (by decide) dJ7_length_4, m_ret⟩ (
  trivial)))
theorem mt_109 : MtOK TB NT IT 109 := ⟨by decide +kernel, rfl, (fun h => by cases h), Or.inl ⟨rfl, rfl⟩, rfl, by decide, lk2_all (P := OkP 109) ⟨c_109_0, trivial⟩⟩
def dkwJ7_append_3_3 : List UInt8 := [181, 0, 79, 27, 184, 0, 197, 42, 176]
abbrev dktJ7_append_3_3 : List UInt8 := dkwJ7_append_3_3 ++ []
def dkwJ7_append_3_2 : List UInt8 := [182, 0, 83, 153, 0, 7, 42, 182, 0, 195, 42, 180, 0, 15, 42, 89, 180, 0, 79, 90, 4, 96]
abbrev dktJ7_append_3_2 : List UInt8 := dkwJ7_append_3_2 ++ dktJ7_append_3_3
def dkwJ7_append_3_1 : List UInt8 := [42, 180, 0, 15, 42, 89, 180, 0, 79, 90, 4, 96, 181, 0, 79, 27, 145, 84, 167, 0, 33, 42]
abbrev dktJ7_append_3_1 : List UInt8 := dkwJ7_append_3_1 ++ dktJ7_append_3_2
def dkwJ7_append_3_0 : List UInt8 := [42, 42, 180, 0, 79, 4, 96, 182, 0, 100, 42, 182, 0, 83, 153, 0, 31, 27, 184, 0, 191, 153, 0, 24]
abbrev dktJ7_append_3_0 : List UInt8 := dkwJ7_append_3_0 ++ dktJ7_append_3_1
theorem dksJ7_append_3_0 : cJ7_append_3.data.toList.drop 0 = dktJ7_append_3_0 := by decide +kernel
theorem dksJ7_append_3_1 : cJ7_append_3.data.toList.drop 24 = dktJ7_append_3_1 := dk_seg dksJ7_append_3_0 24 rfl rfl
theorem dksJ7_append_3_2 : cJ7_append_3.data.toList.drop 46 = dktJ7_append_3_2 := dk_seg dksJ7_append_3_1 22 rfl rfl
theorem dksJ7_append_3_3 : cJ7_append_3.data.toList.drop 68 = dktJ7_append_3_3 := dk_seg dksJ7_append_3_2 22 rfl rfl
theorem dJ7_append_3_0 : decode cJ7_append_3 0 = .ok (.aload_n 0, 1) := dk_42 (dk_at dksJ7_append_3_0 0 rfl rfl)
theorem dJ7_append_3_1 : decode cJ7_append_3 1 = .ok (.aload_n 0, 1) := dk_42 (dk_at dksJ7_append_3_0 1 rfl rfl)
theorem dJ7_append_3_2 : decode cJ7_append_3 2 = .ok (.getfield 79, 3) := dk_180 0 79 (dk_at dksJ7_append_3_0 2 rfl rfl)
theorem dJ7_append_3_5 : decode cJ7_append_3 5 = .ok (.iconst 1, 1) := dk_4 (dk_at dksJ7_append_3_0 5 rfl rfl)
theorem dJ7_append_3_6 : decode cJ7_append_3 6 = .ok (.iadd, 1) := dk_96 (dk_at dksJ7_append_3_0 6 rfl rfl)
theorem dJ7_append_3_7 : decode cJ7_append_3 7 = .ok (.invokevirtual 100, 3) := dk_182 0 100 (dk_at dksJ7_append_3_0 7 rfl rfl)
theorem dJ7_append_3_10 : decode cJ7_append_3 10 = .ok (.aload_n 0, 1) := dk_42 (dk_at dksJ7_append_3_0 10 rfl rfl)
theorem dJ7_append_3_11 : decode cJ7_append_3 11 = .ok (.invokevirtual 83, 3) := dk_182 0 83 (dk_at dksJ7_append_3_0 11 rfl rfl)
theorem dJ7_append_3_14 : decode cJ7_append_3 14 = .ok (.ifCond .eq 31, 3) := dk_153 0 31 (dk_at dksJ7_append_3_0 14 rfl rfl)
theorem dJ7_append_3_17 : decode cJ7_append_3 17 = .ok (.iload_n 1, 1) := dk_27 (dk_at dksJ7_append_3_0 17 rfl rfl)
theorem dJ7_append_3_18 : decode cJ7_append_3 18 = .ok (.invokestatic 191, 3) := dk_184 0 191 (dk_at dksJ7_append_3_0 18 rfl rfl)
theorem dJ7_append_3_21 : decode cJ7_append_3 21 = .ok (.ifCond .eq 24, 3) := dk_153 0 24 (dk_at dksJ7_append_3_0 21 rfl rfl)
theorem dJ7_append_3_24 : decode cJ7_append_3 24 = .ok (.aload_n 0, 1) := dk_42 (dk_at dksJ7_append_3_1 0 rfl rfl)
theorem dJ7_append_3_25 : decode cJ7_append_3 25 = .ok (.getfield 15, 3) := dk_180 0 15 (dk_at dksJ7_append_3_1 1 rfl rfl)
theorem dJ7_append_3_28 : decode cJ7_append_3 28 = .ok (.aload_n 0, 1) := dk_42 (dk_at dksJ7_append_3_1 4 rfl rfl)
theorem dJ7_append_3_29 : decode cJ7_append_3 29 = .ok (.dup, 1) := dk_89 (dk_at dksJ7_append_3_1 5 rfl rfl)
theorem dJ7_append_3_30 : decode cJ7_append_3 30 = .ok (.getfield 79, 3) := dk_180 0 79 (dk_at dksJ7_append_3_1 6 rfl rfl)
theorem dJ7_append_3_33 : decode cJ7_append_3 33 = .ok (.dup_x1, 1) := dk_90 (dk_at dksJ7_append_3_1 9 rfl rfl)
theorem dJ7_append_3_34 : decode cJ7_append_3 34 = .ok (.iconst 1, 1) := dk_4 (dk_at dksJ7_append_3_1 10 rfl rfl)
theorem dJ7_append_3_35 : decode cJ7_append_3 35 = .ok (.iadd, 1) := dk_96 (dk_at dksJ7_append_3_1 11 rfl rfl)
theorem dJ7_append_3_36 : decode cJ7_append_3 36 = .ok (.putfield 79, 3) := dk_181 0 79 (dk_at dksJ7_append_3_1 12 rfl rfl)
theorem dJ7_append_3_39 : decode cJ7_append_3 39 = .ok (.iload_n 1, 1) := dk_27 (dk_at dksJ7_append_3_1 15 rfl rfl)
theorem dJ7_append_3_40 : decode cJ7_append_3 40 = .ok (.i2b, 1) := dk_145 (dk_at dksJ7_append_3_1 16 rfl rfl)
theorem dJ7_append_3_41 : decode cJ7_append_3 41 = .ok (.bastore, 1) := dk_84 (dk_at dksJ7_append_3_1 17 rfl rfl)
theorem dJ7_append_3_42 : decode cJ7_append_3 42 = .ok (.goto 33, 3) := dk_167 0 33 (dk_at dksJ7_append_3_1 18 rfl rfl)
theorem dJ7_append_3_45 : decode cJ7_append_3 45 = .ok (.aload_n 0, 1) := dk_42 (dk_at dksJ7_append_3_1 21 rfl rfl)
theorem dJ7_append_3_46 : decode cJ7_append_3 46 = .ok (.invokevirtual 83, 3) := dk_182 0 83 (dk_at dksJ7_append_3_2 0 rfl rfl)
theorem dJ7_append_3_49 : decode cJ7_append_3 49 = .ok (.ifCond .eq 7, 3) := dk_153 0 7 (dk_at dksJ7_append_3_2 3 rfl rfl)
theorem dJ7_append_3_52 : decode cJ7_append_3 52 = .ok (.aload_n 0, 1) := dk_42 (dk_at dksJ7_append_3_2 6 rfl rfl)
theorem dJ7_append_3_56 : decode cJ7_append_3 56 = .ok (.aload_n 0, 1) := dk_42 (dk_at dksJ7_append_3_2 10 rfl rfl)
theorem dJ7_append_3_57 : decode cJ7_append_3 57 = .ok (.getfield 15, 3) := dk_180 0 15 (dk_at dksJ7_append_3_2 11 rfl rfl)
theorem dJ7_append_3_60 : decode cJ7_append_3 60 = .ok (.aload_n 0, 1) := dk_42 (dk_at dksJ7_append_3_2 14 rfl rfl)
theorem dJ7_append_3_61 : decode cJ7_append_3 61 = .ok (.dup, 1) := dk_89 (dk_at dksJ7_append_3_2 15 rfl rfl)
theorem dJ7_append_3_62 : decode cJ7_append_3 62 = .ok (.getfield 79, 3) := dk_180 0 79 (dk_at dksJ7_append_3_2 16 rfl rfl)
theorem dJ7_append_3_65 : decode cJ7_append_3 65 = .ok (.dup_x1, 1) := dk_90 (dk_at dksJ7_append_3_2 19 rfl rfl)
theorem dJ7_append_3_66 : decode cJ7_append_3 66 = .ok (.iconst 1, 1) := dk_4 (dk_at dksJ7_append_3_2 20 rfl rfl)
theorem dJ7_append_3_67 : decode cJ7_append_3 67 = .ok (.iadd, 1) := dk_96 (dk_at dksJ7_append_3_2 21 rfl rfl)
theorem dJ7_append_3_68 : decode cJ7_append_3 68 = .ok (.putfield 79, 3) := dk_181 0 79 (dk_at dksJ7_append_3_3 0 rfl rfl)
theorem dJ7_append_3_71 : decode cJ7_append_3 71 = .ok (.iload_n 1, 1) := dk_27 (dk_at dksJ7_append_3_3 3 rfl rfl)
theorem dJ7_append_3_75 : decode cJ7_append_3 75 = .ok (.aload_n 0, 1) := dk_42 (dk_at dksJ7_append_3_3 7 rfl rfl)
theorem dJ7_append_3_76 : decode cJ7_append_3 76 = .ok (.areturn, 1) := dk_176 (dk_at dksJ7_append_3_3 8 rfl rfl)
theorem c_110_0 : LkP (OkP 110) [(0, o_aload 0 1), (1, o_aload 0 1), (2, o_get 24), (5, o_push 1 (.int 1)), (6, o_iop (fun x y => x + y)), (7, o_cv [(4, 105)] 1 3 true none), (10, o_aload 0 1), (11, o_cv [(4, 107)] 0 3 false none), (14, o_if (fun x => decide (x = 0)) 45), (17, o_iload 1 1), (18, o_cs 18 1 false none), (21, o_if (fun x => decide (x = 0)) 45), (24, o_aload 0 1), (25, o_get 21), (28, o_aload 0 1), (29, o_dup), (30, o_get 24), (33, o_dupx1), (34, o_push 1 (.int 1)), (35, o_iop (fun x y => x + y)), (36, o_put 24 1), (39, o_iload 1 1), (40, o_ii (fun x => x.toInt8.toInt32)), (41, o_wrI 1), (42, o_goto 75), (45, o_aload 0 1), (46, o_cv [(4, 107)] 0 3 false none), (49, o_if (fun x => decide (x = 0)) 56), (52, o_aload 0 1), (56, o_aload 0 1), (57, o_get 21), (60, o_aload 0 1), (61, o_dup), (62, o_get 24)] := lkp_c (P := OkP 110) ⟨(PuOK.ok (ok_aload_n dJ7_append_3_0 rfl)), m_aload⟩ (
  lkp_c (P := OkP 110) ⟨(PuOK.ok (ok_aload_n dJ7_append_3_1 rfl)), m_aload⟩ (
  lkp_c (P := OkP 110) ⟨ok_get ⟨"java/lang/AbstractStringBuilder", q321, Or.inl rfl⟩ dJ7_append_3_2, m_get⟩ (
  lkp_c (P := OkP 110) ⟨(PuOK.ok (ok_iconst dJ7_append_3_5 rfl)), m_push⟩ (
  lkp_c (P := OkP 110) ⟨(PuOK.ok (ok_iadd dJ7_append_3_6)), m_iop⟩ (
  lkp_c (P := OkP 110) ⟨ok_cv (List.forall_mem_cons.mpr ⟨tg_P (ci := 4) (r := CLr 4) (y := 105) rfl ⟨rfl, by decide⟩ q344 q3699 q345 q346 q125 q347 ⟨cn_31.1, cn_31.2, pd_9⟩ dJ7_append_3_7, (List.forall_mem_nil _)⟩) hd_no, m_cv⟩ (
  lkp_c (P := OkP 110) ⟨(PuOK.ok (ok_aload_n dJ7_append_3_10 rfl)), m_aload⟩ (
  lkp_c (P := OkP 110) ⟨ok_cv (List.forall_mem_cons.mpr ⟨tg_U (ci := 4) (r := CLr 4) (y := 107) rfl (owner := "java/lang/AbstractStringBuilder") ⟨rfl, by decide⟩ q379 q381 q382 q380 q125 q383 ⟨cn_31.1, cn_31.2, pd_50⟩ rfl dJ7_append_3_11, (List.forall_mem_nil _)⟩) hd_no, m_cv⟩ (
  lkp_c (P := OkP 110) ⟨(PuOK.ok (ok_if_eq dJ7_append_3_14 rfl)), m_if⟩ (
  lkp_c (P := OkP 110) ⟨(PuOK.ok (ok_iload_n dJ7_append_3_17 rfl)), m_iload⟩ (
  lkp_c (P := OkP 110) ⟨ok_cs (tg_S ⟨rfl, by decide⟩ q1299 q1300 q134 q1301 ⟨cn_32.1, cn_32.2, pd_51⟩ dJ7_append_3_18) hd_no, m_cs⟩ (
  lkp_c (P := OkP 110) ⟨(PuOK.ok (ok_if_eq dJ7_append_3_21 rfl)), m_if⟩ (
  lkp_c (P := OkP 110) ⟨(PuOK.ok (ok_aload_n dJ7_append_3_24 rfl)), m_aload⟩ (
  lkp_c (P := OkP 110) ⟨ok_get ⟨"java/lang/AbstractStringBuilder", q318, Or.inl rfl⟩ dJ7_append_3_25, m_get⟩ (
  lkp_c (P := OkP 110) ⟨(PuOK.ok (ok_aload_n dJ7_append_3_28 rfl)), m_aload⟩ (
  lkp_c (P := OkP 110) ⟨(PuOK.ok (ok_dup dJ7_append_3_29)), m_dup⟩ (
  lkp_c (P := OkP 110) ⟨ok_get ⟨"java/lang/AbstractStringBuilder", q321, Or.inl rfl⟩ dJ7_append_3_30, m_get⟩ (
  lkp_c (P := OkP 110) ⟨(PuOK.ok (ok_dupx1 dJ7_append_3_33)), m_dupx1⟩ (
  lkp_c (P := OkP 110) ⟨(PuOK.ok (ok_iconst dJ7_append_3_34 rfl)), m_push⟩ (
  lkp_c (P := OkP 110) ⟨(PuOK.ok (ok_iadd dJ7_append_3_35)), m_iop⟩ (
  lkp_c (P := OkP 110) ⟨ok_put ⟨"java/lang/AbstractStringBuilder", q321, Or.inl rfl⟩ rfl fd_24 rfl dJ7_append_3_36, m_put⟩ (
  lkp_c (P := OkP 110) ⟨(PuOK.ok (ok_iload_n dJ7_append_3_39 rfl)), m_iload⟩ (
  lkp_c (P := OkP 110) ⟨(PuOK.ok (ok_i2b dJ7_append_3_40)), m_ii⟩ (
  lkp_c (P := OkP 110) ⟨ok_bast dJ7_append_3_41, m_wrI⟩ (
  lkp_c (P := OkP 110) ⟨(PuOK.ok (ok_goto dJ7_append_3_42 rfl)), m_goto⟩ (
  lkp_c (P := OkP 110) ⟨(PuOK.ok (ok_aload_n dJ7_append_3_45 rfl)), m_aload⟩ (
  lkp_c (P := OkP 110) ⟨ok_cv (List.forall_mem_cons.mpr ⟨tg_U (ci := 4) (r := CLr 4) (y := 107) rfl (owner := "java/lang/AbstractStringBuilder") ⟨rfl, by decide⟩ q379 q381 q382 q380 q125 q383 ⟨cn_31.1, cn_31.2, pd_50⟩ rfl dJ7_append_3_46, (List.forall_mem_nil _)⟩) hd_no, m_cv⟩ (
  lkp_c (P := OkP 110) ⟨(PuOK.ok (ok_if_eq dJ7_append_3_49 rfl)), m_if⟩ (
  lkp_c (P := OkP 110) ⟨(PuOK.ok (ok_aload_n dJ7_append_3_52 rfl)), m_aload⟩ (
  lkp_c (P := OkP 110) ⟨(PuOK.ok (ok_aload_n dJ7_append_3_56 rfl)), m_aload⟩ (
  lkp_c (P := OkP 110) ⟨ok_get ⟨"java/lang/AbstractStringBuilder", q318, Or.inl rfl⟩ dJ7_append_3_57, m_get⟩ (
  lkp_c (P := OkP 110) ⟨(PuOK.ok (ok_aload_n dJ7_append_3_60 rfl)), m_aload⟩ (
  lkp_c (P := OkP 110) ⟨(PuOK.ok (ok_dup dJ7_append_3_61)), m_dup⟩ (
  lkp_c (P := OkP 110) ⟨ok_get ⟨"java/lang/AbstractStringBuilder", q321, Or.inl rfl⟩ dJ7_append_3_62, m_get⟩ (
  trivial))))))))))))))))))))))))))))))))))
theorem c_110_1 : LkP (OkP 110) [(65, o_dupx1), (66, o_push 1 (.int 1)), (67, o_iop (fun x y => x + y)), (68, o_put 24 1), (71, o_iload 1 1), (75, o_aload 0 1), (76, o_ret 0)] := lkp_c (P := OkP 110) ⟨(PuOK.ok (ok_dupx1 dJ7_append_3_65)), m_dupx1⟩ (
  lkp_c (P := OkP 110) ⟨(PuOK.ok (ok_iconst dJ7_append_3_66 rfl)), m_push⟩ (
  lkp_c (P := OkP 110) ⟨(PuOK.ok (ok_iadd dJ7_append_3_67)), m_iop⟩ (
  lkp_c (P := OkP 110) ⟨ok_put ⟨"java/lang/AbstractStringBuilder", q321, Or.inl rfl⟩ rfl fd_24 rfl dJ7_append_3_68, m_put⟩ (
  lkp_c (P := OkP 110) ⟨(PuOK.ok (ok_iload_n dJ7_append_3_71 rfl)), m_iload⟩ (
  lkp_c (P := OkP 110) ⟨(PuOK.ok (ok_aload_n dJ7_append_3_75 rfl)), m_aload⟩ (
  lkp_c (P := OkP 110) ⟨ok_aret rfl (Or.inl ⟨_, rfl⟩) dJ7_append_3_76, m_ret⟩ (
  trivial)))))))
theorem mt_110 : MtOK TB NT IT 110 := ⟨by decide +kernel, rfl, (fun h => by cases h), Or.inl ⟨rfl, rfl⟩, rfl, by decide, lk2_all (P := OkP 110) ⟨c_110_0, c_110_1, trivial⟩⟩
def dkwJ8_init_0 : List UInt8 := [42, 16, 16, 183, 0, 1, 177]
abbrev dktJ8_init_0 : List UInt8 := dkwJ8_init_0 ++ []
theorem dksJ8_init_0 : cJ8_init.data.toList.drop 0 = dktJ8_init_0 := by decide +kernel
theorem dJ8_init_0 : decode cJ8_init 0 = .ok (.aload_n 0, 1) := dk_42 (dk_at dksJ8_init_0 0 rfl rfl)
theorem dJ8_init_1 : decode cJ8_init 1 = .ok (.bipush 16, 2) := dk_16 16 (dk_at dksJ8_init_0 1 rfl rfl)
theorem dJ8_init_3 : decode cJ8_init 3 = .ok (.invokespecial 1, 3) := dk_183 0 1 (dk_at dksJ8_init_0 3 rfl rfl)
theorem dJ8_init_6 : decode cJ8_init 6 = .ok (.return_, 1) := dk_177 (dk_at dksJ8_init_0 6 rfl rfl)
theorem c_111_0 : LkP (OkP 111) [(0, o_aload 0 1), (1, o_push 2 (.int 16)), (3, o_ci 104 1), (6, o_vret)] := lkp_c (P := OkP 111) ⟨(PuOK.ok (ok_aload_n dJ8_init_0 rfl)), m_aload⟩ (
  lkp_c (P := OkP 111) ⟨(PuOK.ok (ok_bipush dJ8_init_1 rfl)), m_push⟩ (
  lkp_c (P := OkP 111) ⟨ok_ci (tg_I (rt := none) ⟨rfl, by decide⟩ rfl q305 q306 q125 q307 ⟨cn_31.1, cn_31.2, pd_9⟩ dJ8_init_3) hd_no, m_ci⟩ (
  lkp_c (P := OkP 111) ⟨ok_vret rfl dJ8_init_6, m_vret⟩ (
  trivial))))
theorem mt_111 : MtOK TB NT IT 111 := ⟨by decide +kernel, rfl, fun _ => rfl, Or.inl ⟨rfl, rfl⟩, rfl, by decide, lk2_all (P := OkP 111) ⟨c_111_0, trivial⟩⟩
def dkwJ8_toString_0 : List UInt8 := [187, 0, 18, 89, 42, 183, 0, 137, 176]
abbrev dktJ8_toString_0 : List UInt8 := dkwJ8_toString_0 ++ []
theorem dksJ8_toString_0 : cJ8_toString.data.toList.drop 0 = dktJ8_toString_0 := by decide +kernel
theorem dJ8_toString_0 : decode cJ8_toString 0 = .ok (.new 18, 3) := dk_187 0 18 (dk_at dksJ8_toString_0 0 rfl rfl)
theorem dJ8_toString_3 : decode cJ8_toString 3 = .ok (.dup, 1) := dk_89 (dk_at dksJ8_toString_0 3 rfl rfl)
theorem dJ8_toString_4 : decode cJ8_toString 4 = .ok (.aload_n 0, 1) := dk_42 (dk_at dksJ8_toString_0 4 rfl rfl)
theorem dJ8_toString_5 : decode cJ8_toString 5 = .ok (.invokespecial 137, 3) := dk_183 0 137 (dk_at dksJ8_toString_0 5 rfl rfl)
theorem dJ8_toString_8 : decode cJ8_toString 8 = .ok (.areturn, 1) := dk_176 (dk_at dksJ8_toString_0 8 rfl rfl)
theorem c_112_0 : LkP (OkP 112) [(0, o_new 5 4 dv5), (3, o_dup), (4, o_aload 0 1), (5, o_ci 117 1), (8, o_ret 0)] := lkp_c (P := OkP 112) ⟨ok_new (ci := 5) (r := CLr 5) rfl dvok_5 q482 q483 q127 dJ8_toString_0, m_new⟩ (
  lkp_c (P := OkP 112) ⟨(PuOK.ok (ok_dup dJ8_toString_3)), m_dup⟩ (
  lkp_c (P := OkP 112) ⟨(PuOK.ok (ok_aload_n dJ8_toString_4 rfl)), m_aload⟩ (
  lkp_c (P := OkP 112) ⟨ok_ci (tg_I (rt := none) ⟨rfl, by decide⟩ rfl q484 q485 q127 q486 ⟨cn_5.1, cn_5.2, pd_52⟩ dJ8_toString_5) hd_no, m_ci⟩ (
  lkp_c (P := OkP 112) ⟨ok_aret rfl (Or.inl ⟨_, rfl⟩) dJ8_toString_8, m_ret⟩ (
  trivial)))))
theorem mt_112 : MtOK TB NT IT 112 := ⟨by decide +kernel, rfl, (fun h => by cases h), Or.inl ⟨rfl, rfl⟩, rfl, by decide, lk2_all (P := OkP 112) ⟨c_112_0, trivial⟩⟩
theorem dJ8_length_0 : decode cJ8_length 0 = .ok (.aload_n 0, 1) := by decide +kernel
theorem dJ8_length_1 : decode cJ8_length 1 = .ok (.invokespecial 343, 3) := by decide +kernel
theorem dJ8_length_4 : decode cJ8_length 4 = .ok (.ireturn, 1) := by decide +kernel
theorem c_113_0 : LkP (OkP 113) [(0, o_aload 0 1), (1, o_cv [(4, 109)] 0 3 false none), (4, o_ret 1)] := lkp_c (P := OkP 113) ⟨(PuOK.ok (ok_aload_n dJ8_length_0 rfl)), m_aload⟩ (
  lkp_c (P := OkP 113) ⟨ok_cv (List.forall_mem_cons.mpr ⟨tg_SU (ci := 4) (r := CLr 4) (y := 109) rfl ⟨rfl, by decide⟩ q502 q498 q330 q497 q125 q503 ⟨by decide +kernel, pd_13⟩ dJ8_length_1, (List.forall_mem_nil _)⟩) hd_no, m_cv⟩ (
  lkp_c (P := OkP 113) ⟨ok_iret rfl rfl (by decide) dJ8_length_4, m_ret⟩ (
  trivial)))
theorem mt_113 : MtOK TB NT IT 113 := ⟨by decide +kernel, rfl, (fun h => by cases h), Or.inl ⟨rfl, rfl⟩, rfl, by decide, lk2_all (P := OkP 113) ⟨c_113_0, trivial⟩⟩
def dkwJ8_append_3_0 : List UInt8 := [42, 27, 183, 0, 50, 87, 42, 176]
abbrev dktJ8_append_3_0 : List UInt8 := dkwJ8_append_3_0 ++ []
theorem dksJ8_append_3_0 : cJ8_append_3.data.toList.drop 0 = dktJ8_append_3_0 := by decide +kernel
theorem dJ8_append_3_0 : decode cJ8_append_3 0 = .ok (.aload_n 0, 1) := dk_42 (dk_at dksJ8_append_3_0 0 rfl rfl)
theorem dJ8_append_3_1 : decode cJ8_append_3 1 = .ok (.iload_n 1, 1) := dk_27 (dk_at dksJ8_append_3_0 1 rfl rfl)
theorem dJ8_append_3_2 : decode cJ8_append_3 2 = .ok (.invokespecial 50, 3) := dk_183 0 50 (dk_at dksJ8_append_3_0 2 rfl rfl)
theorem dJ8_append_3_5 : decode cJ8_append_3 5 = .ok (.pop, 1) := dk_87 (dk_at dksJ8_append_3_0 5 rfl rfl)
theorem dJ8_append_3_6 : decode cJ8_append_3 6 = .ok (.aload_n 0, 1) := dk_42 (dk_at dksJ8_append_3_0 6 rfl rfl)
theorem dJ8_append_3_7 : decode cJ8_append_3 7 = .ok (.areturn, 1) := dk_176 (dk_at dksJ8_append_3_0 7 rfl rfl)
theorem c_114_0 : LkP (OkP 114) [(0, o_aload 0 1), (1, o_iload 1 1), (2, o_cv [(4, 110)] 1 3 false none), (5, o_pop), (6, o_aload 0 1), (7, o_ret 0)] := lkp_c (P := OkP 114) ⟨(PuOK.ok (ok_aload_n dJ8_append_3_0 rfl)), m_aload⟩ (
  lkp_c (P := OkP 114) ⟨(PuOK.ok (ok_iload_n dJ8_append_3_1 rfl)), m_iload⟩ (
  lkp_c (P := OkP 114) ⟨ok_cv (List.forall_mem_cons.mpr ⟨tg_SU (ci := 4) (r := CLr 4) (y := 110) rfl ⟨rfl, by decide⟩ q1296 q3706 q330 q1297 q125 q1298 ⟨by decide +kernel, pd_53⟩ dJ8_append_3_2, (List.forall_mem_nil _)⟩) hd_no, m_cv⟩ (
  lkp_c (P := OkP 114) ⟨(PuOK.ok (ok_pop dJ8_append_3_5)), m_pop⟩ (
  lkp_c (P := OkP 114) ⟨(PuOK.ok (ok_aload_n dJ8_append_3_6 rfl)), m_aload⟩ (
  lkp_c (P := OkP 114) ⟨ok_aret rfl (Or.inl ⟨_, rfl⟩) dJ8_append_3_7, m_ret⟩ (
  trivial))))))
theorem mt_114 : MtOK TB NT IT 114 := ⟨by decide +kernel, rfl, (fun h => by cases h), Or.inl ⟨rfl, rfl⟩, rfl, by decide, lk2_all (P := OkP 114) ⟨c_114_0, trivial⟩⟩
def dkwJ9_length_0 : List UInt8 := [42, 180, 0, 9, 190, 42, 182, 1, 79, 122, 172]
abbrev dktJ9_length_0 : List UInt8 := dkwJ9_length_0 ++ []
theorem dksJ9_length_0 : cJ9_length.data.toList.drop 0 = dktJ9_length_0 := by decide +kernel
theorem dJ9_length_0 : decode cJ9_length 0 = .ok (.aload_n 0, 1) := dk_42 (dk_at dksJ9_length_0 0 rfl rfl)
theorem dJ9_length_1 : decode cJ9_length 1 = .ok (.getfield 9, 3) := dk_180 0 9 (dk_at dksJ9_length_0 1 rfl rfl)
theorem dJ9_length_4 : decode cJ9_length 4 = .ok (.arraylength, 1) := dk_190 (dk_at dksJ9_length_0 4 rfl rfl)
theorem dJ9_length_5 : decode cJ9_length 5 = .ok (.aload_n 0, 1) := dk_42 (dk_at dksJ9_length_0 5 rfl rfl)
theorem dJ9_length_6 : decode cJ9_length 6 = .ok (.invokevirtual 335, 3) := dk_182 1 79 (dk_at dksJ9_length_0 6 rfl rfl)
theorem dJ9_length_9 : decode cJ9_length 9 = .ok (.ishr, 1) := dk_122 (dk_at dksJ9_length_0 9 rfl rfl)
theorem dJ9_length_10 : decode cJ9_length 10 = .ok (.ireturn, 1) := dk_172 (dk_at dksJ9_length_0 10 rfl rfl)
theorem c_115_0 : LkP (OkP 115) [(0, o_aload 0 1), (1, o_gets 25), (4, o_alens), (5, o_aload 0 1), (6, o_cvs [(5, 116)] 0 3 false), (9, o_iop (fun x y => x >>> (y &&& 31))), (10, o_ret 1)] := lkp_c (P := OkP 115) ⟨(PuOK.ok (ok_aload_n dJ9_length_0 rfl)), m_aload⟩ (
  lkp_c (P := OkP 115) ⟨ok_gets ⟨"java/lang/String", q559, Or.inl rfl⟩ dJ9_length_1, m_gets⟩ (
  lkp_c (P := OkP 115) ⟨ok_alens dJ9_length_4, m_alens⟩ (
  lkp_c (P := OkP 115) ⟨(PuOK.ok (ok_aload_n dJ9_length_5 rfl)), m_aload⟩ (
  lkp_c (P := OkP 115) ⟨ok_cvs (List.forall_mem_cons.mpr ⟨tg_V (ci := 5) (r := CLr 5) (y := 116) rfl ⟨rfl, by decide⟩ rfl q414 q415 q416 q127 q417 ⟨cn_5.1, cn_5.2, pd_54⟩ dJ9_length_6, (List.forall_mem_nil _)⟩) hd_no, m_cvs⟩ (
  lkp_c (P := OkP 115) ⟨(PuOK.ok (ok_ishr dJ9_length_9)), m_iop⟩ (
  lkp_c (P := OkP 115) ⟨ok_iret rfl rfl (by decide) dJ9_length_10, m_ret⟩ (
  trivial)))))))
theorem mt_115 : MtOK TB NT IT 115 := ⟨by decide +kernel, rfl, (fun h => by cases h), Or.inl ⟨rfl, rfl⟩, rfl, by decide, lk2_all (P := OkP 115) ⟨c_115_0, trivial⟩⟩
def dkwJ9_coder_0 : List UInt8 := [178, 0, 38, 153, 0, 10, 42, 180, 0, 15, 167, 0, 4, 4, 172]
abbrev dktJ9_coder_0 : List UInt8 := dkwJ9_coder_0 ++ []
theorem dksJ9_coder_0 : cJ9_coder.data.toList.drop 0 = dktJ9_coder_0 := by decide +kernel
theorem dJ9_coder_0 : decode cJ9_coder 0 = .ok (.getstatic 38, 3) := dk_178 0 38 (dk_at dksJ9_coder_0 0 rfl rfl)
theorem dJ9_coder_3 : decode cJ9_coder 3 = .ok (.ifCond .eq 10, 3) := dk_153 0 10 (dk_at dksJ9_coder_0 3 rfl rfl)
theorem dJ9_coder_6 : decode cJ9_coder 6 = .ok (.aload_n 0, 1) := dk_42 (dk_at dksJ9_coder_0 6 rfl rfl)
theorem dJ9_coder_7 : decode cJ9_coder 7 = .ok (.getfield 15, 3) := dk_180 0 15 (dk_at dksJ9_coder_0 7 rfl rfl)
theorem dJ9_coder_10 : decode cJ9_coder 10 = .ok (.goto 4, 3) := dk_167 0 4 (dk_at dksJ9_coder_0 10 rfl rfl)
theorem dJ9_coder_13 : decode cJ9_coder 13 = .ok (.iconst 1, 1) := dk_4 (dk_at dksJ9_coder_0 13 rfl rfl)
theorem dJ9_coder_14 : decode cJ9_coder 14 = .ok (.ireturn, 1) := dk_172 (dk_at dksJ9_coder_0 14 rfl rfl)
theorem c_116_0 : LkP (OkP 116) [(0, o_push 3 (.int 1)), (3, o_if (fun x => decide (x = 0)) 13), (6, o_aload 0 1), (7, o_gets 26), (10, o_goto 14), (13, o_push 1 (.int 1)), (14, o_ret 6)] := lkp_c (P := OkP 116) ⟨ok_gsi (q := ("java/lang/String", "COMPACT_STRINGS", "Z", 1)) (by decide +kernel) q418 dJ9_coder_0, m_push⟩ (
  lkp_c (P := OkP 116) ⟨(PuOK.ok (ok_if_eq dJ9_coder_3 rfl)), m_if⟩ (
  lkp_c (P := OkP 116) ⟨(PuOK.ok (ok_aload_n dJ9_coder_6 rfl)), m_aload⟩ (
  lkp_c (P := OkP 116) ⟨ok_gets ⟨"java/lang/String", q560, Or.inl rfl⟩ dJ9_coder_7, m_gets⟩ (
  lkp_c (P := OkP 116) ⟨(PuOK.ok (ok_goto dJ9_coder_10 rfl)), m_goto⟩ (
  lkp_c (P := OkP 116) ⟨(PuOK.ok (ok_iconst dJ9_coder_13 rfl)), m_push⟩ (
  lkp_c (P := OkP 116) ⟨ok_iret rfl rfl (by decide) dJ9_coder_14, m_ret⟩ (
  trivial)))))))
theorem mt_116 : MtOK TB NT IT 116 := ⟨by decide +kernel, rfl, (fun h => by cases h), Or.inl ⟨rfl, rfl⟩, rfl, by decide, lk2_all (P := OkP 116) ⟨c_116_0, trivial⟩⟩
def dkwJ9_init_0 : List UInt8 := [42, 43, 1, 183, 1, 233, 177]
abbrev dktJ9_init_0 : List UInt8 := dkwJ9_init_0 ++ []
theorem dksJ9_init_0 : cJ9_init.data.toList.drop 0 = dktJ9_init_0 := by decide +kernel
theorem dJ9_init_0 : decode cJ9_init 0 = .ok (.aload_n 0, 1) := dk_42 (dk_at dksJ9_init_0 0 rfl rfl)
theorem dJ9_init_1 : decode cJ9_init 1 = .ok (.aload_n 1, 1) := dk_43 (dk_at dksJ9_init_0 1 rfl rfl)
theorem dJ9_init_2 : decode cJ9_init 2 = .ok (.aconst_null, 1) := dk_1 (dk_at dksJ9_init_0 2 rfl rfl)
theorem dJ9_init_3 : decode cJ9_init 3 = .ok (.invokespecial 489, 3) := dk_183 1 233 (dk_at dksJ9_init_0 3 rfl rfl)
theorem dJ9_init_6 : decode cJ9_init 6 = .ok (.return_, 1) := dk_177 (dk_at dksJ9_init_0 6 rfl rfl)
theorem c_117_0 : LkP (OkP 117) [(0, o_aload 0 1), (1, o_aload 1 1), (2, o_push 1 .null), (3, o_ci 118 2), (6, o_vret)] := lkp_c (P := OkP 117) ⟨(PuOK.ok (ok_aload_n dJ9_init_0 rfl)), m_aload⟩ (
  lkp_c (P := OkP 117) ⟨(PuOK.ok (ok_aload_n dJ9_init_1 rfl)), m_aload⟩ (
  lkp_c (P := OkP 117) ⟨(PuOK.ok (ok_null dJ9_init_2)), m_push⟩ (
  lkp_c (P := OkP 117) ⟨ok_ci (tg_I (rt := none) ⟨rfl, by decide⟩ rfl q487 q488 q127 q489 ⟨cn_5.1, cn_5.2, pd_55⟩ dJ9_init_3) hd_no, m_ci⟩ (
  lkp_c (P := OkP 117) ⟨ok_vret rfl dJ9_init_6, m_vret⟩ (
  trivial)))))
theorem mt_117 : MtOK TB NT IT 117 := ⟨by decide +kernel, rfl, fun _ => rfl, Or.inl ⟨rfl, rfl⟩, rfl, by decide, lk2_all (P := OkP 117) ⟨c_117_0, trivial⟩⟩
def dkwJ9_init_2_4 : List UInt8 := [181, 0, 9, 177]
abbrev dktJ9_init_2_4 : List UInt8 := dkwJ9_init_2_4 ++ []
def dkwJ9_init_2_3 : List UInt8 := [184, 0, 47, 181, 0, 15, 177, 42, 4, 181, 0, 15, 42, 45, 3, 21, 4, 4, 120, 184, 0, 54]
abbrev dktJ9_init_2_3 : List UInt8 := dkwJ9_init_2_3 ++ dktJ9_init_2_4
def dkwJ9_init_2_2 : List UInt8 := [180, 4, 24, 153, 0, 28, 42, 45, 3, 21, 4, 184, 4, 27, 181, 0, 9, 42, 42, 180, 0, 9, 21, 4]
abbrev dktJ9_init_2_2 : List UInt8 := dkwJ9_init_2_2 ++ dktJ9_init_2_3
def dkwJ9_init_2_1 : List UInt8 := [181, 0, 15, 42, 45, 3, 21, 4, 184, 0, 54, 181, 0, 9, 167, 0, 59, 178, 0, 38, 153, 0, 35, 43]
abbrev dktJ9_init_2_1 : List UInt8 := dkwJ9_init_2_1 ++ dktJ9_init_2_2
def dkwJ9_init_2_0 : List UInt8 := [42, 183, 0, 1, 43, 182, 2, 40, 78, 43, 182, 2, 37, 54, 4, 43, 182, 4, 23, 153, 0, 22, 42, 3]
abbrev dktJ9_init_2_0 : List UInt8 := dkwJ9_init_2_0 ++ dktJ9_init_2_1
theorem dksJ9_init_2_0 : cJ9_init_2.data.toList.drop 0 = dktJ9_init_2_0 := by decide +kernel
theorem dksJ9_init_2_1 : cJ9_init_2.data.toList.drop 24 = dktJ9_init_2_1 := dk_seg dksJ9_init_2_0 24 rfl rfl
theorem dksJ9_init_2_2 : cJ9_init_2.data.toList.drop 48 = dktJ9_init_2_2 := dk_seg dksJ9_init_2_1 24 rfl rfl
theorem dksJ9_init_2_3 : cJ9_init_2.data.toList.drop 72 = dktJ9_init_2_3 := dk_seg dksJ9_init_2_2 24 rfl rfl
theorem dksJ9_init_2_4 : cJ9_init_2.data.toList.drop 94 = dktJ9_init_2_4 := dk_seg dksJ9_init_2_3 22 rfl rfl
theorem dJ9_init_2_0 : decode cJ9_init_2 0 = .ok (.aload_n 0, 1) := dk_42 (dk_at dksJ9_init_2_0 0 rfl rfl)
theorem dJ9_init_2_1 : decode cJ9_init_2 1 = .ok (.invokespecial 1, 3) := dk_183 0 1 (dk_at dksJ9_init_2_0 1 rfl rfl)
theorem dJ9_init_2_4 : decode cJ9_init_2 4 = .ok (.aload_n 1, 1) := dk_43 (dk_at dksJ9_init_2_0 4 rfl rfl)
theorem dJ9_init_2_5 : decode cJ9_init_2 5 = .ok (.invokevirtual 552, 3) := dk_182 2 40 (dk_at dksJ9_init_2_0 5 rfl rfl)
theorem dJ9_init_2_8 : decode cJ9_init_2 8 = .ok (.astore_n 3, 1) := dk_78 (dk_at dksJ9_init_2_0 8 rfl rfl)
theorem dJ9_init_2_9 : decode cJ9_init_2 9 = .ok (.aload_n 1, 1) := dk_43 (dk_at dksJ9_init_2_0 9 rfl rfl)
theorem dJ9_init_2_10 : decode cJ9_init_2 10 = .ok (.invokevirtual 549, 3) := dk_182 2 37 (dk_at dksJ9_init_2_0 10 rfl rfl)
theorem dJ9_init_2_13 : decode cJ9_init_2 13 = .ok (.istore 4, 2) := dk_54 4 (dk_at dksJ9_init_2_0 13 rfl rfl)
theorem dJ9_init_2_15 : decode cJ9_init_2 15 = .ok (.aload_n 1, 1) := dk_43 (dk_at dksJ9_init_2_0 15 rfl rfl)
theorem dJ9_init_2_16 : decode cJ9_init_2 16 = .ok (.invokevirtual 1047, 3) := dk_182 4 23 (dk_at dksJ9_init_2_0 16 rfl rfl)
theorem dJ9_init_2_19 : decode cJ9_init_2 19 = .ok (.ifCond .eq 22, 3) := dk_153 0 22 (dk_at dksJ9_init_2_0 19 rfl rfl)
theorem dJ9_init_2_22 : decode cJ9_init_2 22 = .ok (.aload_n 0, 1) := dk_42 (dk_at dksJ9_init_2_0 22 rfl rfl)
theorem dJ9_init_2_23 : decode cJ9_init_2 23 = .ok (.iconst 0, 1) := dk_3 (dk_at dksJ9_init_2_0 23 rfl rfl)
theorem dJ9_init_2_24 : decode cJ9_init_2 24 = .ok (.putfield 15, 3) := dk_181 0 15 (dk_at dksJ9_init_2_1 0 rfl rfl)
theorem dJ9_init_2_27 : decode cJ9_init_2 27 = .ok (.aload_n 0, 1) := dk_42 (dk_at dksJ9_init_2_1 3 rfl rfl)
theorem dJ9_init_2_28 : decode cJ9_init_2 28 = .ok (.aload_n 3, 1) := dk_45 (dk_at dksJ9_init_2_1 4 rfl rfl)
theorem dJ9_init_2_29 : decode cJ9_init_2 29 = .ok (.iconst 0, 1) := dk_3 (dk_at dksJ9_init_2_1 5 rfl rfl)
theorem dJ9_init_2_30 : decode cJ9_init_2 30 = .ok (.iload 4, 2) := dk_21 4 (dk_at dksJ9_init_2_1 6 rfl rfl)
theorem dJ9_init_2_32 : decode cJ9_init_2 32 = .ok (.invokestatic 54, 3) := dk_184 0 54 (dk_at dksJ9_init_2_1 8 rfl rfl)
theorem dJ9_init_2_35 : decode cJ9_init_2 35 = .ok (.putfield 9, 3) := dk_181 0 9 (dk_at dksJ9_init_2_1 11 rfl rfl)
theorem dJ9_init_2_38 : decode cJ9_init_2 38 = .ok (.goto 59, 3) := dk_167 0 59 (dk_at dksJ9_init_2_1 14 rfl rfl)
theorem dJ9_init_2_41 : decode cJ9_init_2 41 = .ok (.getstatic 38, 3) := dk_178 0 38 (dk_at dksJ9_init_2_1 17 rfl rfl)
theorem dJ9_init_2_44 : decode cJ9_init_2 44 = .ok (.ifCond .eq 35, 3) := dk_153 0 35 (dk_at dksJ9_init_2_1 20 rfl rfl)
theorem dJ9_init_2_47 : decode cJ9_init_2 47 = .ok (.aload_n 1, 1) := dk_43 (dk_at dksJ9_init_2_1 23 rfl rfl)
theorem dJ9_init_2_48 : decode cJ9_init_2 48 = .ok (.getfield 1048, 3) := dk_180 4 24 (dk_at dksJ9_init_2_2 0 rfl rfl)
theorem dJ9_init_2_51 : decode cJ9_init_2 51 = .ok (.ifCond .eq 28, 3) := dk_153 0 28 (dk_at dksJ9_init_2_2 3 rfl rfl)
theorem dJ9_init_2_54 : decode cJ9_init_2 54 = .ok (.aload_n 0, 1) := dk_42 (dk_at dksJ9_init_2_2 6 rfl rfl)
theorem dJ9_init_2_55 : decode cJ9_init_2 55 = .ok (.aload_n 3, 1) := dk_45 (dk_at dksJ9_init_2_2 7 rfl rfl)
theorem dJ9_init_2_56 : decode cJ9_init_2 56 = .ok (.iconst 0, 1) := dk_3 (dk_at dksJ9_init_2_2 8 rfl rfl)
theorem dJ9_init_2_57 : decode cJ9_init_2 57 = .ok (.iload 4, 2) := dk_21 4 (dk_at dksJ9_init_2_2 9 rfl rfl)
theorem dJ9_init_2_62 : decode cJ9_init_2 62 = .ok (.putfield 9, 3) := dk_181 0 9 (dk_at dksJ9_init_2_2 14 rfl rfl)
theorem dJ9_init_2_65 : decode cJ9_init_2 65 = .ok (.aload_n 0, 1) := dk_42 (dk_at dksJ9_init_2_2 17 rfl rfl)
theorem dJ9_init_2_66 : decode cJ9_init_2 66 = .ok (.aload_n 0, 1) := dk_42 (dk_at dksJ9_init_2_2 18 rfl rfl)
theorem dJ9_init_2_67 : decode cJ9_init_2 67 = .ok (.getfield 9, 3) := dk_180 0 9 (dk_at dksJ9_init_2_2 19 rfl rfl)
theorem dJ9_init_2_70 : decode cJ9_init_2 70 = .ok (.iload 4, 2) := dk_21 4 (dk_at dksJ9_init_2_2 22 rfl rfl)
theorem dJ9_init_2_75 : decode cJ9_init_2 75 = .ok (.putfield 15, 3) := dk_181 0 15 (dk_at dksJ9_init_2_3 3 rfl rfl)
theorem dJ9_init_2_78 : decode cJ9_init_2 78 = .ok (.return_, 1) := dk_177 (dk_at dksJ9_init_2_3 6 rfl rfl)
theorem dJ9_init_2_79 : decode cJ9_init_2 79 = .ok (.aload_n 0, 1) := dk_42 (dk_at dksJ9_init_2_3 7 rfl rfl)
theorem dJ9_init_2_80 : decode cJ9_init_2 80 = .ok (.iconst 1, 1) := dk_4 (dk_at dksJ9_init_2_3 8 rfl rfl)
theorem dJ9_init_2_81 : decode cJ9_init_2 81 = .ok (.putfield 15, 3) := dk_181 0 15 (dk_at dksJ9_init_2_3 9 rfl rfl)
theorem dJ9_init_2_84 : decode cJ9_init_2 84 = .ok (.aload_n 0, 1) := dk_42 (dk_at dksJ9_init_2_3 12 rfl rfl)
theorem dJ9_init_2_85 : decode cJ9_init_2 85 = .ok (.aload_n 3, 1) := dk_45 (dk_at dksJ9_init_2_3 13 rfl rfl)
theorem dJ9_init_2_86 : decode cJ9_init_2 86 = .ok (.iconst 0, 1) := dk_3 (dk_at dksJ9_init_2_3 14 rfl rfl)
theorem dJ9_init_2_87 : decode cJ9_init_2 87 = .ok (.iload 4, 2) := dk_21 4 (dk_at dksJ9_init_2_3 15 rfl rfl)
theorem dJ9_init_2_89 : decode cJ9_init_2 89 = .ok (.iconst 1, 1) := dk_4 (dk_at dksJ9_init_2_3 17 rfl rfl)
theorem dJ9_init_2_90 : decode cJ9_init_2 90 = .ok (.ishl, 1) := dk_120 (dk_at dksJ9_init_2_3 18 rfl rfl)
theorem dJ9_init_2_91 : decode cJ9_init_2 91 = .ok (.invokestatic 54, 3) := dk_184 0 54 (dk_at dksJ9_init_2_3 19 rfl rfl)
theorem dJ9_init_2_94 : decode cJ9_init_2 94 = .ok (.putfield 9, 3) := dk_181 0 9 (dk_at dksJ9_init_2_4 0 rfl rfl)
theorem dJ9_init_2_97 : decode cJ9_init_2 97 = .ok (.return_, 1) := dk_177 (dk_at dksJ9_init_2_4 3 rfl rfl)
theorem c_118_0 : LkP (OkP 118) [(0, o_aload 0 1), (1, o_oi), (4, o_aload 1 1), (5, o_cv [(4, 108)] 0 3 false none), (8, o_astore 3 1), (9, o_aload 1 1), (10, o_cv [(4, 113)] 0 3 false none), (13, o_istore 4 2), (15, o_aload 1 1), (16, o_cv [(4, 107)] 0 3 false none), (19, o_if (fun x => decide (x = 0)) 41), (22, o_aload 0 1), (23, o_push 1 (.int 0)), (24, o_put 26 6), (27, o_aload 0 1), (28, o_aload 3 1), (29, o_push 1 (.int 0)), (30, o_iload 4 2), (32, o_cs 10 3 false none), (35, o_put 25 0), (38, o_goto 97), (41, o_push 3 (.int 1)), (44, o_if (fun x => decide (x = 0)) 79), (47, o_aload 1 1), (48, o_get 23), (51, o_if (fun x => decide (x = 0)) 79), (54, o_aload 0 1), (55, o_aload 3 1), (56, o_push 1 (.int 0)), (57, o_iload 4 2), (62, o_put 25 0)] := lkp_c (P := OkP 118) ⟨(PuOK.ok (ok_aload_n dJ9_init_2_0 rfl)), m_aload⟩ (
  lkp_c (P := OkP 118) ⟨ok_oi q490 q188 q_oi dJ9_init_2_1, m_oi⟩ (
  lkp_c (P := OkP 118) ⟨(PuOK.ok (ok_aload_n dJ9_init_2_4 rfl)), m_aload⟩ (
  lkp_c (P := OkP 118) ⟨ok_cv (List.forall_mem_cons.mpr ⟨tg_U (ci := 4) (r := CLr 4) (y := 108) rfl (owner := "java/lang/AbstractStringBuilder") ⟨rfl, by decide⟩ q491 q493 q494 q492 q125 q495 ⟨cn_31.1, cn_31.2, pd_56⟩ rfl dJ9_init_2_5, (List.forall_mem_nil _)⟩) hd_no, m_cv⟩ (
  lkp_c (P := OkP 118) ⟨(PuOK.ok (ok_astore_n dJ9_init_2_8 rfl)), m_astore⟩ (
  lkp_c (P := OkP 118) ⟨(PuOK.ok (ok_aload_n dJ9_init_2_9 rfl)), m_aload⟩ (
  lkp_c (P := OkP 118) ⟨ok_cv (List.forall_mem_cons.mpr ⟨tg_O (ci := 4) (r := CLr 4) (y := 113) rfl (owner := "java/lang/AbstractStringBuilder") ⟨rfl, by decide⟩ q496 q498 q499 q500 q126 q501 ⟨cn_31.1, cn_31.2, pd_13⟩ q503 q497 dJ9_init_2_10, (List.forall_mem_nil _)⟩) hd_no, m_cv⟩ (
  lkp_c (P := OkP 118) ⟨(PuOK.ok (ok_istore dJ9_init_2_13)), m_istore⟩ (
  lkp_c (P := OkP 118) ⟨(PuOK.ok (ok_aload_n dJ9_init_2_15 rfl)), m_aload⟩ (
  lkp_c (P := OkP 118) ⟨ok_cv (List.forall_mem_cons.mpr ⟨tg_U (ci := 4) (r := CLr 4) (y := 107) rfl (owner := "java/lang/AbstractStringBuilder") ⟨rfl, by decide⟩ q504 q381 q382 q380 q125 q383 ⟨cn_31.1, cn_31.2, pd_50⟩ rfl dJ9_init_2_16, (List.forall_mem_nil _)⟩) hd_no, m_cv⟩ (
  lkp_c (P := OkP 118) ⟨(PuOK.ok (ok_if_eq dJ9_init_2_19 rfl)), m_if⟩ (
  lkp_c (P := OkP 118) ⟨(PuOK.ok (ok_aload_n dJ9_init_2_22 rfl)), m_aload⟩ (
  lkp_c (P := OkP 118) ⟨(PuOK.ok (ok_iconst dJ9_init_2_23 rfl)), m_push⟩ (
  lkp_c (P := OkP 118) ⟨ok_putF q560 rfl rfl rfl fd_26 rfl dJ9_init_2_24, m_put⟩ (
  lkp_c (P := OkP 118) ⟨(PuOK.ok (ok_aload_n dJ9_init_2_27 rfl)), m_aload⟩ (
  lkp_c (P := OkP 118) ⟨(PuOK.ok (ok_aload_n dJ9_init_2_28 rfl)), m_aload⟩ (
  lkp_c (P := OkP 118) ⟨(PuOK.ok (ok_iconst dJ9_init_2_29 rfl)), m_push⟩ (
  lkp_c (P := OkP 118) ⟨(PuOK.ok (ok_iload dJ9_init_2_30)), m_iload⟩ (
  lkp_c (P := OkP 118) ⟨ok_cs (tg_S ⟨rfl, by decide⟩ q505 q506 q131 q507 ⟨cn_4.1, cn_4.2, pd_4⟩ dJ9_init_2_32) hd_no, m_cs⟩ (
  lkp_c (P := OkP 118) ⟨ok_putF q559 rfl rfl rfl fd_25 rfl dJ9_init_2_35, m_put⟩ (
  lkp_c (P := OkP 118) ⟨(PuOK.ok (ok_goto dJ9_init_2_38 rfl)), m_goto⟩ (
  lkp_c (P := OkP 118) ⟨ok_gsi (q := ("java/lang/String", "COMPACT_STRINGS", "Z", 1)) (by decide +kernel) q418 dJ9_init_2_41, m_push⟩ (
  lkp_c (P := OkP 118) ⟨(PuOK.ok (ok_if_eq dJ9_init_2_44 rfl)), m_if⟩ (
  lkp_c (P := OkP 118) ⟨(PuOK.ok (ok_aload_n dJ9_init_2_47 rfl)), m_aload⟩ (
  lkp_c (P := OkP 118) ⟨ok_get ⟨"java/lang/AbstractStringBuilder", q320, Or.inl rfl⟩ dJ9_init_2_48, m_get⟩ (
  lkp_c (P := OkP 118) ⟨(PuOK.ok (ok_if_eq dJ9_init_2_51 rfl)), m_if⟩ (
  lkp_c (P := OkP 118) ⟨(PuOK.ok (ok_aload_n dJ9_init_2_54 rfl)), m_aload⟩ (
  lkp_c (P := OkP 118) ⟨(PuOK.ok (ok_aload_n dJ9_init_2_55 rfl)), m_aload⟩ (
  lkp_c (P := OkP 118) ⟨(PuOK.ok (ok_iconst dJ9_init_2_56 rfl)), m_push⟩ (
  lkp_c (P := OkP 118) ⟨(PuOK.ok (ok_iload dJ9_init_2_57)), m_iload⟩ (
  lkp_c (P := OkP 118) ⟨ok_putF q559 rfl rfl rfl fd_25 rfl dJ9_init_2_62, m_put⟩ (
  trivial)))))))))))))))))))))))))))))))
theorem c_118_1 : LkP (OkP 118) [(65, o_aload 0 1), (66, o_aload 0 1), (67, o_gets 25), (70, o_iload 4 2), (75, o_put 26 6), (78, o_vret), (79, o_aload 0 1), (80, o_push 1 (.int 1)), (81, o_put 26 6), (84, o_aload 0 1), (85, o_aload 3 1), (86, o_push 1 (.int 0)), (87, o_iload 4 2), (89, o_push 1 (.int 1)), (90, o_iop (fun x y => x <<< (y &&& 31))), (91, o_cs 10 3 false none), (94, o_put 25 0), (97, o_vret)] := lkp_c (P := OkP 118) ⟨(PuOK.ok (ok_aload_n dJ9_init_2_65 rfl)), m_aload⟩ (
  lkp_c (P := OkP 118) ⟨(PuOK.ok (ok_aload_n dJ9_init_2_66 rfl)), m_aload⟩ (
  lkp_c (P := OkP 118) ⟨ok_gets ⟨"java/lang/String", q559, Or.inl rfl⟩ dJ9_init_2_67, m_gets⟩ (
  lkp_c (P := OkP 118) ⟨(PuOK.ok (ok_iload dJ9_init_2_70)), m_iload⟩ (
  lkp_c (P := OkP 118) ⟨ok_putF q560 rfl rfl rfl fd_26 rfl dJ9_init_2_75, m_put⟩ (
  lkp_c (P := OkP 118) ⟨ok_vret rfl dJ9_init_2_78, m_vret⟩ (
  lkp_c (P := OkP 118) ⟨(PuOK.ok (ok_aload_n dJ9_init_2_79 rfl)), m_aload⟩ (
  lkp_c (P := OkP 118) ⟨(PuOK.ok (ok_iconst dJ9_init_2_80 rfl)), m_push⟩ (
  lkp_c (P := OkP 118) ⟨ok_putF q560 rfl rfl rfl fd_26 rfl dJ9_init_2_81, m_put⟩ (
  lkp_c (P := OkP 118) ⟨(PuOK.ok (ok_aload_n dJ9_init_2_84 rfl)), m_aload⟩ (
  lkp_c (P := OkP 118) ⟨(PuOK.ok (ok_aload_n dJ9_init_2_85 rfl)), m_aload⟩ (
  lkp_c (P := OkP 118) ⟨(PuOK.ok (ok_iconst dJ9_init_2_86 rfl)), m_push⟩ (
  lkp_c (P := OkP 118) ⟨(PuOK.ok (ok_iload dJ9_init_2_87)), m_iload⟩ (
  lkp_c (P := OkP 118) ⟨(PuOK.ok (ok_iconst dJ9_init_2_89 rfl)), m_push⟩ (
  lkp_c (P := OkP 118) ⟨(PuOK.ok (ok_ishl dJ9_init_2_90)), m_iop⟩ (
  lkp_c (P := OkP 118) ⟨ok_cs (tg_S ⟨rfl, by decide⟩ q505 q506 q131 q507 ⟨cn_4.1, cn_4.2, pd_4⟩ dJ9_init_2_91) hd_no, m_cs⟩ (
  lkp_c (P := OkP 118) ⟨ok_putF q559 rfl rfl rfl fd_25 rfl dJ9_init_2_94, m_put⟩ (
  lkp_c (P := OkP 118) ⟨ok_vret rfl dJ9_init_2_97, m_vret⟩ (
  trivial))))))))))))))))))
theorem mt_118 : MtOK TB NT IT 118 := ⟨by decide +kernel, rfl, fun _ => rfl, Or.inl ⟨rfl, rfl⟩, rfl, by decide, lk2_all (P := OkP 118) ⟨c_118_0, c_118_1, trivial⟩⟩
def dkwJ9_hashCode_2 : List UInt8 := [181, 0, 23, 167, 0, 8, 42, 27, 181, 0, 19, 27, 172]
abbrev dktJ9_hashCode_2 : List UInt8 := dkwJ9_hashCode_2 ++ []
def dkwJ9_hashCode_1 : List UInt8 := [180, 0, 9, 184, 2, 116, 167, 0, 10, 42, 180, 0, 9, 184, 2, 120, 60, 27, 154, 0, 11, 42, 4]
abbrev dktJ9_hashCode_1 : List UInt8 := dkwJ9_hashCode_1 ++ dktJ9_hashCode_2
def dkwJ9_hashCode_0 : List UInt8 := [42, 180, 0, 19, 60, 27, 154, 0, 52, 42, 180, 0, 23, 154, 0, 45, 42, 182, 1, 236, 153, 0, 13, 42]
abbrev dktJ9_hashCode_0 : List UInt8 := dkwJ9_hashCode_0 ++ dktJ9_hashCode_1
theorem dksJ9_hashCode_0 : cJ9_hashCode.data.toList.drop 0 = dktJ9_hashCode_0 := by decide +kernel
theorem dksJ9_hashCode_1 : cJ9_hashCode.data.toList.drop 24 = dktJ9_hashCode_1 := dk_seg dksJ9_hashCode_0 24 rfl rfl
theorem dksJ9_hashCode_2 : cJ9_hashCode.data.toList.drop 47 = dktJ9_hashCode_2 := dk_seg dksJ9_hashCode_1 23 rfl rfl
theorem dJ9_hashCode_0 : decode cJ9_hashCode 0 = .ok (.aload_n 0, 1) := dk_42 (dk_at dksJ9_hashCode_0 0 rfl rfl)
theorem dJ9_hashCode_1 : decode cJ9_hashCode 1 = .ok (.getfield 19, 3) := dk_180 0 19 (dk_at dksJ9_hashCode_0 1 rfl rfl)
theorem dJ9_hashCode_4 : decode cJ9_hashCode 4 = .ok (.istore_n 1, 1) := dk_60 (dk_at dksJ9_hashCode_0 4 rfl rfl)
theorem dJ9_hashCode_5 : decode cJ9_hashCode 5 = .ok (.iload_n 1, 1) := dk_27 (dk_at dksJ9_hashCode_0 5 rfl rfl)
theorem dJ9_hashCode_6 : decode cJ9_hashCode 6 = .ok (.ifCond .ne 52, 3) := dk_154 0 52 (dk_at dksJ9_hashCode_0 6 rfl rfl)
theorem dJ9_hashCode_9 : decode cJ9_hashCode 9 = .ok (.aload_n 0, 1) := dk_42 (dk_at dksJ9_hashCode_0 9 rfl rfl)
theorem dJ9_hashCode_10 : decode cJ9_hashCode 10 = .ok (.getfield 23, 3) := dk_180 0 23 (dk_at dksJ9_hashCode_0 10 rfl rfl)
theorem dJ9_hashCode_13 : decode cJ9_hashCode 13 = .ok (.ifCond .ne 45, 3) := dk_154 0 45 (dk_at dksJ9_hashCode_0 13 rfl rfl)
theorem dJ9_hashCode_16 : decode cJ9_hashCode 16 = .ok (.aload_n 0, 1) := dk_42 (dk_at dksJ9_hashCode_0 16 rfl rfl)
theorem dJ9_hashCode_17 : decode cJ9_hashCode 17 = .ok (.invokevirtual 492, 3) := dk_182 1 236 (dk_at dksJ9_hashCode_0 17 rfl rfl)
theorem dJ9_hashCode_20 : decode cJ9_hashCode 20 = .ok (.ifCond .eq 13, 3) := dk_153 0 13 (dk_at dksJ9_hashCode_0 20 rfl rfl)
theorem dJ9_hashCode_23 : decode cJ9_hashCode 23 = .ok (.aload_n 0, 1) := dk_42 (dk_at dksJ9_hashCode_0 23 rfl rfl)
theorem dJ9_hashCode_24 : decode cJ9_hashCode 24 = .ok (.getfield 9, 3) := dk_180 0 9 (dk_at dksJ9_hashCode_1 0 rfl rfl)
theorem dJ9_hashCode_27 : decode cJ9_hashCode 27 = .ok (.invokestatic 628, 3) := dk_184 2 116 (dk_at dksJ9_hashCode_1 3 rfl rfl)
theorem dJ9_hashCode_30 : decode cJ9_hashCode 30 = .ok (.goto 10, 3) := dk_167 0 10 (dk_at dksJ9_hashCode_1 6 rfl rfl)
theorem dJ9_hashCode_33 : decode cJ9_hashCode 33 = .ok (.aload_n 0, 1) := dk_42 (dk_at dksJ9_hashCode_1 9 rfl rfl)
theorem dJ9_hashCode_34 : decode cJ9_hashCode 34 = .ok (.getfield 9, 3) := dk_180 0 9 (dk_at dksJ9_hashCode_1 10 rfl rfl)
theorem dJ9_hashCode_40 : decode cJ9_hashCode 40 = .ok (.istore_n 1, 1) := dk_60 (dk_at dksJ9_hashCode_1 16 rfl rfl)
theorem dJ9_hashCode_41 : decode cJ9_hashCode 41 = .ok (.iload_n 1, 1) := dk_27 (dk_at dksJ9_hashCode_1 17 rfl rfl)
theorem dJ9_hashCode_42 : decode cJ9_hashCode 42 = .ok (.ifCond .ne 11, 3) := dk_154 0 11 (dk_at dksJ9_hashCode_1 18 rfl rfl)
theorem dJ9_hashCode_45 : decode cJ9_hashCode 45 = .ok (.aload_n 0, 1) := dk_42 (dk_at dksJ9_hashCode_1 21 rfl rfl)
theorem dJ9_hashCode_46 : decode cJ9_hashCode 46 = .ok (.iconst 1, 1) := dk_4 (dk_at dksJ9_hashCode_1 22 rfl rfl)
theorem dJ9_hashCode_47 : decode cJ9_hashCode 47 = .ok (.putfield 23, 3) := dk_181 0 23 (dk_at dksJ9_hashCode_2 0 rfl rfl)
theorem dJ9_hashCode_50 : decode cJ9_hashCode 50 = .ok (.goto 8, 3) := dk_167 0 8 (dk_at dksJ9_hashCode_2 3 rfl rfl)
theorem dJ9_hashCode_53 : decode cJ9_hashCode 53 = .ok (.aload_n 0, 1) := dk_42 (dk_at dksJ9_hashCode_2 6 rfl rfl)
theorem dJ9_hashCode_54 : decode cJ9_hashCode 54 = .ok (.iload_n 1, 1) := dk_27 (dk_at dksJ9_hashCode_2 7 rfl rfl)
theorem dJ9_hashCode_55 : decode cJ9_hashCode 55 = .ok (.putfield 19, 3) := dk_181 0 19 (dk_at dksJ9_hashCode_2 8 rfl rfl)
theorem dJ9_hashCode_58 : decode cJ9_hashCode 58 = .ok (.iload_n 1, 1) := dk_27 (dk_at dksJ9_hashCode_2 11 rfl rfl)
theorem dJ9_hashCode_59 : decode cJ9_hashCode 59 = .ok (.ireturn, 1) := dk_172 (dk_at dksJ9_hashCode_2 12 rfl rfl)
theorem c_119_0 : LkP (OkP 119) [(0, o_aload 0 1), (1, o_get 27), (4, o_istore 1 1), (5, o_iload 1 1), (6, o_if (fun x => decide (¬ x = 0)) 58), (9, o_aload 0 1), (10, o_get 28), (13, o_if (fun x => decide (¬ x = 0)) 58), (16, o_aload 0 1), (17, o_cvs [(5, 120)] 0 3 false), (20, o_if (fun x => decide (x = 0)) 33), (23, o_aload 0 1), (24, o_gets 25), (27, o_cs 16 1 false none), (30, o_goto 40), (33, o_aload 0 1), (34, o_gets 25), (40, o_istore 1 1), (41, o_iload 1 1), (42, o_if (fun x => decide (¬ x = 0)) 53), (45, o_aload 0 1), (46, o_push 1 (.int 1)), (47, o_put 28 5), (50, o_goto 58), (53, o_aload 0 1), (54, o_iload 1 1), (55, o_put 27 1), (58, o_iload 1 1), (59, o_ret 1)] := lkp_c (P := OkP 119) ⟨(PuOK.ok (ok_aload_n dJ9_hashCode_0 rfl)), m_aload⟩ (
  lkp_c (P := OkP 119) ⟨ok_get ⟨"java/lang/String", q561, Or.inl rfl⟩ dJ9_hashCode_1, m_get⟩ (
  lkp_c (P := OkP 119) ⟨(PuOK.ok (ok_istore_n dJ9_hashCode_4 rfl)), m_istore⟩ (
  lkp_c (P := OkP 119) ⟨(PuOK.ok (ok_iload_n dJ9_hashCode_5 rfl)), m_iload⟩ (
  lkp_c (P := OkP 119) ⟨(PuOK.ok (ok_if_ne dJ9_hashCode_6 rfl)), m_if⟩ (
  lkp_c (P := OkP 119) ⟨(PuOK.ok (ok_aload_n dJ9_hashCode_9 rfl)), m_aload⟩ (
  lkp_c (P := OkP 119) ⟨ok_get ⟨"java/lang/String", q562, Or.inl rfl⟩ dJ9_hashCode_10, m_get⟩ (
  lkp_c (P := OkP 119) ⟨(PuOK.ok (ok_if_ne dJ9_hashCode_13 rfl)), m_if⟩ (
  lkp_c (P := OkP 119) ⟨(PuOK.ok (ok_aload_n dJ9_hashCode_16 rfl)), m_aload⟩ (
  lkp_c (P := OkP 119) ⟨ok_cvs (List.forall_mem_cons.mpr ⟨tg_V (ci := 5) (r := CLr 5) (y := 120) rfl ⟨rfl, by decide⟩ rfl q874 q875 q876 q127 q877 ⟨cn_5.1, cn_5.2, pd_50⟩ dJ9_hashCode_17, (List.forall_mem_nil _)⟩) hd_no, m_cvs⟩ (
  lkp_c (P := OkP 119) ⟨(PuOK.ok (ok_if_eq dJ9_hashCode_20 rfl)), m_if⟩ (
  lkp_c (P := OkP 119) ⟨(PuOK.ok (ok_aload_n dJ9_hashCode_23 rfl)), m_aload⟩ (
  lkp_c (P := OkP 119) ⟨ok_gets ⟨"java/lang/String", q559, Or.inl rfl⟩ dJ9_hashCode_24, m_gets⟩ (
  lkp_c (P := OkP 119) ⟨ok_cs (tg_S ⟨rfl, by decide⟩ q878 q879 q134 q880 ⟨cn_32.1, cn_32.2, pd_57⟩ dJ9_hashCode_27) hd_no, m_cs⟩ (
  lkp_c (P := OkP 119) ⟨(PuOK.ok (ok_goto dJ9_hashCode_30 rfl)), m_goto⟩ (
  lkp_c (P := OkP 119) ⟨(PuOK.ok (ok_aload_n dJ9_hashCode_33 rfl)), m_aload⟩ (
  lkp_c (P := OkP 119) ⟨ok_gets ⟨"java/lang/String", q559, Or.inl rfl⟩ dJ9_hashCode_34, m_gets⟩ (
  lkp_c (P := OkP 119) ⟨(PuOK.ok (ok_istore_n dJ9_hashCode_40 rfl)), m_istore⟩ (
  lkp_c (P := OkP 119) ⟨(PuOK.ok (ok_iload_n dJ9_hashCode_41 rfl)), m_iload⟩ (
  lkp_c (P := OkP 119) ⟨(PuOK.ok (ok_if_ne dJ9_hashCode_42 rfl)), m_if⟩ (
  lkp_c (P := OkP 119) ⟨(PuOK.ok (ok_aload_n dJ9_hashCode_45 rfl)), m_aload⟩ (
  lkp_c (P := OkP 119) ⟨(PuOK.ok (ok_iconst dJ9_hashCode_46 rfl)), m_push⟩ (
  lkp_c (P := OkP 119) ⟨ok_put ⟨"java/lang/String", q562, Or.inl rfl⟩ rfl fd_28 rfl dJ9_hashCode_47, m_put⟩ (
  lkp_c (P := OkP 119) ⟨(PuOK.ok (ok_goto dJ9_hashCode_50 rfl)), m_goto⟩ (
  lkp_c (P := OkP 119) ⟨(PuOK.ok (ok_aload_n dJ9_hashCode_53 rfl)), m_aload⟩ (
  lkp_c (P := OkP 119) ⟨(PuOK.ok (ok_iload_n dJ9_hashCode_54 rfl)), m_iload⟩ (
  lkp_c (P := OkP 119) ⟨ok_put ⟨"java/lang/String", q561, Or.inl rfl⟩ rfl fd_27 rfl dJ9_hashCode_55, m_put⟩ (
  lkp_c (P := OkP 119) ⟨(PuOK.ok (ok_iload_n dJ9_hashCode_58 rfl)), m_iload⟩ (
  lkp_c (P := OkP 119) ⟨ok_iret rfl rfl (by decide) dJ9_hashCode_59, m_ret⟩ (
  trivial)))))))))))))))))))))))))))))
theorem mt_119 : MtOK TB NT IT 119 := ⟨by decide +kernel, rfl, (fun h => by cases h), Or.inl ⟨rfl, rfl⟩, rfl, by decide, lk2_all (P := OkP 119) ⟨c_119_0, trivial⟩⟩
def dkwJ9_isLatin1_0 : List UInt8 := [178, 0, 38, 153, 0, 14, 42, 180, 0, 15, 154, 0, 7, 4, 167, 0, 4, 3, 172]
abbrev dktJ9_isLatin1_0 : List UInt8 := dkwJ9_isLatin1_0 ++ []
theorem dksJ9_isLatin1_0 : cJ9_isLatin1.data.toList.drop 0 = dktJ9_isLatin1_0 := by decide +kernel
theorem dJ9_isLatin1_0 : decode cJ9_isLatin1 0 = .ok (.getstatic 38, 3) := dk_178 0 38 (dk_at dksJ9_isLatin1_0 0 rfl rfl)
theorem dJ9_isLatin1_3 : decode cJ9_isLatin1 3 = .ok (.ifCond .eq 14, 3) := dk_153 0 14 (dk_at dksJ9_isLatin1_0 3 rfl rfl)
theorem dJ9_isLatin1_6 : decode cJ9_isLatin1 6 = .ok (.aload_n 0, 1) := dk_42 (dk_at dksJ9_isLatin1_0 6 rfl rfl)
theorem dJ9_isLatin1_7 : decode cJ9_isLatin1 7 = .ok (.getfield 15, 3) := dk_180 0 15 (dk_at dksJ9_isLatin1_0 7 rfl rfl)
theorem dJ9_isLatin1_10 : decode cJ9_isLatin1 10 = .ok (.ifCond .ne 7, 3) := dk_154 0 7 (dk_at dksJ9_isLatin1_0 10 rfl rfl)
theorem dJ9_isLatin1_13 : decode cJ9_isLatin1 13 = .ok (.iconst 1, 1) := dk_4 (dk_at dksJ9_isLatin1_0 13 rfl rfl)
theorem dJ9_isLatin1_14 : decode cJ9_isLatin1 14 = .ok (.goto 4, 3) := dk_167 0 4 (dk_at dksJ9_isLatin1_0 14 rfl rfl)
theorem dJ9_isLatin1_17 : decode cJ9_isLatin1 17 = .ok (.iconst 0, 1) := dk_3 (dk_at dksJ9_isLatin1_0 17 rfl rfl)
theorem dJ9_isLatin1_18 : decode cJ9_isLatin1 18 = .ok (.ireturn, 1) := dk_172 (dk_at dksJ9_isLatin1_0 18 rfl rfl)
theorem c_120_0 : LkP (OkP 120) [(0, o_push 3 (.int 1)), (3, o_if (fun x => decide (x = 0)) 17), (6, o_aload 0 1), (7, o_gets 26), (10, o_if (fun x => decide (¬ x = 0)) 17), (13, o_push 1 (.int 1)), (14, o_goto 18), (17, o_push 1 (.int 0)), (18, o_ret 5)] := lkp_c (P := OkP 120) ⟨ok_gsi (q := ("java/lang/String", "COMPACT_STRINGS", "Z", 1)) (by decide +kernel) q418 dJ9_isLatin1_0, m_push⟩ (
  lkp_c (P := OkP 120) ⟨(PuOK.ok (ok_if_eq dJ9_isLatin1_3 rfl)), m_if⟩ (
  lkp_c (P := OkP 120) ⟨(PuOK.ok (ok_aload_n dJ9_isLatin1_6 rfl)), m_aload⟩ (
  lkp_c (P := OkP 120) ⟨ok_gets ⟨"java/lang/String", q560, Or.inl rfl⟩ dJ9_isLatin1_7, m_gets⟩ (
  lkp_c (P := OkP 120) ⟨(PuOK.ok (ok_if_ne dJ9_isLatin1_10 rfl)), m_if⟩ (
  lkp_c (P := OkP 120) ⟨(PuOK.ok (ok_iconst dJ9_isLatin1_13 rfl)), m_push⟩ (
  lkp_c (P := OkP 120) ⟨(PuOK.ok (ok_goto dJ9_isLatin1_14 rfl)), m_goto⟩ (
  lkp_c (P := OkP 120) ⟨(PuOK.ok (ok_iconst dJ9_isLatin1_17 rfl)), m_push⟩ (
  lkp_c (P := OkP 120) ⟨ok_iret rfl rfl (by decide) dJ9_isLatin1_18, m_ret⟩ (
  trivial)))))))))
theorem mt_120 : MtOK TB NT IT 120 := ⟨by decide +kernel, rfl, (fun h => by cases h), Or.inl ⟨rfl, rfl⟩, rfl, by decide, lk2_all (P := OkP 120) ⟨c_120_0, trivial⟩⟩
def dkwJ9_equals_2 : List UInt8 := [184, 2, 29, 153, 0, 7, 4, 167, 0, 4, 3, 172]
abbrev dktJ9_equals_2 : List UInt8 := dkwJ9_equals_2 ++ []
def dkwJ9_equals_1 : List UInt8 := [153, 0, 14, 42, 180, 0, 15, 44, 180, 0, 15, 160, 0, 21, 42, 180, 0, 9, 44, 180, 0, 9]
abbrev dktJ9_equals_1 : List UInt8 := dkwJ9_equals_1 ++ dktJ9_equals_2
def dkwJ9_equals_0 : List UInt8 := [42, 43, 166, 0, 5, 4, 172, 43, 193, 0, 10, 153, 0, 43, 43, 192, 0, 10, 77, 178, 0, 38]
abbrev dktJ9_equals_0 : List UInt8 := dkwJ9_equals_0 ++ dktJ9_equals_1
theorem dksJ9_equals_0 : cJ9_equals.data.toList.drop 0 = dktJ9_equals_0 := by decide +kernel
theorem dksJ9_equals_1 : cJ9_equals.data.toList.drop 22 = dktJ9_equals_1 := dk_seg dksJ9_equals_0 22 rfl rfl
theorem dksJ9_equals_2 : cJ9_equals.data.toList.drop 44 = dktJ9_equals_2 := dk_seg dksJ9_equals_1 22 rfl rfl
theorem dJ9_equals_0 : decode cJ9_equals 0 = .ok (.aload_n 0, 1) := dk_42 (dk_at dksJ9_equals_0 0 rfl rfl)
theorem dJ9_equals_1 : decode cJ9_equals 1 = .ok (.aload_n 1, 1) := dk_43 (dk_at dksJ9_equals_0 1 rfl rfl)
theorem dJ9_equals_2 : decode cJ9_equals 2 = .ok (.if_acmp .ne 5, 3) := dk_166 0 5 (dk_at dksJ9_equals_0 2 rfl rfl)
theorem dJ9_equals_5 : decode cJ9_equals 5 = .ok (.iconst 1, 1) := dk_4 (dk_at dksJ9_equals_0 5 rfl rfl)
theorem dJ9_equals_6 : decode cJ9_equals 6 = .ok (.ireturn, 1) := dk_172 (dk_at dksJ9_equals_0 6 rfl rfl)
theorem dJ9_equals_7 : decode cJ9_equals 7 = .ok (.aload_n 1, 1) := dk_43 (dk_at dksJ9_equals_0 7 rfl rfl)
theorem dJ9_equals_8 : decode cJ9_equals 8 = .ok (.instanceof 10, 3) := dk_193 0 10 (dk_at dksJ9_equals_0 8 rfl rfl)
theorem dJ9_equals_11 : decode cJ9_equals 11 = .ok (.ifCond .eq 43, 3) := dk_153 0 43 (dk_at dksJ9_equals_0 11 rfl rfl)
theorem dJ9_equals_14 : decode cJ9_equals 14 = .ok (.aload_n 1, 1) := dk_43 (dk_at dksJ9_equals_0 14 rfl rfl)
theorem dJ9_equals_15 : decode cJ9_equals 15 = .ok (.checkcast 10, 3) := dk_192 0 10 (dk_at dksJ9_equals_0 15 rfl rfl)
theorem dJ9_equals_18 : decode cJ9_equals 18 = .ok (.astore_n 2, 1) := dk_77 (dk_at dksJ9_equals_0 18 rfl rfl)
theorem dJ9_equals_19 : decode cJ9_equals 19 = .ok (.getstatic 38, 3) := dk_178 0 38 (dk_at dksJ9_equals_0 19 rfl rfl)
theorem dJ9_equals_22 : decode cJ9_equals 22 = .ok (.ifCond .eq 14, 3) := dk_153 0 14 (dk_at dksJ9_equals_1 0 rfl rfl)
theorem dJ9_equals_25 : decode cJ9_equals 25 = .ok (.aload_n 0, 1) := dk_42 (dk_at dksJ9_equals_1 3 rfl rfl)
theorem dJ9_equals_26 : decode cJ9_equals 26 = .ok (.getfield 15, 3) := dk_180 0 15 (dk_at dksJ9_equals_1 4 rfl rfl)
theorem dJ9_equals_29 : decode cJ9_equals 29 = .ok (.aload_n 2, 1) := dk_44 (dk_at dksJ9_equals_1 7 rfl rfl)
theorem dJ9_equals_30 : decode cJ9_equals 30 = .ok (.getfield 15, 3) := dk_180 0 15 (dk_at dksJ9_equals_1 8 rfl rfl)
theorem dJ9_equals_33 : decode cJ9_equals 33 = .ok (.if_icmp .ne 21, 3) := dk_160 0 21 (dk_at dksJ9_equals_1 11 rfl rfl)
theorem dJ9_equals_36 : decode cJ9_equals 36 = .ok (.aload_n 0, 1) := dk_42 (dk_at dksJ9_equals_1 14 rfl rfl)
theorem dJ9_equals_37 : decode cJ9_equals 37 = .ok (.getfield 9, 3) := dk_180 0 9 (dk_at dksJ9_equals_1 15 rfl rfl)
theorem dJ9_equals_40 : decode cJ9_equals 40 = .ok (.aload_n 2, 1) := dk_44 (dk_at dksJ9_equals_1 18 rfl rfl)
theorem dJ9_equals_41 : decode cJ9_equals 41 = .ok (.getfield 9, 3) := dk_180 0 9 (dk_at dksJ9_equals_1 19 rfl rfl)
theorem dJ9_equals_44 : decode cJ9_equals 44 = .ok (.invokestatic 541, 3) := dk_184 2 29 (dk_at dksJ9_equals_2 0 rfl rfl)
theorem dJ9_equals_47 : decode cJ9_equals 47 = .ok (.ifCond .eq 7, 3) := dk_153 0 7 (dk_at dksJ9_equals_2 3 rfl rfl)
theorem dJ9_equals_50 : decode cJ9_equals 50 = .ok (.iconst 1, 1) := dk_4 (dk_at dksJ9_equals_2 6 rfl rfl)
theorem dJ9_equals_51 : decode cJ9_equals 51 = .ok (.goto 4, 3) := dk_167 0 4 (dk_at dksJ9_equals_2 7 rfl rfl)
theorem dJ9_equals_54 : decode cJ9_equals 54 = .ok (.iconst 0, 1) := dk_3 (dk_at dksJ9_equals_2 10 rfl rfl)
theorem dJ9_equals_55 : decode cJ9_equals 55 = .ok (.ireturn, 1) := dk_172 (dk_at dksJ9_equals_2 11 rfl rfl)
theorem c_121_0 : LkP (OkP 121) [(0, o_aload 0 1), (1, o_aload 1 1), (2, o_acmp false 7), (5, o_push 1 (.int 1)), (6, o_ret 5), (7, o_aload 1 1), (8, o_inst [5] []), (11, o_if (fun x => decide (x = 0)) 54), (14, o_aload 1 1), (15, o_cast [5]), (18, o_astore 2 1), (19, o_push 3 (.int 1)), (22, o_if (fun x => decide (x = 0)) 36), (25, o_aload 0 1), (26, o_gets 26), (29, o_aload 2 1), (30, o_gets 26), (33, o_icmp (fun x y => decide (¬ x = y)) 54), (36, o_aload 0 1), (37, o_gets 25), (40, o_aload 2 1), (41, o_gets 25), (44, o_cs 17 2 false none), (47, o_if (fun x => decide (x = 0)) 54), (50, o_push 1 (.int 1)), (51, o_goto 55), (54, o_push 1 (.int 0)), (55, o_ret 5)] := lkp_c (P := OkP 121) ⟨(PuOK.ok (ok_aload_n dJ9_equals_0 rfl)), m_aload⟩ (
  lkp_c (P := OkP 121) ⟨(PuOK.ok (ok_aload_n dJ9_equals_1 rfl)), m_aload⟩ (
  lkp_c (P := OkP 121) ⟨(PuOK.ok (ok_acmp_ne dJ9_equals_2 rfl)), m_acmp⟩ (
  lkp_c (P := OkP 121) ⟨(PuOK.ok (ok_iconst dJ9_equals_5 rfl)), m_push⟩ (
  lkp_c (P := OkP 121) ⟨ok_iret rfl rfl (by decide) dJ9_equals_6, m_ret⟩ (
  lkp_c (P := OkP 121) ⟨(PuOK.ok (ok_aload_n dJ9_equals_7 rfl)), m_aload⟩ (
  lkp_c (P := OkP 121) ⟨ok_inst q975 cst_4 notL_nil dJ9_equals_8, m_inst⟩ (
  lkp_c (P := OkP 121) ⟨(PuOK.ok (ok_if_eq dJ9_equals_11 rfl)), m_if⟩ (
  lkp_c (P := OkP 121) ⟨(PuOK.ok (ok_aload_n dJ9_equals_14 rfl)), m_aload⟩ (
  lkp_c (P := OkP 121) ⟨ok_cast q975 cst_4 dJ9_equals_15, m_cast⟩ (
  lkp_c (P := OkP 121) ⟨(PuOK.ok (ok_astore_n dJ9_equals_18 rfl)), m_astore⟩ (
  lkp_c (P := OkP 121) ⟨ok_gsi (q := ("java/lang/String", "COMPACT_STRINGS", "Z", 1)) (by decide +kernel) q418 dJ9_equals_19, m_push⟩ (
  lkp_c (P := OkP 121) ⟨(PuOK.ok (ok_if_eq dJ9_equals_22 rfl)), m_if⟩ (
  lkp_c (P := OkP 121) ⟨(PuOK.ok (ok_aload_n dJ9_equals_25 rfl)), m_aload⟩ (
  lkp_c (P := OkP 121) ⟨ok_gets ⟨"java/lang/String", q560, Or.inl rfl⟩ dJ9_equals_26, m_gets⟩ (
  lkp_c (P := OkP 121) ⟨(PuOK.ok (ok_aload_n dJ9_equals_29 rfl)), m_aload⟩ (
  lkp_c (P := OkP 121) ⟨ok_gets ⟨"java/lang/String", q560, Or.inl rfl⟩ dJ9_equals_30, m_gets⟩ (
  lkp_c (P := OkP 121) ⟨(PuOK.ok (ok_icmp_ne dJ9_equals_33 rfl)), m_icmp⟩ (
  lkp_c (P := OkP 121) ⟨(PuOK.ok (ok_aload_n dJ9_equals_36 rfl)), m_aload⟩ (
  lkp_c (P := OkP 121) ⟨ok_gets ⟨"java/lang/String", q559, Or.inl rfl⟩ dJ9_equals_37, m_gets⟩ (
  lkp_c (P := OkP 121) ⟨(PuOK.ok (ok_aload_n dJ9_equals_40 rfl)), m_aload⟩ (
  lkp_c (P := OkP 121) ⟨ok_gets ⟨"java/lang/String", q559, Or.inl rfl⟩ dJ9_equals_41, m_gets⟩ (
  lkp_c (P := OkP 121) ⟨ok_cs (tg_S ⟨rfl, by decide⟩ q976 q977 q134 q978 ⟨cn_32.1, cn_32.2, pd_58⟩ dJ9_equals_44) hd_no, m_cs⟩ (
  lkp_c (P := OkP 121) ⟨(PuOK.ok (ok_if_eq dJ9_equals_47 rfl)), m_if⟩ (
  lkp_c (P := OkP 121) ⟨(PuOK.ok (ok_iconst dJ9_equals_50 rfl)), m_push⟩ (
  lkp_c (P := OkP 121) ⟨(PuOK.ok (ok_goto dJ9_equals_51 rfl)), m_goto⟩ (
  lkp_c (P := OkP 121) ⟨(PuOK.ok (ok_iconst dJ9_equals_54 rfl)), m_push⟩ (
  lkp_c (P := OkP 121) ⟨ok_iret rfl rfl (by decide) dJ9_equals_55, m_ret⟩ (
  trivial))))))))))))))))))))))))))))
theorem mt_121 : MtOK TB NT IT 121 := ⟨by decide +kernel, rfl, (fun h => by cases h), Or.inl ⟨rfl, rfl⟩, rfl, by decide, lk2_all (P := OkP 121) ⟨c_121_0, trivial⟩⟩
def dkwJ9_checkIndex_0 : List UInt8 := [26, 27, 178, 4, 29, 184, 4, 35, 87, 177]
abbrev dktJ9_checkIndex_0 : List UInt8 := dkwJ9_checkIndex_0 ++ []
theorem dksJ9_checkIndex_0 : cJ9_checkIndex.data.toList.drop 0 = dktJ9_checkIndex_0 := by decide +kernel
theorem dJ9_checkIndex_0 : decode cJ9_checkIndex 0 = .ok (.iload_n 0, 1) := dk_26 (dk_at dksJ9_checkIndex_0 0 rfl rfl)
theorem dJ9_checkIndex_1 : decode cJ9_checkIndex 1 = .ok (.iload_n 1, 1) := dk_27 (dk_at dksJ9_checkIndex_0 1 rfl rfl)
theorem dJ9_checkIndex_2 : decode cJ9_checkIndex 2 = .ok (.getstatic 1053, 3) := dk_178 4 29 (dk_at dksJ9_checkIndex_0 2 rfl rfl)
theorem dJ9_checkIndex_5 : decode cJ9_checkIndex 5 = .ok (.invokestatic 1059, 3) := dk_184 4 35 (dk_at dksJ9_checkIndex_0 5 rfl rfl)
theorem dJ9_checkIndex_8 : decode cJ9_checkIndex 8 = .ok (.pop, 1) := dk_87 (dk_at dksJ9_checkIndex_0 8 rfl rfl)
theorem dJ9_checkIndex_9 : decode cJ9_checkIndex 9 = .ok (.return_, 1) := dk_177 (dk_at dksJ9_checkIndex_0 9 rfl rfl)
theorem c_122_0 : LkP (OkP 122) [(0, o_iload 0 1), (1, o_iload 1 1), (2, o_pushR 3 2), (5, o_cs 15 3 false none), (8, o_pop), (9, o_vret)] := lkp_c (P := OkP 122) ⟨(PuOK.ok (ok_iload_n dJ9_checkIndex_0 rfl)), m_iload⟩ (
  lkp_c (P := OkP 122) ⟨(PuOK.ok (ok_iload_n dJ9_checkIndex_1 rfl)), m_iload⟩ (
  lkp_c (P := OkP 122) ⟨ok_gsu (q := ("jdk/internal/util/Preconditions", "SIOOBE_FORMATTER", "Ljava/util/function/BiFunction;", 2)) (by decide +kernel) q396 dJ9_checkIndex_2, m_pushR⟩ (
  lkp_c (P := OkP 122) ⟨ok_cs (tg_S ⟨rfl, by decide⟩ q1311 q1312 q133 q1313 ⟨cn_22.1, cn_22.2, pd_39⟩ dJ9_checkIndex_5) hd_no, m_cs⟩ (
  lkp_c (P := OkP 122) ⟨(PuOK.ok (ok_pop dJ9_checkIndex_8)), m_pop⟩ (
  lkp_c (P := OkP 122) ⟨ok_vret rfl dJ9_checkIndex_9, m_vret⟩ (
  trivial))))))
theorem mt_122 : MtOK TB NT IT 122 := ⟨by decide +kernel, rfl, (fun h => by cases h), Or.inl ⟨rfl, rfl⟩, rfl, by decide, lk2_all (P := OkP 122) ⟨c_122_0, trivial⟩⟩
def dkwJ9_charAt_1 : List UInt8 := [172]
abbrev dktJ9_charAt_1 : List UInt8 := dkwJ9_charAt_1 ++ []
def dkwJ9_charAt_0 : List UInt8 := [42, 182, 1, 236, 153, 0, 12, 42, 180, 0, 9, 27, 184, 1, 239, 172, 42, 180, 0, 9, 27, 184, 1, 242]
abbrev dktJ9_charAt_0 : List UInt8 := dkwJ9_charAt_0 ++ dktJ9_charAt_1
theorem dksJ9_charAt_0 : cJ9_charAt.data.toList.drop 0 = dktJ9_charAt_0 := by decide +kernel
theorem dksJ9_charAt_1 : cJ9_charAt.data.toList.drop 24 = dktJ9_charAt_1 := dk_seg dksJ9_charAt_0 24 rfl rfl
theorem dJ9_charAt_0 : decode cJ9_charAt 0 = .ok (.aload_n 0, 1) := dk_42 (dk_at dksJ9_charAt_0 0 rfl rfl)
theorem dJ9_charAt_1 : decode cJ9_charAt 1 = .ok (.invokevirtual 492, 3) := dk_182 1 236 (dk_at dksJ9_charAt_0 1 rfl rfl)
theorem dJ9_charAt_4 : decode cJ9_charAt 4 = .ok (.ifCond .eq 12, 3) := dk_153 0 12 (dk_at dksJ9_charAt_0 4 rfl rfl)
theorem dJ9_charAt_7 : decode cJ9_charAt 7 = .ok (.aload_n 0, 1) := dk_42 (dk_at dksJ9_charAt_0 7 rfl rfl)
theorem dJ9_charAt_8 : decode cJ9_charAt 8 = .ok (.getfield 9, 3) := dk_180 0 9 (dk_at dksJ9_charAt_0 8 rfl rfl)
theorem dJ9_charAt_11 : decode cJ9_charAt 11 = .ok (.iload_n 1, 1) := dk_27 (dk_at dksJ9_charAt_0 11 rfl rfl)
theorem dJ9_charAt_12 : decode cJ9_charAt 12 = .ok (.invokestatic 495, 3) := dk_184 1 239 (dk_at dksJ9_charAt_0 12 rfl rfl)
theorem dJ9_charAt_15 : decode cJ9_charAt 15 = .ok (.ireturn, 1) := dk_172 (dk_at dksJ9_charAt_0 15 rfl rfl)
theorem dJ9_charAt_16 : decode cJ9_charAt 16 = .ok (.aload_n 0, 1) := dk_42 (dk_at dksJ9_charAt_0 16 rfl rfl)
theorem dJ9_charAt_17 : decode cJ9_charAt 17 = .ok (.getfield 9, 3) := dk_180 0 9 (dk_at dksJ9_charAt_0 17 rfl rfl)
theorem dJ9_charAt_20 : decode cJ9_charAt 20 = .ok (.iload_n 1, 1) := dk_27 (dk_at dksJ9_charAt_0 20 rfl rfl)
theorem dJ9_charAt_24 : decode cJ9_charAt 24 = .ok (.ireturn, 1) := dk_172 (dk_at dksJ9_charAt_1 0 rfl rfl)
theorem c_123_0 : LkP (OkP 123) [(0, o_aload 0 1), (1, o_cvs [(5, 120)] 0 3 false), (4, o_if (fun x => decide (x = 0)) 16), (7, o_aload 0 1), (8, o_gets 25), (11, o_iload 1 1), (12, o_cs 19 2 false none), (15, o_ret 7), (16, o_aload 0 1), (17, o_gets 25), (20, o_iload 1 1), (24, o_ret 7)] := lkp_c (P := OkP 123) ⟨(PuOK.ok (ok_aload_n dJ9_charAt_0 rfl)), m_aload⟩ (
  lkp_c (P := OkP 123) ⟨ok_cvs (List.forall_mem_cons.mpr ⟨tg_V (ci := 5) (r := CLr 5) (y := 120) rfl ⟨rfl, by decide⟩ rfl q874 q875 q876 q127 q877 ⟨cn_5.1, cn_5.2, pd_50⟩ dJ9_charAt_1, (List.forall_mem_nil _)⟩) hd_no, m_cvs⟩ (
  lkp_c (P := OkP 123) ⟨(PuOK.ok (ok_if_eq dJ9_charAt_4 rfl)), m_if⟩ (
  lkp_c (P := OkP 123) ⟨(PuOK.ok (ok_aload_n dJ9_charAt_7 rfl)), m_aload⟩ (
  lkp_c (P := OkP 123) ⟨ok_gets ⟨"java/lang/String", q559, Or.inl rfl⟩ dJ9_charAt_8, m_gets⟩ (
  lkp_c (P := OkP 123) ⟨(PuOK.ok (ok_iload_n dJ9_charAt_11 rfl)), m_iload⟩ (
  lkp_c (P := OkP 123) ⟨ok_cs (tg_S ⟨rfl, by decide⟩ q3259 q3260 q134 q3261 ⟨cn_32.1, cn_32.2, pd_59⟩ dJ9_charAt_12) hd_no, m_cs⟩ (
  lkp_c (P := OkP 123) ⟨ok_iret rfl rfl (by decide) dJ9_charAt_15, m_ret⟩ (
  lkp_c (P := OkP 123) ⟨(PuOK.ok (ok_aload_n dJ9_charAt_16 rfl)), m_aload⟩ (
  lkp_c (P := OkP 123) ⟨ok_gets ⟨"java/lang/String", q559, Or.inl rfl⟩ dJ9_charAt_17, m_gets⟩ (
  lkp_c (P := OkP 123) ⟨(PuOK.ok (ok_iload_n dJ9_charAt_20 rfl)), m_iload⟩ (
  lkp_c (P := OkP 123) ⟨ok_iret rfl rfl (by decide) dJ9_charAt_24, m_ret⟩ (
  trivial))))))))))))
theorem mt_123 : MtOK TB NT IT 123 := ⟨by decide +kernel, rfl, (fun h => by cases h), Or.inl ⟨rfl, rfl⟩, rfl, by decide, lk2_all (P := OkP 123) ⟨c_123_0, trivial⟩⟩
def dkwL_law_109 : List UInt8 := [167, 0, 3, 132, 5, 5, 167, 245, 148, 4, 172]
abbrev dktL_law_109 : List UInt8 := dkwL_law_109 ++ []
def dkwL_law_108 : List UInt8 := [54, 6, 44, 42, 21, 5, 4, 96, 46, 182, 1, 16, 44, 182, 0, 136, 21, 6, 159, 0, 5, 3, 172]
abbrev dktL_law_108 : List UInt8 := dkwL_law_108 ++ dktL_law_109
def dkwL_law_107 : List UInt8 := [182, 0, 136, 21, 6, 159, 0, 5, 3, 172, 167, 0, 39, 43, 42, 21, 5, 4, 96, 46, 184, 1, 14]
abbrev dktL_law_107 : List UInt8 := dkwL_law_107 ++ dktL_law_108
def dkwL_law_106 : List UInt8 := [43, 42, 21, 5, 4, 96, 46, 184, 1, 10, 54, 6, 44, 42, 21, 5, 4, 96, 46, 182, 1, 13, 44]
abbrev dktL_law_106 : List UInt8 := dkwL_law_106 ++ dktL_law_107
def dkwL_law_105 : List UInt8 := [153, 0, 21, 24, 6, 24, 6, 151, 153, 0, 11, 24, 8, 24, 8, 151, 154, 0, 5, 3, 172, 167, 0, 75]
abbrev dktL_law_105 : List UInt8 := dkwL_law_105 ++ dktL_law_106
def dkwL_law_104 : List UInt8 := [159, 0, 118, 3, 172, 43, 182, 1, 5, 57, 6, 44, 182, 1, 9, 57, 8, 24, 6, 24, 8, 151]
abbrev dktL_law_104 : List UInt8 := dkwL_law_104 ++ dktL_law_105
def dkwL_law_103 : List UInt8 := [153, 0, 11, 23, 7, 23, 7, 149, 154, 0, 5, 3, 172, 167, 0, 129, 43, 182, 1, 1, 44, 182, 1, 4]
abbrev dktL_law_103 : List UInt8 := dkwL_law_103 ++ dktL_law_104
def dkwL_law_102 : List UInt8 := [154, 0, 36, 25, 4, 3, 49, 23, 7, 141, 151, 153, 0, 25, 25, 4, 3, 49, 25, 4, 3, 49, 151]
abbrev dktL_law_102 : List UInt8 := dkwL_law_102 ++ dktL_law_103
def dkwL_law_101 : List UInt8 := [21, 5, 4, 96, 46, 182, 1, 0, 56, 7, 44, 182, 0, 136, 21, 6, 159, 0, 5, 3, 172, 21, 6]
abbrev dktL_law_101 : List UInt8 := dkwL_law_101 ++ dktL_law_102
def dkwL_law_100 : List UInt8 := [153, 0, 5, 3, 172, 167, 0, 207, 43, 42, 21, 5, 4, 96, 46, 25, 4, 184, 0, 253, 54, 6, 44, 42]
abbrev dktL_law_100 : List UInt8 := dkwL_law_100 ++ dktL_law_101
def dkwL_law_99 : List UInt8 := [182, 0, 136, 21, 6, 159, 0, 5, 3, 172, 21, 6, 154, 0, 15, 45, 3, 47, 21, 7, 133, 148]
abbrev dktL_law_99 : List UInt8 := dkwL_law_99 ++ dktL_law_100
def dkwL_law_98 : List UInt8 := [184, 0, 250, 54, 6, 44, 42, 21, 5, 4, 96, 46, 42, 21, 5, 5, 96, 46, 182, 0, 252, 54, 7, 44]
abbrev dktL_law_98 : List UInt8 := dkwL_law_98 ++ dktL_law_99
def dkwL_law_97 : List UInt8 := [182, 0, 249, 148, 153, 1, 21, 3, 172, 43, 42, 21, 5, 4, 96, 46, 42, 21, 5, 5, 96, 46, 45]
abbrev dktL_law_97 : List UInt8 := dkwL_law_97 ++ dktL_law_98
def dkwL_law_96 : List UInt8 := [154, 0, 15, 45, 3, 47, 21, 7, 133, 148, 153, 0, 5, 3, 172, 167, 1, 33, 43, 182, 0, 245, 44]
abbrev dktL_law_96 : List UInt8 := dkwL_law_96 ++ dktL_law_97
def dkwL_law_95 : List UInt8 := [21, 5, 4, 96, 46, 182, 0, 244, 54, 7, 44, 182, 0, 136, 21, 6, 159, 0, 5, 3, 172, 21, 6]
abbrev dktL_law_95 : List UInt8 := dkwL_law_95 ++ dktL_law_96
def dkwL_law_94 : List UInt8 := [153, 0, 5, 3, 172, 167, 1, 89, 43, 42, 21, 5, 4, 96, 46, 45, 184, 0, 242, 54, 6, 44, 42]
abbrev dktL_law_94 : List UInt8 := dkwL_law_94 ++ dktL_law_95
def dkwL_law_93 : List UInt8 := [182, 0, 136, 21, 6, 159, 0, 5, 3, 172, 21, 6, 154, 0, 15, 45, 3, 47, 21, 7, 133, 148]
abbrev dktL_law_93 : List UInt8 := dkwL_law_93 ++ dktL_law_94
def dkwL_law_92 : List UInt8 := [184, 0, 239, 54, 6, 44, 42, 21, 5, 4, 96, 46, 42, 21, 5, 5, 96, 46, 182, 0, 241, 54, 7, 44]
abbrev dktL_law_92 : List UInt8 := dkwL_law_92 ++ dktL_law_93
def dkwL_law_91 : List UInt8 := [148, 153, 0, 5, 3, 172, 167, 1, 157, 43, 42, 21, 5, 4, 96, 46, 42, 21, 5, 5, 96, 46, 45]
abbrev dktL_law_91 : List UInt8 := dkwL_law_91 ++ dktL_law_92
def dkwL_law_90 : List UInt8 := [54, 7, 44, 182, 0, 136, 21, 6, 159, 0, 5, 3, 172, 21, 6, 154, 0, 15, 45, 3, 47, 21, 7, 133]
abbrev dktL_law_90 : List UInt8 := dkwL_law_90 ++ dktL_law_91
def dkwL_law_89 : List UInt8 := [46, 45, 184, 0, 236, 54, 6, 44, 42, 21, 5, 4, 96, 46, 42, 21, 5, 5, 96, 46, 182, 0, 238]
abbrev dktL_law_89 : List UInt8 := dkwL_law_89 ++ dktL_law_90
def dkwL_law_88 : List UInt8 := [21, 7, 133, 148, 153, 0, 5, 3, 172, 167, 1, 225, 43, 42, 21, 5, 4, 96, 46, 42, 21, 5, 5, 96]
abbrev dktL_law_88 : List UInt8 := dkwL_law_88 ++ dktL_law_89
def dkwL_law_87 : List UInt8 := [182, 0, 235, 54, 7, 44, 182, 0, 136, 21, 6, 159, 0, 5, 3, 172, 21, 6, 154, 0, 15, 45, 3, 47]
abbrev dktL_law_87 : List UInt8 := dkwL_law_87 ++ dktL_law_88
def dkwL_law_86 : List UInt8 := [5, 96, 46, 45, 184, 0, 233, 54, 6, 44, 42, 21, 5, 4, 96, 46, 42, 21, 5, 5, 96, 46]
abbrev dktL_law_86 : List UInt8 := dkwL_law_86 ++ dktL_law_87
def dkwL_law_85 : List UInt8 := [3, 47, 21, 7, 133, 148, 153, 0, 5, 3, 172, 167, 2, 37, 43, 42, 21, 5, 4, 96, 46, 42, 21, 5]
abbrev dktL_law_85 : List UInt8 := dkwL_law_85 ++ dktL_law_86
def dkwL_law_84 : List UInt8 := [96, 46, 182, 0, 232, 54, 7, 44, 182, 0, 136, 21, 6, 159, 0, 5, 3, 172, 21, 6, 154, 0, 15, 45]
abbrev dktL_law_84 : List UInt8 := dkwL_law_84 ++ dktL_law_85
def dkwL_law_83 : List UInt8 := [46, 42, 21, 5, 5, 96, 46, 45, 184, 0, 230, 54, 6, 44, 42, 21, 5, 4, 96, 46, 42, 21, 5, 5]
abbrev dktL_law_83 : List UInt8 := dkwL_law_83 ++ dktL_law_84
def dkwL_law_82 : List UInt8 := [154, 0, 15, 45, 3, 47, 21, 7, 133, 148, 153, 0, 5, 3, 172, 167, 2, 105, 43, 42, 21, 5, 4, 96]
abbrev dktL_law_82 : List UInt8 := dkwL_law_82 ++ dktL_law_83
def dkwL_law_81 : List UInt8 := [21, 5, 4, 96, 46, 182, 0, 229, 54, 7, 44, 182, 0, 136, 21, 6, 159, 0, 5, 3, 172, 21, 6]
abbrev dktL_law_81 : List UInt8 := dkwL_law_81 ++ dktL_law_82
def dkwL_law_80 : List UInt8 := [148, 153, 0, 5, 3, 172, 167, 2, 161, 43, 42, 21, 5, 4, 96, 46, 45, 184, 0, 227, 54, 6, 44, 42]
abbrev dktL_law_80 : List UInt8 := dkwL_law_80 ++ dktL_law_81
def dkwL_law_79 : List UInt8 := [54, 7, 44, 182, 0, 136, 21, 6, 159, 0, 5, 3, 172, 21, 6, 154, 0, 15, 45, 3, 47, 21, 7, 133]
abbrev dktL_law_79 : List UInt8 := dkwL_law_79 ++ dktL_law_80
def dkwL_law_78 : List UInt8 := [46, 45, 184, 0, 224, 54, 6, 44, 42, 21, 5, 4, 96, 46, 42, 21, 5, 5, 96, 46, 182, 0, 226]
abbrev dktL_law_78 : List UInt8 := dkwL_law_78 ++ dktL_law_79
def dkwL_law_77 : List UInt8 := [21, 7, 133, 148, 153, 0, 5, 3, 172, 167, 2, 229, 43, 42, 21, 5, 4, 96, 46, 42, 21, 5, 5, 96]
abbrev dktL_law_77 : List UInt8 := dkwL_law_77 ++ dktL_law_78
def dkwL_law_76 : List UInt8 := [182, 0, 223, 54, 7, 44, 182, 0, 136, 21, 6, 159, 0, 5, 3, 172, 21, 6, 154, 0, 15, 45, 3, 47]
abbrev dktL_law_76 : List UInt8 := dkwL_law_76 ++ dktL_law_77
def dkwL_law_75 : List UInt8 := [184, 0, 221, 54, 6, 44, 42, 21, 5, 4, 96, 46, 42, 21, 5, 5, 96, 46, 42, 21, 5, 6, 96, 46]
abbrev dktL_law_75 : List UInt8 := dkwL_law_75 ++ dktL_law_76
def dkwL_law_74 : List UInt8 := [167, 3, 53, 43, 42, 21, 5, 4, 96, 46, 42, 21, 5, 5, 96, 46, 42, 21, 5, 6, 96, 46, 45]
abbrev dktL_law_74 : List UInt8 := dkwL_law_74 ++ dktL_law_75
def dkwL_law_73 : List UInt8 := [21, 6, 159, 0, 5, 3, 172, 21, 6, 154, 0, 15, 45, 3, 47, 21, 7, 133, 148, 153, 0, 5, 3, 172]
abbrev dktL_law_73 : List UInt8 := dkwL_law_73 ++ dktL_law_74
def dkwL_law_72 : List UInt8 := [96, 46, 42, 21, 5, 5, 96, 46, 42, 21, 5, 6, 96, 46, 182, 0, 220, 54, 7, 44, 182, 0, 136]
abbrev dktL_law_72 : List UInt8 := dkwL_law_72 ++ dktL_law_73
def dkwL_law_71 : List UInt8 := [46, 42, 21, 5, 5, 96, 46, 42, 21, 5, 6, 96, 46, 45, 184, 0, 218, 54, 6, 44, 42, 21, 5, 4]
abbrev dktL_law_71 : List UInt8 := dkwL_law_71 ++ dktL_law_72
def dkwL_law_70 : List UInt8 := [154, 0, 15, 45, 3, 47, 21, 7, 133, 148, 153, 0, 5, 3, 172, 167, 3, 133, 43, 42, 21, 5, 4, 96]
abbrev dktL_law_70 : List UInt8 := dkwL_law_70 ++ dktL_law_71
def dkwL_law_69 : List UInt8 := [21, 5, 4, 96, 46, 182, 0, 217, 54, 7, 44, 182, 0, 136, 21, 6, 159, 0, 5, 3, 172, 21, 6]
abbrev dktL_law_69 : List UInt8 := dkwL_law_69 ++ dktL_law_70
def dkwL_law_68 : List UInt8 := [153, 0, 5, 3, 172, 167, 3, 189, 43, 42, 21, 5, 4, 96, 46, 45, 184, 0, 215, 54, 6, 44, 42]
abbrev dktL_law_68 : List UInt8 := dkwL_law_68 ++ dktL_law_69
def dkwL_law_67 : List UInt8 := [182, 0, 136, 21, 6, 159, 0, 5, 3, 172, 21, 6, 154, 0, 15, 45, 3, 47, 21, 7, 133, 148]
abbrev dktL_law_67 : List UInt8 := dkwL_law_67 ++ dktL_law_68
def dkwL_law_66 : List UInt8 := [184, 0, 212, 54, 6, 44, 42, 21, 5, 4, 96, 46, 42, 21, 5, 5, 96, 46, 182, 0, 214, 54, 7, 44]
abbrev dktL_law_66 : List UInt8 := dkwL_law_66 ++ dktL_law_67
def dkwL_law_65 : List UInt8 := [153, 0, 5, 3, 172, 167, 4, 1, 43, 42, 21, 5, 4, 96, 46, 42, 21, 5, 5, 96, 46, 45]
abbrev dktL_law_65 : List UInt8 := dkwL_law_65 ++ dktL_law_66
def dkwL_law_64 : List UInt8 := [182, 0, 136, 21, 6, 159, 0, 5, 3, 172, 21, 6, 154, 0, 15, 45, 3, 47, 21, 7, 133, 148]
abbrev dktL_law_64 : List UInt8 := dkwL_law_64 ++ dktL_law_65
def dkwL_law_63 : List UInt8 := [21, 5, 4, 96, 46, 45, 184, 0, 209, 54, 6, 44, 42, 21, 5, 4, 96, 46, 182, 0, 211, 54, 7, 44]
abbrev dktL_law_63 : List UInt8 := dkwL_law_63 ++ dktL_law_64
def dkwL_law_62 : List UInt8 := [172, 21, 6, 154, 0, 15, 45, 3, 47, 21, 7, 133, 148, 153, 0, 5, 3, 172, 167, 4, 57, 43, 42]
abbrev dktL_law_62 : List UInt8 := dkwL_law_62 ++ dktL_law_63
def dkwL_law_61 : List UInt8 := [54, 6, 44, 42, 21, 5, 4, 96, 46, 182, 0, 208, 54, 7, 44, 182, 0, 136, 21, 6, 159, 0, 5, 3]
abbrev dktL_law_61 : List UInt8 := dkwL_law_61 ++ dktL_law_62
def dkwL_law_60 : List UInt8 := [21, 7, 133, 148, 153, 0, 5, 3, 172, 167, 4, 113, 43, 42, 21, 5, 4, 96, 46, 45, 184, 0, 206]
abbrev dktL_law_60 : List UInt8 := dkwL_law_60 ++ dktL_law_61
def dkwL_law_59 : List UInt8 := [182, 0, 205, 54, 7, 44, 182, 0, 136, 21, 6, 159, 0, 5, 3, 172, 21, 6, 154, 0, 15, 45, 3, 47]
abbrev dktL_law_59 : List UInt8 := dkwL_law_59 ++ dktL_law_60
def dkwL_law_58 : List UInt8 := [21, 5, 5, 96, 46, 45, 184, 0, 203, 54, 6, 44, 42, 21, 5, 4, 96, 46, 42, 21, 5, 5, 96, 46]
abbrev dktL_law_58 : List UInt8 := dkwL_law_58 ++ dktL_law_59
def dkwL_law_57 : List UInt8 := [45, 3, 47, 21, 7, 133, 148, 153, 0, 5, 3, 172, 167, 4, 181, 43, 42, 21, 5, 4, 96, 46, 42]
abbrev dktL_law_57 : List UInt8 := dkwL_law_57 ++ dktL_law_58
def dkwL_law_56 : List UInt8 := [7, 96, 46, 182, 0, 202, 54, 7, 44, 182, 0, 136, 21, 6, 159, 0, 5, 3, 172, 21, 6, 154, 0, 15]
abbrev dktL_law_56 : List UInt8 := dkwL_law_56 ++ dktL_law_57
def dkwL_law_55 : List UInt8 := [54, 6, 44, 42, 21, 5, 4, 96, 46, 42, 21, 5, 5, 96, 46, 42, 21, 5, 6, 96, 46, 42, 21, 5]
abbrev dktL_law_55 : List UInt8 := dkwL_law_55 ++ dktL_law_56
def dkwL_law_54 : List UInt8 := [46, 42, 21, 5, 5, 96, 46, 42, 21, 5, 6, 96, 46, 42, 21, 5, 7, 96, 46, 45, 184, 0, 200]
abbrev dktL_law_54 : List UInt8 := dkwL_law_54 ++ dktL_law_55
def dkwL_law_53 : List UInt8 := [154, 0, 15, 45, 3, 47, 21, 7, 133, 148, 153, 0, 5, 3, 172, 167, 5, 17, 43, 42, 21, 5, 4, 96]
abbrev dktL_law_53 : List UInt8 := dkwL_law_53 ++ dktL_law_54
def dkwL_law_52 : List UInt8 := [21, 5, 6, 96, 46, 182, 0, 199, 54, 7, 44, 182, 0, 136, 21, 6, 159, 0, 5, 3, 172, 21, 6]
abbrev dktL_law_52 : List UInt8 := dkwL_law_52 ++ dktL_law_53
def dkwL_law_51 : List UInt8 := [6, 96, 46, 45, 184, 0, 197, 54, 6, 44, 42, 21, 5, 4, 96, 46, 42, 21, 5, 5, 96, 46, 42]
abbrev dktL_law_51 : List UInt8 := dkwL_law_51 ++ dktL_law_52
def dkwL_law_50 : List UInt8 := [153, 0, 5, 3, 172, 167, 5, 97, 43, 42, 21, 5, 4, 96, 46, 42, 21, 5, 5, 96, 46, 42, 21, 5]
abbrev dktL_law_50 : List UInt8 := dkwL_law_50 ++ dktL_law_51
def dkwL_law_49 : List UInt8 := [182, 0, 136, 21, 6, 159, 0, 5, 3, 172, 21, 6, 154, 0, 15, 45, 3, 47, 21, 7, 133, 148]
abbrev dktL_law_49 : List UInt8 := dkwL_law_49 ++ dktL_law_50
def dkwL_law_48 : List UInt8 := [184, 0, 194, 54, 6, 44, 42, 21, 5, 4, 96, 46, 42, 21, 5, 5, 96, 46, 182, 0, 196, 54, 7, 44]
abbrev dktL_law_48 : List UInt8 := dkwL_law_48 ++ dktL_law_49
def dkwL_law_47 : List UInt8 := [153, 0, 5, 3, 172, 167, 5, 165, 43, 42, 21, 5, 4, 96, 46, 42, 21, 5, 5, 96, 46, 45]
abbrev dktL_law_47 : List UInt8 := dkwL_law_47 ++ dktL_law_48
def dkwL_law_46 : List UInt8 := [182, 0, 136, 21, 6, 159, 0, 5, 3, 172, 21, 6, 154, 0, 15, 45, 3, 47, 21, 7, 133, 148]
abbrev dktL_law_46 : List UInt8 := dkwL_law_46 ++ dktL_law_47
def dkwL_law_45 : List UInt8 := [21, 5, 5, 96, 46, 42, 21, 5, 6, 96, 46, 42, 21, 5, 7, 96, 46, 182, 0, 193, 54, 7, 44]
abbrev dktL_law_45 : List UInt8 := dkwL_law_45 ++ dktL_law_46
def dkwL_law_44 : List UInt8 := [6, 96, 46, 42, 21, 5, 7, 96, 46, 45, 184, 0, 191, 54, 6, 44, 42, 21, 5, 4, 96, 46, 42]
abbrev dktL_law_44 : List UInt8 := dkwL_law_44 ++ dktL_law_45
def dkwL_law_43 : List UInt8 := [153, 0, 5, 3, 172, 167, 6, 1, 43, 42, 21, 5, 4, 96, 46, 42, 21, 5, 5, 96, 46, 42, 21, 5]
abbrev dktL_law_43 : List UInt8 := dkwL_law_43 ++ dktL_law_44
def dkwL_law_42 : List UInt8 := [182, 0, 136, 21, 6, 159, 0, 5, 3, 172, 21, 6, 154, 0, 15, 45, 3, 47, 21, 7, 133, 148]
abbrev dktL_law_42 : List UInt8 := dkwL_law_42 ++ dktL_law_43
def dkwL_law_41 : List UInt8 := [21, 5, 5, 96, 46, 42, 21, 5, 6, 96, 46, 42, 21, 5, 7, 96, 46, 182, 0, 190, 54, 7, 44]
abbrev dktL_law_41 : List UInt8 := dkwL_law_41 ++ dktL_law_42
def dkwL_law_40 : List UInt8 := [6, 96, 46, 42, 21, 5, 7, 96, 46, 45, 184, 0, 188, 54, 6, 44, 42, 21, 5, 4, 96, 46, 42]
abbrev dktL_law_40 : List UInt8 := dkwL_law_40 ++ dktL_law_41
def dkwL_law_39 : List UInt8 := [153, 0, 5, 3, 172, 167, 6, 93, 43, 42, 21, 5, 4, 96, 46, 42, 21, 5, 5, 96, 46, 42, 21, 5]
abbrev dktL_law_39 : List UInt8 := dkwL_law_39 ++ dktL_law_40
def dkwL_law_38 : List UInt8 := [182, 0, 136, 21, 6, 159, 0, 5, 3, 172, 21, 6, 154, 0, 15, 45, 3, 47, 21, 7, 133, 148]
abbrev dktL_law_38 : List UInt8 := dkwL_law_38 ++ dktL_law_39
def dkwL_law_37 : List UInt8 := [184, 0, 185, 54, 6, 44, 42, 21, 5, 4, 96, 46, 42, 21, 5, 5, 96, 46, 182, 0, 187, 54, 7, 44]
abbrev dktL_law_37 : List UInt8 := dkwL_law_37 ++ dktL_law_38
def dkwL_law_36 : List UInt8 := [153, 0, 5, 3, 172, 167, 6, 161, 43, 42, 21, 5, 4, 96, 46, 42, 21, 5, 5, 96, 46, 45]
abbrev dktL_law_36 : List UInt8 := dkwL_law_36 ++ dktL_law_37
def dkwL_law_35 : List UInt8 := [182, 0, 136, 21, 6, 159, 0, 5, 3, 172, 21, 6, 154, 0, 15, 45, 3, 47, 21, 7, 133, 148]
abbrev dktL_law_35 : List UInt8 := dkwL_law_35 ++ dktL_law_36
def dkwL_law_34 : List UInt8 := [184, 0, 182, 54, 6, 44, 42, 21, 5, 4, 96, 46, 42, 21, 5, 5, 96, 46, 182, 0, 184, 54, 7, 44]
abbrev dktL_law_34 : List UInt8 := dkwL_law_34 ++ dktL_law_35
def dkwL_law_33 : List UInt8 := [153, 0, 5, 3, 172, 167, 6, 229, 43, 42, 21, 5, 4, 96, 46, 42, 21, 5, 5, 96, 46, 45]
abbrev dktL_law_33 : List UInt8 := dkwL_law_33 ++ dktL_law_34
def dkwL_law_32 : List UInt8 := [182, 0, 136, 21, 6, 159, 0, 5, 3, 172, 21, 6, 154, 0, 15, 45, 3, 47, 21, 7, 133, 148]
abbrev dktL_law_32 : List UInt8 := dkwL_law_32 ++ dktL_law_33
def dkwL_law_31 : List UInt8 := [184, 0, 179, 54, 6, 44, 42, 21, 5, 4, 96, 46, 42, 21, 5, 5, 96, 46, 182, 0, 181, 54, 7, 44]
abbrev dktL_law_31 : List UInt8 := dkwL_law_31 ++ dktL_law_32
def dkwL_law_30 : List UInt8 := [148, 153, 0, 5, 3, 172, 167, 7, 41, 43, 42, 21, 5, 4, 96, 46, 42, 21, 5, 5, 96, 46, 45]
abbrev dktL_law_30 : List UInt8 := dkwL_law_30 ++ dktL_law_31
def dkwL_law_29 : List UInt8 := [54, 7, 44, 182, 0, 136, 21, 6, 159, 0, 5, 3, 172, 21, 6, 154, 0, 15, 45, 3, 47, 21, 7, 133]
abbrev dktL_law_29 : List UInt8 := dkwL_law_29 ++ dktL_law_30
def dkwL_law_28 : List UInt8 := [46, 45, 184, 0, 176, 54, 6, 44, 42, 21, 5, 4, 96, 46, 42, 21, 5, 5, 96, 46, 182, 0, 178]
abbrev dktL_law_28 : List UInt8 := dkwL_law_28 ++ dktL_law_29
def dkwL_law_27 : List UInt8 := [21, 7, 133, 148, 153, 0, 5, 3, 172, 167, 7, 109, 43, 42, 21, 5, 4, 96, 46, 42, 21, 5, 5, 96]
abbrev dktL_law_27 : List UInt8 := dkwL_law_27 ++ dktL_law_28
def dkwL_law_26 : List UInt8 := [182, 0, 175, 54, 7, 44, 182, 0, 136, 21, 6, 159, 0, 5, 3, 172, 21, 6, 154, 0, 15, 45, 3, 47]
abbrev dktL_law_26 : List UInt8 := dkwL_law_26 ++ dktL_law_27
def dkwL_law_25 : List UInt8 := [167, 7, 165, 43, 42, 21, 5, 4, 96, 46, 45, 184, 0, 173, 54, 6, 44, 42, 21, 5, 4, 96, 46]
abbrev dktL_law_25 : List UInt8 := dkwL_law_25 ++ dktL_law_26
def dkwL_law_24 : List UInt8 := [159, 0, 5, 3, 172, 21, 6, 154, 0, 15, 45, 3, 47, 21, 7, 133, 148, 153, 0, 5, 3, 172]
abbrev dktL_law_24 : List UInt8 := dkwL_law_24 ++ dktL_law_25
def dkwL_law_23 : List UInt8 := [21, 5, 4, 96, 46, 42, 21, 5, 5, 96, 46, 182, 0, 172, 54, 7, 44, 182, 0, 136, 21, 6]
abbrev dktL_law_23 : List UInt8 := dkwL_law_23 ++ dktL_law_24
def dkwL_law_22 : List UInt8 := [167, 7, 233, 43, 42, 21, 5, 4, 96, 46, 42, 21, 5, 5, 96, 46, 45, 184, 0, 170, 54, 6, 44, 42]
abbrev dktL_law_22 : List UInt8 := dkwL_law_22 ++ dktL_law_23
def dkwL_law_21 : List UInt8 := [159, 0, 5, 3, 172, 21, 6, 154, 0, 15, 45, 3, 47, 21, 7, 133, 148, 153, 0, 5, 3, 172]
abbrev dktL_law_21 : List UInt8 := dkwL_law_21 ++ dktL_law_22
def dkwL_law_20 : List UInt8 := [21, 5, 4, 96, 46, 42, 21, 5, 5, 96, 46, 182, 0, 169, 54, 7, 44, 182, 0, 136, 21, 6]
abbrev dktL_law_20 : List UInt8 := dkwL_law_20 ++ dktL_law_21
def dkwL_law_19 : List UInt8 := [167, 8, 45, 43, 42, 21, 5, 4, 96, 46, 42, 21, 5, 5, 96, 46, 45, 184, 0, 166, 54, 6, 44, 42]
abbrev dktL_law_19 : List UInt8 := dkwL_law_19 ++ dktL_law_20
def dkwL_law_18 : List UInt8 := [21, 6, 159, 0, 5, 3, 172, 21, 6, 154, 0, 15, 45, 3, 47, 21, 7, 133, 148, 153, 0, 5, 3, 172]
abbrev dktL_law_18 : List UInt8 := dkwL_law_18 ++ dktL_law_19
def dkwL_law_17 : List UInt8 := [96, 46, 42, 21, 5, 5, 96, 46, 42, 21, 5, 6, 96, 46, 182, 0, 165, 54, 7, 44, 182, 0, 136]
abbrev dktL_law_17 : List UInt8 := dkwL_law_17 ++ dktL_law_18
def dkwL_law_16 : List UInt8 := [46, 42, 21, 5, 5, 96, 46, 42, 21, 5, 6, 96, 46, 45, 184, 0, 162, 54, 6, 44, 42, 21, 5, 4]
abbrev dktL_law_16 : List UInt8 := dkwL_law_16 ++ dktL_law_17
def dkwL_law_15 : List UInt8 := [154, 0, 15, 45, 3, 47, 21, 7, 133, 148, 153, 0, 5, 3, 172, 167, 8, 125, 43, 42, 21, 5, 4, 96]
abbrev dktL_law_15 : List UInt8 := dkwL_law_15 ++ dktL_law_16
def dkwL_law_14 : List UInt8 := [42, 21, 5, 7, 96, 46, 182, 0, 161, 54, 7, 44, 182, 0, 136, 21, 6, 159, 0, 5, 3, 172, 21, 6]
abbrev dktL_law_14 : List UInt8 := dkwL_law_14 ++ dktL_law_15
def dkwL_law_13 : List UInt8 := [184, 0, 158, 54, 6, 44, 42, 21, 5, 4, 96, 46, 42, 21, 5, 5, 96, 46, 42, 21, 5, 6, 96, 46]
abbrev dktL_law_13 : List UInt8 := dkwL_law_13 ++ dktL_law_14
def dkwL_law_12 : List UInt8 := [21, 5, 4, 96, 46, 42, 21, 5, 5, 96, 46, 42, 21, 5, 6, 96, 46, 42, 21, 5, 7, 96, 46, 45]
abbrev dktL_law_12 : List UInt8 := dkwL_law_12 ++ dktL_law_13
def dkwL_law_11 : List UInt8 := [172, 21, 6, 154, 0, 15, 45, 3, 47, 21, 7, 133, 148, 153, 0, 5, 3, 172, 167, 8, 217, 43, 42]
abbrev dktL_law_11 : List UInt8 := dkwL_law_11 ++ dktL_law_12
def dkwL_law_10 : List UInt8 := [54, 6, 44, 42, 21, 5, 4, 96, 46, 182, 0, 157, 54, 7, 44, 182, 0, 136, 21, 6, 159, 0, 5, 3]
abbrev dktL_law_10 : List UInt8 := dkwL_law_10 ++ dktL_law_11
def dkwL_law_9 : List UInt8 := [182, 0, 151, 44, 182, 0, 154, 159, 9, 19, 3, 172, 43, 42, 21, 5, 4, 96, 46, 45, 184, 0, 155]
abbrev dktL_law_9 : List UInt8 := dkwL_law_9 ++ dktL_law_10
def dkwL_law_8 : List UInt8 := [182, 0, 146, 159, 9, 45, 3, 172, 43, 182, 0, 147, 44, 182, 0, 150, 159, 9, 32, 3, 172, 43]
abbrev dktL_law_8 : List UInt8 := dkwL_law_8 ++ dktL_law_9
def dkwL_law_7 : List UInt8 := [154, 0, 15, 45, 3, 47, 21, 7, 133, 148, 153, 0, 5, 3, 172, 167, 9, 56, 43, 182, 0, 143, 44]
abbrev dktL_law_7 : List UInt8 := dkwL_law_7 ++ dktL_law_8
def dkwL_law_6 : List UInt8 := [21, 5, 4, 96, 46, 182, 0, 142, 54, 7, 44, 182, 0, 136, 21, 6, 159, 0, 5, 3, 172, 21, 6]
abbrev dktL_law_6 : List UInt8 := dkwL_law_6 ++ dktL_law_7
def dkwL_law_5 : List UInt8 := [148, 153, 0, 5, 3, 172, 167, 9, 112, 43, 42, 21, 5, 4, 96, 46, 45, 184, 0, 140, 54, 6, 44, 42]
abbrev dktL_law_5 : List UInt8 := dkwL_law_5 ++ dktL_law_6
def dkwL_law_4 : List UInt8 := [54, 7, 44, 182, 0, 136, 21, 6, 159, 0, 5, 3, 172, 21, 6, 154, 0, 15, 45, 3, 47, 21, 7, 133]
abbrev dktL_law_4 : List UInt8 := dkwL_law_4 ++ dktL_law_5
def dkwL_law_3 : List UInt8 := [43, 42, 21, 5, 4, 96, 46, 45, 184, 0, 130, 54, 6, 44, 42, 21, 5, 4, 96, 46, 182, 0, 135]
abbrev dktL_law_3 : List UInt8 := dkwL_law_3 ++ dktL_law_4
def dkwL_law_2 : List UInt8 := [170, 0, 0, 0, 0, 0, 10, 89, 0, 0, 0, 0, 0, 0, 0, 40, 0, 0, 0, 180, 0, 0, 0, 236, 0, 0, 1, 36, 0, 0, 1, 49, 0, 0, 1, 62, 0, 0, 1, 75, 0, 0, 1, 131, 0, 0, 1, 223, 0, 0, 2, 47, 0, 0, 2, 115, 0, 0, 2, 183, 0, 0, 2, 239, 0, 0, 3, 51, 0, 0, 3, 119, 0, 0, 3, 187, 0, 0, 3, 255, 0, 0, 4, 91, 0, 0, 4, 183, 0, 0, 4, 251, 0, 0, 5, 75, 0, 0, 5, 167, 0, 0, 5, 235, 0, 0, 6, 35, 0, 0, 6, 91, 0, 0, 6, 159, 0, 0, 6, 215, 0, 0, 7, 39, 0, 0, 7, 119, 0, 0, 7, 187, 0, 0, 7, 243, 0, 0, 8, 55, 0, 0, 8, 123, 0, 0, 8, 191, 0, 0, 9, 3, 0, 0, 9, 59, 0, 0, 9, 73, 0, 0, 9, 141, 0, 0, 9, 219, 0, 0, 9, 232, 0, 0, 10, 17, 0, 0, 10, 53]
abbrev dktL_law_2 : List UInt8 := dkwL_law_2 ++ dktL_law_3
def dkwL_law_1 : List UInt8 := [58, 4, 3, 54, 5, 21, 5, 42, 190, 8, 100, 163, 10, 105, 42, 21, 5, 46, 16, 63, 126]
abbrev dktL_law_1 : List UInt8 := dkwL_law_1 ++ dktL_law_2
def dkwL_law_0 : List UInt8 := [187, 0, 8, 89, 183, 0, 126, 76, 187, 0, 127, 89, 183, 0, 129, 77, 4, 188, 11, 78, 4, 188, 7]
abbrev dktL_law_0 : List UInt8 := dkwL_law_0 ++ dktL_law_1
theorem dksL_law_0 : cL_law.data.toList.drop 0 = dktL_law_0 := by decide +kernel
theorem dksL_law_1 : cL_law.data.toList.drop 23 = dktL_law_1 := dk_seg dksL_law_0 23 rfl rfl
theorem dksL_law_2 : cL_law.data.toList.drop 44 = dktL_law_2 := dk_seg dksL_law_1 21 rfl rfl
theorem dksL_law_3 : cL_law.data.toList.drop 224 = dktL_law_3 := dk_seg dksL_law_2 180 rfl rfl
theorem dksL_law_4 : cL_law.data.toList.drop 247 = dktL_law_4 := dk_seg dksL_law_3 23 rfl rfl
theorem dksL_law_5 : cL_law.data.toList.drop 271 = dktL_law_5 := dk_seg dksL_law_4 24 rfl rfl
theorem dksL_law_6 : cL_law.data.toList.drop 295 = dktL_law_6 := dk_seg dksL_law_5 24 rfl rfl
theorem dksL_law_7 : cL_law.data.toList.drop 318 = dktL_law_7 := dk_seg dksL_law_6 23 rfl rfl
theorem dksL_law_8 : cL_law.data.toList.drop 341 = dktL_law_8 := dk_seg dksL_law_7 23 rfl rfl
theorem dksL_law_9 : cL_law.data.toList.drop 363 = dktL_law_9 := dk_seg dksL_law_8 22 rfl rfl
theorem dksL_law_10 : cL_law.data.toList.drop 386 = dktL_law_10 := dk_seg dksL_law_9 23 rfl rfl
theorem dksL_law_11 : cL_law.data.toList.drop 410 = dktL_law_11 := dk_seg dksL_law_10 24 rfl rfl
theorem dksL_law_12 : cL_law.data.toList.drop 433 = dktL_law_12 := dk_seg dksL_law_11 23 rfl rfl
theorem dksL_law_13 : cL_law.data.toList.drop 457 = dktL_law_13 := dk_seg dksL_law_12 24 rfl rfl
theorem dksL_law_14 : cL_law.data.toList.drop 481 = dktL_law_14 := dk_seg dksL_law_13 24 rfl rfl
theorem dksL_law_15 : cL_law.data.toList.drop 505 = dktL_law_15 := dk_seg dksL_law_14 24 rfl rfl
theorem dksL_law_16 : cL_law.data.toList.drop 529 = dktL_law_16 := dk_seg dksL_law_15 24 rfl rfl
theorem dksL_law_17 : cL_law.data.toList.drop 553 = dktL_law_17 := dk_seg dksL_law_16 24 rfl rfl
theorem dksL_law_18 : cL_law.data.toList.drop 576 = dktL_law_18 := dk_seg dksL_law_17 23 rfl rfl
theorem dksL_law_19 : cL_law.data.toList.drop 600 = dktL_law_19 := dk_seg dksL_law_18 24 rfl rfl
theorem dksL_law_20 : cL_law.data.toList.drop 624 = dktL_law_20 := dk_seg dksL_law_19 24 rfl rfl
theorem dksL_law_21 : cL_law.data.toList.drop 646 = dktL_law_21 := dk_seg dksL_law_20 22 rfl rfl
theorem dksL_law_22 : cL_law.data.toList.drop 668 = dktL_law_22 := dk_seg dksL_law_21 22 rfl rfl
theorem dksL_law_23 : cL_law.data.toList.drop 692 = dktL_law_23 := dk_seg dksL_law_22 24 rfl rfl
theorem dksL_law_24 : cL_law.data.toList.drop 714 = dktL_law_24 := dk_seg dksL_law_23 22 rfl rfl
theorem dksL_law_25 : cL_law.data.toList.drop 736 = dktL_law_25 := dk_seg dksL_law_24 22 rfl rfl
theorem dksL_law_26 : cL_law.data.toList.drop 759 = dktL_law_26 := dk_seg dksL_law_25 23 rfl rfl
theorem dksL_law_27 : cL_law.data.toList.drop 783 = dktL_law_27 := dk_seg dksL_law_26 24 rfl rfl
theorem dksL_law_28 : cL_law.data.toList.drop 807 = dktL_law_28 := dk_seg dksL_law_27 24 rfl rfl
theorem dksL_law_29 : cL_law.data.toList.drop 830 = dktL_law_29 := dk_seg dksL_law_28 23 rfl rfl
theorem dksL_law_30 : cL_law.data.toList.drop 854 = dktL_law_30 := dk_seg dksL_law_29 24 rfl rfl
theorem dksL_law_31 : cL_law.data.toList.drop 877 = dktL_law_31 := dk_seg dksL_law_30 23 rfl rfl
theorem dksL_law_32 : cL_law.data.toList.drop 901 = dktL_law_32 := dk_seg dksL_law_31 24 rfl rfl
theorem dksL_law_33 : cL_law.data.toList.drop 923 = dktL_law_33 := dk_seg dksL_law_32 22 rfl rfl
theorem dksL_law_34 : cL_law.data.toList.drop 945 = dktL_law_34 := dk_seg dksL_law_33 22 rfl rfl
theorem dksL_law_35 : cL_law.data.toList.drop 969 = dktL_law_35 := dk_seg dksL_law_34 24 rfl rfl
theorem dksL_law_36 : cL_law.data.toList.drop 991 = dktL_law_36 := dk_seg dksL_law_35 22 rfl rfl
theorem dksL_law_37 : cL_law.data.toList.drop 1013 = dktL_law_37 := dk_seg dksL_law_36 22 rfl rfl
theorem dksL_law_38 : cL_law.data.toList.drop 1037 = dktL_law_38 := dk_seg dksL_law_37 24 rfl rfl
theorem dksL_law_39 : cL_law.data.toList.drop 1059 = dktL_law_39 := dk_seg dksL_law_38 22 rfl rfl
theorem dksL_law_40 : cL_law.data.toList.drop 1083 = dktL_law_40 := dk_seg dksL_law_39 24 rfl rfl
theorem dksL_law_41 : cL_law.data.toList.drop 1106 = dktL_law_41 := dk_seg dksL_law_40 23 rfl rfl
theorem dksL_law_42 : cL_law.data.toList.drop 1129 = dktL_law_42 := dk_seg dksL_law_41 23 rfl rfl
theorem dksL_law_43 : cL_law.data.toList.drop 1151 = dktL_law_43 := dk_seg dksL_law_42 22 rfl rfl
theorem dksL_law_44 : cL_law.data.toList.drop 1175 = dktL_law_44 := dk_seg dksL_law_43 24 rfl rfl
theorem dksL_law_45 : cL_law.data.toList.drop 1198 = dktL_law_45 := dk_seg dksL_law_44 23 rfl rfl
theorem dksL_law_46 : cL_law.data.toList.drop 1221 = dktL_law_46 := dk_seg dksL_law_45 23 rfl rfl
theorem dksL_law_47 : cL_law.data.toList.drop 1243 = dktL_law_47 := dk_seg dksL_law_46 22 rfl rfl
theorem dksL_law_48 : cL_law.data.toList.drop 1265 = dktL_law_48 := dk_seg dksL_law_47 22 rfl rfl
theorem dksL_law_49 : cL_law.data.toList.drop 1289 = dktL_law_49 := dk_seg dksL_law_48 24 rfl rfl
theorem dksL_law_50 : cL_law.data.toList.drop 1311 = dktL_law_50 := dk_seg dksL_law_49 22 rfl rfl
theorem dksL_law_51 : cL_law.data.toList.drop 1335 = dktL_law_51 := dk_seg dksL_law_50 24 rfl rfl
theorem dksL_law_52 : cL_law.data.toList.drop 1358 = dktL_law_52 := dk_seg dksL_law_51 23 rfl rfl
theorem dksL_law_53 : cL_law.data.toList.drop 1381 = dktL_law_53 := dk_seg dksL_law_52 23 rfl rfl
theorem dksL_law_54 : cL_law.data.toList.drop 1405 = dktL_law_54 := dk_seg dksL_law_53 24 rfl rfl
theorem dksL_law_55 : cL_law.data.toList.drop 1428 = dktL_law_55 := dk_seg dksL_law_54 23 rfl rfl
theorem dksL_law_56 : cL_law.data.toList.drop 1452 = dktL_law_56 := dk_seg dksL_law_55 24 rfl rfl
theorem dksL_law_57 : cL_law.data.toList.drop 1476 = dktL_law_57 := dk_seg dksL_law_56 24 rfl rfl
theorem dksL_law_58 : cL_law.data.toList.drop 1499 = dktL_law_58 := dk_seg dksL_law_57 23 rfl rfl
theorem dksL_law_59 : cL_law.data.toList.drop 1523 = dktL_law_59 := dk_seg dksL_law_58 24 rfl rfl
theorem dksL_law_60 : cL_law.data.toList.drop 1547 = dktL_law_60 := dk_seg dksL_law_59 24 rfl rfl
theorem dksL_law_61 : cL_law.data.toList.drop 1570 = dktL_law_61 := dk_seg dksL_law_60 23 rfl rfl
theorem dksL_law_62 : cL_law.data.toList.drop 1594 = dktL_law_62 := dk_seg dksL_law_61 24 rfl rfl
theorem dksL_law_63 : cL_law.data.toList.drop 1617 = dktL_law_63 := dk_seg dksL_law_62 23 rfl rfl
theorem dksL_law_64 : cL_law.data.toList.drop 1641 = dktL_law_64 := dk_seg dksL_law_63 24 rfl rfl
theorem dksL_law_65 : cL_law.data.toList.drop 1663 = dktL_law_65 := dk_seg dksL_law_64 22 rfl rfl
theorem dksL_law_66 : cL_law.data.toList.drop 1685 = dktL_law_66 := dk_seg dksL_law_65 22 rfl rfl
theorem dksL_law_67 : cL_law.data.toList.drop 1709 = dktL_law_67 := dk_seg dksL_law_66 24 rfl rfl
theorem dksL_law_68 : cL_law.data.toList.drop 1731 = dktL_law_68 := dk_seg dksL_law_67 22 rfl rfl
theorem dksL_law_69 : cL_law.data.toList.drop 1754 = dktL_law_69 := dk_seg dksL_law_68 23 rfl rfl
theorem dksL_law_70 : cL_law.data.toList.drop 1777 = dktL_law_70 := dk_seg dksL_law_69 23 rfl rfl
theorem dksL_law_71 : cL_law.data.toList.drop 1801 = dktL_law_71 := dk_seg dksL_law_70 24 rfl rfl
theorem dksL_law_72 : cL_law.data.toList.drop 1825 = dktL_law_72 := dk_seg dksL_law_71 24 rfl rfl
theorem dksL_law_73 : cL_law.data.toList.drop 1848 = dktL_law_73 := dk_seg dksL_law_72 23 rfl rfl
theorem dksL_law_74 : cL_law.data.toList.drop 1872 = dktL_law_74 := dk_seg dksL_law_73 24 rfl rfl
theorem dksL_law_75 : cL_law.data.toList.drop 1895 = dktL_law_75 := dk_seg dksL_law_74 23 rfl rfl
theorem dksL_law_76 : cL_law.data.toList.drop 1919 = dktL_law_76 := dk_seg dksL_law_75 24 rfl rfl
theorem dksL_law_77 : cL_law.data.toList.drop 1943 = dktL_law_77 := dk_seg dksL_law_76 24 rfl rfl
theorem dksL_law_78 : cL_law.data.toList.drop 1967 = dktL_law_78 := dk_seg dksL_law_77 24 rfl rfl
theorem dksL_law_79 : cL_law.data.toList.drop 1990 = dktL_law_79 := dk_seg dksL_law_78 23 rfl rfl
theorem dksL_law_80 : cL_law.data.toList.drop 2014 = dktL_law_80 := dk_seg dksL_law_79 24 rfl rfl
theorem dksL_law_81 : cL_law.data.toList.drop 2038 = dktL_law_81 := dk_seg dksL_law_80 24 rfl rfl
theorem dksL_law_82 : cL_law.data.toList.drop 2061 = dktL_law_82 := dk_seg dksL_law_81 23 rfl rfl
theorem dksL_law_83 : cL_law.data.toList.drop 2085 = dktL_law_83 := dk_seg dksL_law_82 24 rfl rfl
theorem dksL_law_84 : cL_law.data.toList.drop 2109 = dktL_law_84 := dk_seg dksL_law_83 24 rfl rfl
theorem dksL_law_85 : cL_law.data.toList.drop 2133 = dktL_law_85 := dk_seg dksL_law_84 24 rfl rfl
theorem dksL_law_86 : cL_law.data.toList.drop 2157 = dktL_law_86 := dk_seg dksL_law_85 24 rfl rfl
theorem dksL_law_87 : cL_law.data.toList.drop 2179 = dktL_law_87 := dk_seg dksL_law_86 22 rfl rfl
theorem dksL_law_88 : cL_law.data.toList.drop 2203 = dktL_law_88 := dk_seg dksL_law_87 24 rfl rfl
theorem dksL_law_89 : cL_law.data.toList.drop 2227 = dktL_law_89 := dk_seg dksL_law_88 24 rfl rfl
theorem dksL_law_90 : cL_law.data.toList.drop 2250 = dktL_law_90 := dk_seg dksL_law_89 23 rfl rfl
theorem dksL_law_91 : cL_law.data.toList.drop 2274 = dktL_law_91 := dk_seg dksL_law_90 24 rfl rfl
theorem dksL_law_92 : cL_law.data.toList.drop 2297 = dktL_law_92 := dk_seg dksL_law_91 23 rfl rfl
theorem dksL_law_93 : cL_law.data.toList.drop 2321 = dktL_law_93 := dk_seg dksL_law_92 24 rfl rfl
theorem dksL_law_94 : cL_law.data.toList.drop 2343 = dktL_law_94 := dk_seg dksL_law_93 22 rfl rfl
theorem dksL_law_95 : cL_law.data.toList.drop 2366 = dktL_law_95 := dk_seg dksL_law_94 23 rfl rfl
theorem dksL_law_96 : cL_law.data.toList.drop 2389 = dktL_law_96 := dk_seg dksL_law_95 23 rfl rfl
theorem dksL_law_97 : cL_law.data.toList.drop 2412 = dktL_law_97 := dk_seg dksL_law_96 23 rfl rfl
theorem dksL_law_98 : cL_law.data.toList.drop 2435 = dktL_law_98 := dk_seg dksL_law_97 23 rfl rfl
theorem dksL_law_99 : cL_law.data.toList.drop 2459 = dktL_law_99 := dk_seg dksL_law_98 24 rfl rfl
theorem dksL_law_100 : cL_law.data.toList.drop 2481 = dktL_law_100 := dk_seg dksL_law_99 22 rfl rfl
theorem dksL_law_101 : cL_law.data.toList.drop 2505 = dktL_law_101 := dk_seg dksL_law_100 24 rfl rfl
theorem dksL_law_102 : cL_law.data.toList.drop 2528 = dktL_law_102 := dk_seg dksL_law_101 23 rfl rfl
theorem dksL_law_103 : cL_law.data.toList.drop 2551 = dktL_law_103 := dk_seg dksL_law_102 23 rfl rfl
theorem dksL_law_104 : cL_law.data.toList.drop 2575 = dktL_law_104 := dk_seg dksL_law_103 24 rfl rfl
theorem dksL_law_105 : cL_law.data.toList.drop 2597 = dktL_law_105 := dk_seg dksL_law_104 22 rfl rfl
theorem dksL_law_106 : cL_law.data.toList.drop 2621 = dktL_law_106 := dk_seg dksL_law_105 24 rfl rfl
theorem dksL_law_107 : cL_law.data.toList.drop 2644 = dktL_law_107 := dk_seg dksL_law_106 23 rfl rfl
theorem dksL_law_108 : cL_law.data.toList.drop 2667 = dktL_law_108 := dk_seg dksL_law_107 23 rfl rfl
theorem dksL_law_109 : cL_law.data.toList.drop 2690 = dktL_law_109 := dk_seg dksL_law_108 23 rfl rfl
theorem dL_law_0 : decode cL_law 0 = .ok (.new 8, 3) := dk_187 0 8 (dk_at dksL_law_0 0 rfl rfl)
theorem dL_law_3 : decode cL_law 3 = .ok (.dup, 1) := dk_89 (dk_at dksL_law_0 3 rfl rfl)
theorem dL_law_4 : decode cL_law 4 = .ok (.invokespecial 126, 3) := dk_183 0 126 (dk_at dksL_law_0 4 rfl rfl)
theorem dL_law_7 : decode cL_law 7 = .ok (.astore_n 1, 1) := dk_76 (dk_at dksL_law_0 7 rfl rfl)
theorem dL_law_8 : decode cL_law 8 = .ok (.new 127, 3) := dk_187 0 127 (dk_at dksL_law_0 8 rfl rfl)
theorem dL_law_11 : decode cL_law 11 = .ok (.dup, 1) := dk_89 (dk_at dksL_law_0 11 rfl rfl)
theorem dL_law_12 : decode cL_law 12 = .ok (.invokespecial 129, 3) := dk_183 0 129 (dk_at dksL_law_0 12 rfl rfl)
theorem dL_law_15 : decode cL_law 15 = .ok (.astore_n 2, 1) := dk_77 (dk_at dksL_law_0 15 rfl rfl)
theorem dL_law_16 : decode cL_law 16 = .ok (.iconst 1, 1) := dk_4 (dk_at dksL_law_0 16 rfl rfl)
theorem dL_law_17 : decode cL_law 17 = .ok (.newarray .long, 2) := dk_188_11 (dk_at dksL_law_0 17 rfl rfl)
theorem dL_law_19 : decode cL_law 19 = .ok (.astore_n 3, 1) := dk_78 (dk_at dksL_law_0 19 rfl rfl)
theorem dL_law_20 : decode cL_law 20 = .ok (.iconst 1, 1) := dk_4 (dk_at dksL_law_0 20 rfl rfl)
theorem dL_law_21 : decode cL_law 21 = .ok (.newarray .double, 2) := dk_188_7 (dk_at dksL_law_0 21 rfl rfl)
theorem dL_law_23 : decode cL_law 23 = .ok (.astore 4, 2) := dk_58 4 (dk_at dksL_law_1 0 rfl rfl)
theorem dL_law_25 : decode cL_law 25 = .ok (.iconst 0, 1) := dk_3 (dk_at dksL_law_1 2 rfl rfl)
theorem dL_law_26 : decode cL_law 26 = .ok (.istore 5, 2) := dk_54 5 (dk_at dksL_law_1 3 rfl rfl)
theorem dL_law_28 : decode cL_law 28 = .ok (.iload 5, 2) := dk_21 5 (dk_at dksL_law_1 5 rfl rfl)
theorem dL_law_30 : decode cL_law 30 = .ok (.aload_n 0, 1) := dk_42 (dk_at dksL_law_1 7 rfl rfl)
theorem dL_law_31 : decode cL_law 31 = .ok (.arraylength, 1) := dk_190 (dk_at dksL_law_1 8 rfl rfl)
theorem dL_law_32 : decode cL_law 32 = .ok (.iconst 5, 1) := dk_8 (dk_at dksL_law_1 9 rfl rfl)
theorem dL_law_33 : decode cL_law 33 = .ok (.isub, 1) := dk_100 (dk_at dksL_law_1 10 rfl rfl)
theorem dL_law_34 : decode cL_law 34 = .ok (.if_icmp .gt 2665, 3) := dk_163 10 105 (dk_at dksL_law_1 11 rfl rfl)
theorem dL_law_37 : decode cL_law 37 = .ok (.aload_n 0, 1) := dk_42 (dk_at dksL_law_1 14 rfl rfl)
theorem dL_law_38 : decode cL_law 38 = .ok (.iload 5, 2) := dk_21 5 (dk_at dksL_law_1 15 rfl rfl)
theorem dL_law_40 : decode cL_law 40 = .ok (.iaload, 1) := dk_46 (dk_at dksL_law_1 17 rfl rfl)
theorem dL_law_41 : decode cL_law 41 = .ok (.bipush 63, 2) := dk_16 63 (dk_at dksL_law_1 18 rfl rfl)
theorem dL_law_43 : decode cL_law 43 = .ok (.iand, 1) := dk_126 (dk_at dksL_law_1 20 rfl rfl)
theorem dL_law_44 : decode cL_law 44 = .ok (.tableswitch 2649 0 40 #[180, 236, 292, 305, 318, 331, 387, 479, 559, 627, 695, 751, 819, 887, 955, 1023, 1115, 1207, 1275, 1355, 1447, 1515, 1571, 1627, 1695, 1751, 1831, 1911, 1979, 2035, 2103, 2171, 2239, 2307, 2363, 2377, 2445, 2523, 2536, 2577, 2613], 180) := by decide +kernel
theorem dL_law_224 : decode cL_law 224 = .ok (.aload_n 1, 1) := dk_43 (dk_at dksL_law_3 0 rfl rfl)
theorem dL_law_225 : decode cL_law 225 = .ok (.aload_n 0, 1) := dk_42 (dk_at dksL_law_3 1 rfl rfl)
theorem dL_law_226 : decode cL_law 226 = .ok (.iload 5, 2) := dk_21 5 (dk_at dksL_law_3 2 rfl rfl)
theorem dL_law_228 : decode cL_law 228 = .ok (.iconst 1, 1) := dk_4 (dk_at dksL_law_3 4 rfl rfl)
theorem dL_law_229 : decode cL_law 229 = .ok (.iadd, 1) := dk_96 (dk_at dksL_law_3 5 rfl rfl)
theorem dL_law_230 : decode cL_law 230 = .ok (.iaload, 1) := dk_46 (dk_at dksL_law_3 6 rfl rfl)
theorem dL_law_231 : decode cL_law 231 = .ok (.aload_n 3, 1) := dk_45 (dk_at dksL_law_3 7 rfl rfl)
theorem dL_law_232 : decode cL_law 232 = .ok (.invokestatic 130, 3) := dk_184 0 130 (dk_at dksL_law_3 8 rfl rfl)
theorem dL_law_235 : decode cL_law 235 = .ok (.istore 6, 2) := dk_54 6 (dk_at dksL_law_3 11 rfl rfl)
theorem dL_law_237 : decode cL_law 237 = .ok (.aload_n 2, 1) := dk_44 (dk_at dksL_law_3 13 rfl rfl)
theorem dL_law_238 : decode cL_law 238 = .ok (.aload_n 0, 1) := dk_42 (dk_at dksL_law_3 14 rfl rfl)
theorem dL_law_239 : decode cL_law 239 = .ok (.iload 5, 2) := dk_21 5 (dk_at dksL_law_3 15 rfl rfl)
theorem dL_law_241 : decode cL_law 241 = .ok (.iconst 1, 1) := dk_4 (dk_at dksL_law_3 17 rfl rfl)
theorem dL_law_242 : decode cL_law 242 = .ok (.iadd, 1) := dk_96 (dk_at dksL_law_3 18 rfl rfl)
theorem dL_law_243 : decode cL_law 243 = .ok (.iaload, 1) := dk_46 (dk_at dksL_law_3 19 rfl rfl)
theorem dL_law_244 : decode cL_law 244 = .ok (.invokevirtual 135, 3) := dk_182 0 135 (dk_at dksL_law_3 20 rfl rfl)
theorem dL_law_247 : decode cL_law 247 = .ok (.istore 7, 2) := dk_54 7 (dk_at dksL_law_4 0 rfl rfl)
theorem dL_law_249 : decode cL_law 249 = .ok (.aload_n 2, 1) := dk_44 (dk_at dksL_law_4 2 rfl rfl)
theorem dL_law_250 : decode cL_law 250 = .ok (.invokevirtual 136, 3) := dk_182 0 136 (dk_at dksL_law_4 3 rfl rfl)
theorem dL_law_253 : decode cL_law 253 = .ok (.iload 6, 2) := dk_21 6 (dk_at dksL_law_4 6 rfl rfl)
theorem dL_law_255 : decode cL_law 255 = .ok (.if_icmp .eq 5, 3) := dk_159 0 5 (dk_at dksL_law_4 8 rfl rfl)
theorem dL_law_258 : decode cL_law 258 = .ok (.iconst 0, 1) := dk_3 (dk_at dksL_law_4 11 rfl rfl)
theorem dL_law_259 : decode cL_law 259 = .ok (.ireturn, 1) := dk_172 (dk_at dksL_law_4 12 rfl rfl)
theorem dL_law_260 : decode cL_law 260 = .ok (.iload 6, 2) := dk_21 6 (dk_at dksL_law_4 13 rfl rfl)
theorem dL_law_262 : decode cL_law 262 = .ok (.ifCond .ne 15, 3) := dk_154 0 15 (dk_at dksL_law_4 15 rfl rfl)
theorem dL_law_265 : decode cL_law 265 = .ok (.aload_n 3, 1) := dk_45 (dk_at dksL_law_4 18 rfl rfl)
theorem dL_law_266 : decode cL_law 266 = .ok (.iconst 0, 1) := dk_3 (dk_at dksL_law_4 19 rfl rfl)
theorem dL_law_267 : decode cL_law 267 = .ok (.laload, 1) := dk_47 (dk_at dksL_law_4 20 rfl rfl)
theorem dL_law_268 : decode cL_law 268 = .ok (.iload 7, 2) := dk_21 7 (dk_at dksL_law_4 21 rfl rfl)
theorem dL_law_270 : decode cL_law 270 = .ok (.i2l, 1) := dk_133 (dk_at dksL_law_4 23 rfl rfl)
theorem dL_law_271 : decode cL_law 271 = .ok (.lcmp, 1) := dk_148 (dk_at dksL_law_5 0 rfl rfl)
theorem dL_law_272 : decode cL_law 272 = .ok (.ifCond .eq 5, 3) := dk_153 0 5 (dk_at dksL_law_5 1 rfl rfl)
theorem dL_law_275 : decode cL_law 275 = .ok (.iconst 0, 1) := dk_3 (dk_at dksL_law_5 4 rfl rfl)
theorem dL_law_276 : decode cL_law 276 = .ok (.ireturn, 1) := dk_172 (dk_at dksL_law_5 5 rfl rfl)
theorem dL_law_277 : decode cL_law 277 = .ok (.goto 2416, 3) := dk_167 9 112 (dk_at dksL_law_5 6 rfl rfl)
theorem dL_law_280 : decode cL_law 280 = .ok (.aload_n 1, 1) := dk_43 (dk_at dksL_law_5 9 rfl rfl)
theorem dL_law_281 : decode cL_law 281 = .ok (.aload_n 0, 1) := dk_42 (dk_at dksL_law_5 10 rfl rfl)
theorem dL_law_282 : decode cL_law 282 = .ok (.iload 5, 2) := dk_21 5 (dk_at dksL_law_5 11 rfl rfl)
theorem dL_law_284 : decode cL_law 284 = .ok (.iconst 1, 1) := dk_4 (dk_at dksL_law_5 13 rfl rfl)
theorem dL_law_285 : decode cL_law 285 = .ok (.iadd, 1) := dk_96 (dk_at dksL_law_5 14 rfl rfl)
theorem dL_law_286 : decode cL_law 286 = .ok (.iaload, 1) := dk_46 (dk_at dksL_law_5 15 rfl rfl)
theorem dL_law_287 : decode cL_law 287 = .ok (.aload_n 3, 1) := dk_45 (dk_at dksL_law_5 16 rfl rfl)
theorem dL_law_288 : decode cL_law 288 = .ok (.invokestatic 140, 3) := dk_184 0 140 (dk_at dksL_law_5 17 rfl rfl)
theorem dL_law_291 : decode cL_law 291 = .ok (.istore 6, 2) := dk_54 6 (dk_at dksL_law_5 20 rfl rfl)
theorem dL_law_293 : decode cL_law 293 = .ok (.aload_n 2, 1) := dk_44 (dk_at dksL_law_5 22 rfl rfl)
theorem dL_law_294 : decode cL_law 294 = .ok (.aload_n 0, 1) := dk_42 (dk_at dksL_law_5 23 rfl rfl)
theorem dL_law_295 : decode cL_law 295 = .ok (.iload 5, 2) := dk_21 5 (dk_at dksL_law_6 0 rfl rfl)
theorem dL_law_297 : decode cL_law 297 = .ok (.iconst 1, 1) := dk_4 (dk_at dksL_law_6 2 rfl rfl)
theorem dL_law_298 : decode cL_law 298 = .ok (.iadd, 1) := dk_96 (dk_at dksL_law_6 3 rfl rfl)
theorem dL_law_299 : decode cL_law 299 = .ok (.iaload, 1) := dk_46 (dk_at dksL_law_6 4 rfl rfl)
theorem dL_law_300 : decode cL_law 300 = .ok (.invokevirtual 142, 3) := dk_182 0 142 (dk_at dksL_law_6 5 rfl rfl)
theorem dL_law_303 : decode cL_law 303 = .ok (.istore 7, 2) := dk_54 7 (dk_at dksL_law_6 8 rfl rfl)
theorem dL_law_305 : decode cL_law 305 = .ok (.aload_n 2, 1) := dk_44 (dk_at dksL_law_6 10 rfl rfl)
theorem dL_law_306 : decode cL_law 306 = .ok (.invokevirtual 136, 3) := dk_182 0 136 (dk_at dksL_law_6 11 rfl rfl)
theorem dL_law_309 : decode cL_law 309 = .ok (.iload 6, 2) := dk_21 6 (dk_at dksL_law_6 14 rfl rfl)
theorem dL_law_311 : decode cL_law 311 = .ok (.if_icmp .eq 5, 3) := dk_159 0 5 (dk_at dksL_law_6 16 rfl rfl)
theorem dL_law_314 : decode cL_law 314 = .ok (.iconst 0, 1) := dk_3 (dk_at dksL_law_6 19 rfl rfl)
theorem dL_law_315 : decode cL_law 315 = .ok (.ireturn, 1) := dk_172 (dk_at dksL_law_6 20 rfl rfl)
theorem dL_law_316 : decode cL_law 316 = .ok (.iload 6, 2) := dk_21 6 (dk_at dksL_law_6 21 rfl rfl)
theorem dL_law_318 : decode cL_law 318 = .ok (.ifCond .ne 15, 3) := dk_154 0 15 (dk_at dksL_law_7 0 rfl rfl)
theorem dL_law_321 : decode cL_law 321 = .ok (.aload_n 3, 1) := dk_45 (dk_at dksL_law_7 3 rfl rfl)
theorem dL_law_322 : decode cL_law 322 = .ok (.iconst 0, 1) := dk_3 (dk_at dksL_law_7 4 rfl rfl)
theorem dL_law_323 : decode cL_law 323 = .ok (.laload, 1) := dk_47 (dk_at dksL_law_7 5 rfl rfl)
theorem dL_law_324 : decode cL_law 324 = .ok (.iload 7, 2) := dk_21 7 (dk_at dksL_law_7 6 rfl rfl)
theorem dL_law_326 : decode cL_law 326 = .ok (.i2l, 1) := dk_133 (dk_at dksL_law_7 8 rfl rfl)
theorem dL_law_327 : decode cL_law 327 = .ok (.lcmp, 1) := dk_148 (dk_at dksL_law_7 9 rfl rfl)
theorem dL_law_328 : decode cL_law 328 = .ok (.ifCond .eq 5, 3) := dk_153 0 5 (dk_at dksL_law_7 10 rfl rfl)
theorem dL_law_331 : decode cL_law 331 = .ok (.iconst 0, 1) := dk_3 (dk_at dksL_law_7 13 rfl rfl)
theorem dL_law_332 : decode cL_law 332 = .ok (.ireturn, 1) := dk_172 (dk_at dksL_law_7 14 rfl rfl)
theorem dL_law_333 : decode cL_law 333 = .ok (.goto 2360, 3) := dk_167 9 56 (dk_at dksL_law_7 15 rfl rfl)
theorem dL_law_336 : decode cL_law 336 = .ok (.aload_n 1, 1) := dk_43 (dk_at dksL_law_7 18 rfl rfl)
theorem dL_law_337 : decode cL_law 337 = .ok (.invokevirtual 143, 3) := dk_182 0 143 (dk_at dksL_law_7 19 rfl rfl)
theorem dL_law_340 : decode cL_law 340 = .ok (.aload_n 2, 1) := dk_44 (dk_at dksL_law_7 22 rfl rfl)
theorem dL_law_341 : decode cL_law 341 = .ok (.invokevirtual 146, 3) := dk_182 0 146 (dk_at dksL_law_8 0 rfl rfl)
theorem dL_law_344 : decode cL_law 344 = .ok (.if_icmp .eq 2349, 3) := dk_159 9 45 (dk_at dksL_law_8 3 rfl rfl)
theorem dL_law_347 : decode cL_law 347 = .ok (.iconst 0, 1) := dk_3 (dk_at dksL_law_8 6 rfl rfl)
theorem dL_law_348 : decode cL_law 348 = .ok (.ireturn, 1) := dk_172 (dk_at dksL_law_8 7 rfl rfl)
theorem dL_law_349 : decode cL_law 349 = .ok (.aload_n 1, 1) := dk_43 (dk_at dksL_law_8 8 rfl rfl)
theorem dL_law_350 : decode cL_law 350 = .ok (.invokevirtual 147, 3) := dk_182 0 147 (dk_at dksL_law_8 9 rfl rfl)
theorem dL_law_353 : decode cL_law 353 = .ok (.aload_n 2, 1) := dk_44 (dk_at dksL_law_8 12 rfl rfl)
theorem dL_law_354 : decode cL_law 354 = .ok (.invokevirtual 150, 3) := dk_182 0 150 (dk_at dksL_law_8 13 rfl rfl)
theorem dL_law_357 : decode cL_law 357 = .ok (.if_icmp .eq 2336, 3) := dk_159 9 32 (dk_at dksL_law_8 16 rfl rfl)
theorem dL_law_360 : decode cL_law 360 = .ok (.iconst 0, 1) := dk_3 (dk_at dksL_law_8 19 rfl rfl)
theorem dL_law_361 : decode cL_law 361 = .ok (.ireturn, 1) := dk_172 (dk_at dksL_law_8 20 rfl rfl)
theorem dL_law_362 : decode cL_law 362 = .ok (.aload_n 1, 1) := dk_43 (dk_at dksL_law_8 21 rfl rfl)
theorem dL_law_363 : decode cL_law 363 = .ok (.invokevirtual 151, 3) := dk_182 0 151 (dk_at dksL_law_9 0 rfl rfl)
theorem dL_law_366 : decode cL_law 366 = .ok (.aload_n 2, 1) := dk_44 (dk_at dksL_law_9 3 rfl rfl)
theorem dL_law_367 : decode cL_law 367 = .ok (.invokevirtual 154, 3) := dk_182 0 154 (dk_at dksL_law_9 4 rfl rfl)
theorem dL_law_370 : decode cL_law 370 = .ok (.if_icmp .eq 2323, 3) := dk_159 9 19 (dk_at dksL_law_9 7 rfl rfl)
theorem dL_law_373 : decode cL_law 373 = .ok (.iconst 0, 1) := dk_3 (dk_at dksL_law_9 10 rfl rfl)
theorem dL_law_374 : decode cL_law 374 = .ok (.ireturn, 1) := dk_172 (dk_at dksL_law_9 11 rfl rfl)
theorem dL_law_375 : decode cL_law 375 = .ok (.aload_n 1, 1) := dk_43 (dk_at dksL_law_9 12 rfl rfl)
theorem dL_law_376 : decode cL_law 376 = .ok (.aload_n 0, 1) := dk_42 (dk_at dksL_law_9 13 rfl rfl)
theorem dL_law_377 : decode cL_law 377 = .ok (.iload 5, 2) := dk_21 5 (dk_at dksL_law_9 14 rfl rfl)
theorem dL_law_379 : decode cL_law 379 = .ok (.iconst 1, 1) := dk_4 (dk_at dksL_law_9 16 rfl rfl)
theorem dL_law_380 : decode cL_law 380 = .ok (.iadd, 1) := dk_96 (dk_at dksL_law_9 17 rfl rfl)
theorem dL_law_381 : decode cL_law 381 = .ok (.iaload, 1) := dk_46 (dk_at dksL_law_9 18 rfl rfl)
theorem dL_law_382 : decode cL_law 382 = .ok (.aload_n 3, 1) := dk_45 (dk_at dksL_law_9 19 rfl rfl)
theorem dL_law_383 : decode cL_law 383 = .ok (.invokestatic 155, 3) := dk_184 0 155 (dk_at dksL_law_9 20 rfl rfl)
theorem dL_law_386 : decode cL_law 386 = .ok (.istore 6, 2) := dk_54 6 (dk_at dksL_law_10 0 rfl rfl)
theorem dL_law_388 : decode cL_law 388 = .ok (.aload_n 2, 1) := dk_44 (dk_at dksL_law_10 2 rfl rfl)
theorem dL_law_389 : decode cL_law 389 = .ok (.aload_n 0, 1) := dk_42 (dk_at dksL_law_10 3 rfl rfl)
theorem dL_law_390 : decode cL_law 390 = .ok (.iload 5, 2) := dk_21 5 (dk_at dksL_law_10 4 rfl rfl)
theorem dL_law_392 : decode cL_law 392 = .ok (.iconst 1, 1) := dk_4 (dk_at dksL_law_10 6 rfl rfl)
theorem dL_law_393 : decode cL_law 393 = .ok (.iadd, 1) := dk_96 (dk_at dksL_law_10 7 rfl rfl)
theorem dL_law_394 : decode cL_law 394 = .ok (.iaload, 1) := dk_46 (dk_at dksL_law_10 8 rfl rfl)
theorem dL_law_395 : decode cL_law 395 = .ok (.invokevirtual 157, 3) := dk_182 0 157 (dk_at dksL_law_10 9 rfl rfl)
theorem dL_law_398 : decode cL_law 398 = .ok (.istore 7, 2) := dk_54 7 (dk_at dksL_law_10 12 rfl rfl)
theorem dL_law_400 : decode cL_law 400 = .ok (.aload_n 2, 1) := dk_44 (dk_at dksL_law_10 14 rfl rfl)
theorem dL_law_401 : decode cL_law 401 = .ok (.invokevirtual 136, 3) := dk_182 0 136 (dk_at dksL_law_10 15 rfl rfl)
theorem dL_law_404 : decode cL_law 404 = .ok (.iload 6, 2) := dk_21 6 (dk_at dksL_law_10 18 rfl rfl)
theorem dL_law_406 : decode cL_law 406 = .ok (.if_icmp .eq 5, 3) := dk_159 0 5 (dk_at dksL_law_10 20 rfl rfl)
theorem dL_law_409 : decode cL_law 409 = .ok (.iconst 0, 1) := dk_3 (dk_at dksL_law_10 23 rfl rfl)
theorem dL_law_410 : decode cL_law 410 = .ok (.ireturn, 1) := dk_172 (dk_at dksL_law_11 0 rfl rfl)
theorem dL_law_411 : decode cL_law 411 = .ok (.iload 6, 2) := dk_21 6 (dk_at dksL_law_11 1 rfl rfl)
theorem dL_law_413 : decode cL_law 413 = .ok (.ifCond .ne 15, 3) := dk_154 0 15 (dk_at dksL_law_11 3 rfl rfl)
theorem dL_law_416 : decode cL_law 416 = .ok (.aload_n 3, 1) := dk_45 (dk_at dksL_law_11 6 rfl rfl)
theorem dL_law_417 : decode cL_law 417 = .ok (.iconst 0, 1) := dk_3 (dk_at dksL_law_11 7 rfl rfl)
theorem dL_law_418 : decode cL_law 418 = .ok (.laload, 1) := dk_47 (dk_at dksL_law_11 8 rfl rfl)
theorem dL_law_419 : decode cL_law 419 = .ok (.iload 7, 2) := dk_21 7 (dk_at dksL_law_11 9 rfl rfl)
theorem dL_law_421 : decode cL_law 421 = .ok (.i2l, 1) := dk_133 (dk_at dksL_law_11 11 rfl rfl)
theorem dL_law_422 : decode cL_law 422 = .ok (.lcmp, 1) := dk_148 (dk_at dksL_law_11 12 rfl rfl)
theorem dL_law_423 : decode cL_law 423 = .ok (.ifCond .eq 5, 3) := dk_153 0 5 (dk_at dksL_law_11 13 rfl rfl)
theorem dL_law_426 : decode cL_law 426 = .ok (.iconst 0, 1) := dk_3 (dk_at dksL_law_11 16 rfl rfl)
theorem dL_law_427 : decode cL_law 427 = .ok (.ireturn, 1) := dk_172 (dk_at dksL_law_11 17 rfl rfl)
theorem dL_law_428 : decode cL_law 428 = .ok (.goto 2265, 3) := dk_167 8 217 (dk_at dksL_law_11 18 rfl rfl)
theorem dL_law_431 : decode cL_law 431 = .ok (.aload_n 1, 1) := dk_43 (dk_at dksL_law_11 21 rfl rfl)
theorem dL_law_432 : decode cL_law 432 = .ok (.aload_n 0, 1) := dk_42 (dk_at dksL_law_11 22 rfl rfl)
theorem dL_law_433 : decode cL_law 433 = .ok (.iload 5, 2) := dk_21 5 (dk_at dksL_law_12 0 rfl rfl)
theorem dL_law_435 : decode cL_law 435 = .ok (.iconst 1, 1) := dk_4 (dk_at dksL_law_12 2 rfl rfl)
theorem dL_law_436 : decode cL_law 436 = .ok (.iadd, 1) := dk_96 (dk_at dksL_law_12 3 rfl rfl)
theorem dL_law_437 : decode cL_law 437 = .ok (.iaload, 1) := dk_46 (dk_at dksL_law_12 4 rfl rfl)
theorem dL_law_438 : decode cL_law 438 = .ok (.aload_n 0, 1) := dk_42 (dk_at dksL_law_12 5 rfl rfl)
theorem dL_law_439 : decode cL_law 439 = .ok (.iload 5, 2) := dk_21 5 (dk_at dksL_law_12 6 rfl rfl)
theorem dL_law_441 : decode cL_law 441 = .ok (.iconst 2, 1) := dk_5 (dk_at dksL_law_12 8 rfl rfl)
theorem dL_law_442 : decode cL_law 442 = .ok (.iadd, 1) := dk_96 (dk_at dksL_law_12 9 rfl rfl)
theorem dL_law_443 : decode cL_law 443 = .ok (.iaload, 1) := dk_46 (dk_at dksL_law_12 10 rfl rfl)
theorem dL_law_444 : decode cL_law 444 = .ok (.aload_n 0, 1) := dk_42 (dk_at dksL_law_12 11 rfl rfl)
theorem dL_law_445 : decode cL_law 445 = .ok (.iload 5, 2) := dk_21 5 (dk_at dksL_law_12 12 rfl rfl)
theorem dL_law_447 : decode cL_law 447 = .ok (.iconst 3, 1) := dk_6 (dk_at dksL_law_12 14 rfl rfl)
theorem dL_law_448 : decode cL_law 448 = .ok (.iadd, 1) := dk_96 (dk_at dksL_law_12 15 rfl rfl)
theorem dL_law_449 : decode cL_law 449 = .ok (.iaload, 1) := dk_46 (dk_at dksL_law_12 16 rfl rfl)
theorem dL_law_450 : decode cL_law 450 = .ok (.aload_n 0, 1) := dk_42 (dk_at dksL_law_12 17 rfl rfl)
theorem dL_law_451 : decode cL_law 451 = .ok (.iload 5, 2) := dk_21 5 (dk_at dksL_law_12 18 rfl rfl)
theorem dL_law_453 : decode cL_law 453 = .ok (.iconst 4, 1) := dk_7 (dk_at dksL_law_12 20 rfl rfl)
theorem dL_law_454 : decode cL_law 454 = .ok (.iadd, 1) := dk_96 (dk_at dksL_law_12 21 rfl rfl)
theorem dL_law_455 : decode cL_law 455 = .ok (.iaload, 1) := dk_46 (dk_at dksL_law_12 22 rfl rfl)
theorem dL_law_456 : decode cL_law 456 = .ok (.aload_n 3, 1) := dk_45 (dk_at dksL_law_12 23 rfl rfl)
theorem dL_law_457 : decode cL_law 457 = .ok (.invokestatic 158, 3) := dk_184 0 158 (dk_at dksL_law_13 0 rfl rfl)
theorem dL_law_460 : decode cL_law 460 = .ok (.istore 6, 2) := dk_54 6 (dk_at dksL_law_13 3 rfl rfl)
theorem dL_law_462 : decode cL_law 462 = .ok (.aload_n 2, 1) := dk_44 (dk_at dksL_law_13 5 rfl rfl)
theorem dL_law_463 : decode cL_law 463 = .ok (.aload_n 0, 1) := dk_42 (dk_at dksL_law_13 6 rfl rfl)
theorem dL_law_464 : decode cL_law 464 = .ok (.iload 5, 2) := dk_21 5 (dk_at dksL_law_13 7 rfl rfl)
theorem dL_law_466 : decode cL_law 466 = .ok (.iconst 1, 1) := dk_4 (dk_at dksL_law_13 9 rfl rfl)
theorem dL_law_467 : decode cL_law 467 = .ok (.iadd, 1) := dk_96 (dk_at dksL_law_13 10 rfl rfl)
theorem dL_law_468 : decode cL_law 468 = .ok (.iaload, 1) := dk_46 (dk_at dksL_law_13 11 rfl rfl)
theorem dL_law_469 : decode cL_law 469 = .ok (.aload_n 0, 1) := dk_42 (dk_at dksL_law_13 12 rfl rfl)
theorem dL_law_470 : decode cL_law 470 = .ok (.iload 5, 2) := dk_21 5 (dk_at dksL_law_13 13 rfl rfl)
theorem dL_law_472 : decode cL_law 472 = .ok (.iconst 2, 1) := dk_5 (dk_at dksL_law_13 15 rfl rfl)
theorem dL_law_473 : decode cL_law 473 = .ok (.iadd, 1) := dk_96 (dk_at dksL_law_13 16 rfl rfl)
theorem dL_law_474 : decode cL_law 474 = .ok (.iaload, 1) := dk_46 (dk_at dksL_law_13 17 rfl rfl)
theorem dL_law_475 : decode cL_law 475 = .ok (.aload_n 0, 1) := dk_42 (dk_at dksL_law_13 18 rfl rfl)
theorem dL_law_476 : decode cL_law 476 = .ok (.iload 5, 2) := dk_21 5 (dk_at dksL_law_13 19 rfl rfl)
theorem dL_law_478 : decode cL_law 478 = .ok (.iconst 3, 1) := dk_6 (dk_at dksL_law_13 21 rfl rfl)
theorem dL_law_479 : decode cL_law 479 = .ok (.iadd, 1) := dk_96 (dk_at dksL_law_13 22 rfl rfl)
theorem dL_law_480 : decode cL_law 480 = .ok (.iaload, 1) := dk_46 (dk_at dksL_law_13 23 rfl rfl)
theorem dL_law_481 : decode cL_law 481 = .ok (.aload_n 0, 1) := dk_42 (dk_at dksL_law_14 0 rfl rfl)
theorem dL_law_482 : decode cL_law 482 = .ok (.iload 5, 2) := dk_21 5 (dk_at dksL_law_14 1 rfl rfl)
theorem dL_law_484 : decode cL_law 484 = .ok (.iconst 4, 1) := dk_7 (dk_at dksL_law_14 3 rfl rfl)
theorem dL_law_485 : decode cL_law 485 = .ok (.iadd, 1) := dk_96 (dk_at dksL_law_14 4 rfl rfl)
theorem dL_law_486 : decode cL_law 486 = .ok (.iaload, 1) := dk_46 (dk_at dksL_law_14 5 rfl rfl)
theorem dL_law_487 : decode cL_law 487 = .ok (.invokevirtual 161, 3) := dk_182 0 161 (dk_at dksL_law_14 6 rfl rfl)
theorem dL_law_490 : decode cL_law 490 = .ok (.istore 7, 2) := dk_54 7 (dk_at dksL_law_14 9 rfl rfl)
theorem dL_law_492 : decode cL_law 492 = .ok (.aload_n 2, 1) := dk_44 (dk_at dksL_law_14 11 rfl rfl)
theorem dL_law_493 : decode cL_law 493 = .ok (.invokevirtual 136, 3) := dk_182 0 136 (dk_at dksL_law_14 12 rfl rfl)
theorem dL_law_496 : decode cL_law 496 = .ok (.iload 6, 2) := dk_21 6 (dk_at dksL_law_14 15 rfl rfl)
theorem dL_law_498 : decode cL_law 498 = .ok (.if_icmp .eq 5, 3) := dk_159 0 5 (dk_at dksL_law_14 17 rfl rfl)
theorem dL_law_501 : decode cL_law 501 = .ok (.iconst 0, 1) := dk_3 (dk_at dksL_law_14 20 rfl rfl)
theorem dL_law_502 : decode cL_law 502 = .ok (.ireturn, 1) := dk_172 (dk_at dksL_law_14 21 rfl rfl)
theorem dL_law_503 : decode cL_law 503 = .ok (.iload 6, 2) := dk_21 6 (dk_at dksL_law_14 22 rfl rfl)
theorem dL_law_505 : decode cL_law 505 = .ok (.ifCond .ne 15, 3) := dk_154 0 15 (dk_at dksL_law_15 0 rfl rfl)
theorem dL_law_508 : decode cL_law 508 = .ok (.aload_n 3, 1) := dk_45 (dk_at dksL_law_15 3 rfl rfl)
theorem dL_law_509 : decode cL_law 509 = .ok (.iconst 0, 1) := dk_3 (dk_at dksL_law_15 4 rfl rfl)
theorem dL_law_510 : decode cL_law 510 = .ok (.laload, 1) := dk_47 (dk_at dksL_law_15 5 rfl rfl)
theorem dL_law_511 : decode cL_law 511 = .ok (.iload 7, 2) := dk_21 7 (dk_at dksL_law_15 6 rfl rfl)
theorem dL_law_513 : decode cL_law 513 = .ok (.i2l, 1) := dk_133 (dk_at dksL_law_15 8 rfl rfl)
theorem dL_law_514 : decode cL_law 514 = .ok (.lcmp, 1) := dk_148 (dk_at dksL_law_15 9 rfl rfl)
theorem dL_law_515 : decode cL_law 515 = .ok (.ifCond .eq 5, 3) := dk_153 0 5 (dk_at dksL_law_15 10 rfl rfl)
theorem dL_law_518 : decode cL_law 518 = .ok (.iconst 0, 1) := dk_3 (dk_at dksL_law_15 13 rfl rfl)
theorem dL_law_519 : decode cL_law 519 = .ok (.ireturn, 1) := dk_172 (dk_at dksL_law_15 14 rfl rfl)
theorem dL_law_520 : decode cL_law 520 = .ok (.goto 2173, 3) := dk_167 8 125 (dk_at dksL_law_15 15 rfl rfl)
theorem dL_law_523 : decode cL_law 523 = .ok (.aload_n 1, 1) := dk_43 (dk_at dksL_law_15 18 rfl rfl)
theorem dL_law_524 : decode cL_law 524 = .ok (.aload_n 0, 1) := dk_42 (dk_at dksL_law_15 19 rfl rfl)
theorem dL_law_525 : decode cL_law 525 = .ok (.iload 5, 2) := dk_21 5 (dk_at dksL_law_15 20 rfl rfl)
theorem dL_law_527 : decode cL_law 527 = .ok (.iconst 1, 1) := dk_4 (dk_at dksL_law_15 22 rfl rfl)
theorem dL_law_528 : decode cL_law 528 = .ok (.iadd, 1) := dk_96 (dk_at dksL_law_15 23 rfl rfl)
theorem dL_law_529 : decode cL_law 529 = .ok (.iaload, 1) := dk_46 (dk_at dksL_law_16 0 rfl rfl)
theorem dL_law_530 : decode cL_law 530 = .ok (.aload_n 0, 1) := dk_42 (dk_at dksL_law_16 1 rfl rfl)
theorem dL_law_531 : decode cL_law 531 = .ok (.iload 5, 2) := dk_21 5 (dk_at dksL_law_16 2 rfl rfl)
theorem dL_law_533 : decode cL_law 533 = .ok (.iconst 2, 1) := dk_5 (dk_at dksL_law_16 4 rfl rfl)
theorem dL_law_534 : decode cL_law 534 = .ok (.iadd, 1) := dk_96 (dk_at dksL_law_16 5 rfl rfl)
theorem dL_law_535 : decode cL_law 535 = .ok (.iaload, 1) := dk_46 (dk_at dksL_law_16 6 rfl rfl)
theorem dL_law_536 : decode cL_law 536 = .ok (.aload_n 0, 1) := dk_42 (dk_at dksL_law_16 7 rfl rfl)
theorem dL_law_537 : decode cL_law 537 = .ok (.iload 5, 2) := dk_21 5 (dk_at dksL_law_16 8 rfl rfl)
theorem dL_law_539 : decode cL_law 539 = .ok (.iconst 3, 1) := dk_6 (dk_at dksL_law_16 10 rfl rfl)
theorem dL_law_540 : decode cL_law 540 = .ok (.iadd, 1) := dk_96 (dk_at dksL_law_16 11 rfl rfl)
theorem dL_law_541 : decode cL_law 541 = .ok (.iaload, 1) := dk_46 (dk_at dksL_law_16 12 rfl rfl)
theorem dL_law_542 : decode cL_law 542 = .ok (.aload_n 3, 1) := dk_45 (dk_at dksL_law_16 13 rfl rfl)
theorem dL_law_543 : decode cL_law 543 = .ok (.invokestatic 162, 3) := dk_184 0 162 (dk_at dksL_law_16 14 rfl rfl)
theorem dL_law_546 : decode cL_law 546 = .ok (.istore 6, 2) := dk_54 6 (dk_at dksL_law_16 17 rfl rfl)
theorem dL_law_548 : decode cL_law 548 = .ok (.aload_n 2, 1) := dk_44 (dk_at dksL_law_16 19 rfl rfl)
theorem dL_law_549 : decode cL_law 549 = .ok (.aload_n 0, 1) := dk_42 (dk_at dksL_law_16 20 rfl rfl)
theorem dL_law_550 : decode cL_law 550 = .ok (.iload 5, 2) := dk_21 5 (dk_at dksL_law_16 21 rfl rfl)
theorem dL_law_552 : decode cL_law 552 = .ok (.iconst 1, 1) := dk_4 (dk_at dksL_law_16 23 rfl rfl)
theorem dL_law_553 : decode cL_law 553 = .ok (.iadd, 1) := dk_96 (dk_at dksL_law_17 0 rfl rfl)
theorem dL_law_554 : decode cL_law 554 = .ok (.iaload, 1) := dk_46 (dk_at dksL_law_17 1 rfl rfl)
theorem dL_law_555 : decode cL_law 555 = .ok (.aload_n 0, 1) := dk_42 (dk_at dksL_law_17 2 rfl rfl)
theorem dL_law_556 : decode cL_law 556 = .ok (.iload 5, 2) := dk_21 5 (dk_at dksL_law_17 3 rfl rfl)
theorem dL_law_558 : decode cL_law 558 = .ok (.iconst 2, 1) := dk_5 (dk_at dksL_law_17 5 rfl rfl)
theorem dL_law_559 : decode cL_law 559 = .ok (.iadd, 1) := dk_96 (dk_at dksL_law_17 6 rfl rfl)
theorem dL_law_560 : decode cL_law 560 = .ok (.iaload, 1) := dk_46 (dk_at dksL_law_17 7 rfl rfl)
theorem dL_law_561 : decode cL_law 561 = .ok (.aload_n 0, 1) := dk_42 (dk_at dksL_law_17 8 rfl rfl)
theorem dL_law_562 : decode cL_law 562 = .ok (.iload 5, 2) := dk_21 5 (dk_at dksL_law_17 9 rfl rfl)
theorem dL_law_564 : decode cL_law 564 = .ok (.iconst 3, 1) := dk_6 (dk_at dksL_law_17 11 rfl rfl)
theorem dL_law_565 : decode cL_law 565 = .ok (.iadd, 1) := dk_96 (dk_at dksL_law_17 12 rfl rfl)
theorem dL_law_566 : decode cL_law 566 = .ok (.iaload, 1) := dk_46 (dk_at dksL_law_17 13 rfl rfl)
theorem dL_law_567 : decode cL_law 567 = .ok (.invokevirtual 165, 3) := dk_182 0 165 (dk_at dksL_law_17 14 rfl rfl)
theorem dL_law_570 : decode cL_law 570 = .ok (.istore 7, 2) := dk_54 7 (dk_at dksL_law_17 17 rfl rfl)
theorem dL_law_572 : decode cL_law 572 = .ok (.aload_n 2, 1) := dk_44 (dk_at dksL_law_17 19 rfl rfl)
theorem dL_law_573 : decode cL_law 573 = .ok (.invokevirtual 136, 3) := dk_182 0 136 (dk_at dksL_law_17 20 rfl rfl)
theorem dL_law_576 : decode cL_law 576 = .ok (.iload 6, 2) := dk_21 6 (dk_at dksL_law_18 0 rfl rfl)
theorem dL_law_578 : decode cL_law 578 = .ok (.if_icmp .eq 5, 3) := dk_159 0 5 (dk_at dksL_law_18 2 rfl rfl)
theorem dL_law_581 : decode cL_law 581 = .ok (.iconst 0, 1) := dk_3 (dk_at dksL_law_18 5 rfl rfl)
theorem dL_law_582 : decode cL_law 582 = .ok (.ireturn, 1) := dk_172 (dk_at dksL_law_18 6 rfl rfl)
theorem dL_law_583 : decode cL_law 583 = .ok (.iload 6, 2) := dk_21 6 (dk_at dksL_law_18 7 rfl rfl)
theorem dL_law_585 : decode cL_law 585 = .ok (.ifCond .ne 15, 3) := dk_154 0 15 (dk_at dksL_law_18 9 rfl rfl)
theorem dL_law_588 : decode cL_law 588 = .ok (.aload_n 3, 1) := dk_45 (dk_at dksL_law_18 12 rfl rfl)
theorem dL_law_589 : decode cL_law 589 = .ok (.iconst 0, 1) := dk_3 (dk_at dksL_law_18 13 rfl rfl)
theorem dL_law_590 : decode cL_law 590 = .ok (.laload, 1) := dk_47 (dk_at dksL_law_18 14 rfl rfl)
theorem dL_law_591 : decode cL_law 591 = .ok (.iload 7, 2) := dk_21 7 (dk_at dksL_law_18 15 rfl rfl)
theorem dL_law_593 : decode cL_law 593 = .ok (.i2l, 1) := dk_133 (dk_at dksL_law_18 17 rfl rfl)
theorem dL_law_594 : decode cL_law 594 = .ok (.lcmp, 1) := dk_148 (dk_at dksL_law_18 18 rfl rfl)
theorem dL_law_595 : decode cL_law 595 = .ok (.ifCond .eq 5, 3) := dk_153 0 5 (dk_at dksL_law_18 19 rfl rfl)
theorem dL_law_598 : decode cL_law 598 = .ok (.iconst 0, 1) := dk_3 (dk_at dksL_law_18 22 rfl rfl)
theorem dL_law_599 : decode cL_law 599 = .ok (.ireturn, 1) := dk_172 (dk_at dksL_law_18 23 rfl rfl)
theorem dL_law_600 : decode cL_law 600 = .ok (.goto 2093, 3) := dk_167 8 45 (dk_at dksL_law_19 0 rfl rfl)
theorem dL_law_603 : decode cL_law 603 = .ok (.aload_n 1, 1) := dk_43 (dk_at dksL_law_19 3 rfl rfl)
theorem dL_law_604 : decode cL_law 604 = .ok (.aload_n 0, 1) := dk_42 (dk_at dksL_law_19 4 rfl rfl)
theorem dL_law_605 : decode cL_law 605 = .ok (.iload 5, 2) := dk_21 5 (dk_at dksL_law_19 5 rfl rfl)
theorem dL_law_607 : decode cL_law 607 = .ok (.iconst 1, 1) := dk_4 (dk_at dksL_law_19 7 rfl rfl)
theorem dL_law_608 : decode cL_law 608 = .ok (.iadd, 1) := dk_96 (dk_at dksL_law_19 8 rfl rfl)
theorem dL_law_609 : decode cL_law 609 = .ok (.iaload, 1) := dk_46 (dk_at dksL_law_19 9 rfl rfl)
theorem dL_law_610 : decode cL_law 610 = .ok (.aload_n 0, 1) := dk_42 (dk_at dksL_law_19 10 rfl rfl)
theorem dL_law_611 : decode cL_law 611 = .ok (.iload 5, 2) := dk_21 5 (dk_at dksL_law_19 11 rfl rfl)
theorem dL_law_613 : decode cL_law 613 = .ok (.iconst 2, 1) := dk_5 (dk_at dksL_law_19 13 rfl rfl)
theorem dL_law_614 : decode cL_law 614 = .ok (.iadd, 1) := dk_96 (dk_at dksL_law_19 14 rfl rfl)
theorem dL_law_615 : decode cL_law 615 = .ok (.iaload, 1) := dk_46 (dk_at dksL_law_19 15 rfl rfl)
theorem dL_law_616 : decode cL_law 616 = .ok (.aload_n 3, 1) := dk_45 (dk_at dksL_law_19 16 rfl rfl)
theorem dL_law_617 : decode cL_law 617 = .ok (.invokestatic 166, 3) := dk_184 0 166 (dk_at dksL_law_19 17 rfl rfl)
theorem dL_law_620 : decode cL_law 620 = .ok (.istore 6, 2) := dk_54 6 (dk_at dksL_law_19 20 rfl rfl)
theorem dL_law_622 : decode cL_law 622 = .ok (.aload_n 2, 1) := dk_44 (dk_at dksL_law_19 22 rfl rfl)
theorem dL_law_623 : decode cL_law 623 = .ok (.aload_n 0, 1) := dk_42 (dk_at dksL_law_19 23 rfl rfl)
theorem dL_law_624 : decode cL_law 624 = .ok (.iload 5, 2) := dk_21 5 (dk_at dksL_law_20 0 rfl rfl)
theorem dL_law_626 : decode cL_law 626 = .ok (.iconst 1, 1) := dk_4 (dk_at dksL_law_20 2 rfl rfl)
theorem dL_law_627 : decode cL_law 627 = .ok (.iadd, 1) := dk_96 (dk_at dksL_law_20 3 rfl rfl)
theorem dL_law_628 : decode cL_law 628 = .ok (.iaload, 1) := dk_46 (dk_at dksL_law_20 4 rfl rfl)
theorem dL_law_629 : decode cL_law 629 = .ok (.aload_n 0, 1) := dk_42 (dk_at dksL_law_20 5 rfl rfl)
theorem dL_law_630 : decode cL_law 630 = .ok (.iload 5, 2) := dk_21 5 (dk_at dksL_law_20 6 rfl rfl)
theorem dL_law_632 : decode cL_law 632 = .ok (.iconst 2, 1) := dk_5 (dk_at dksL_law_20 8 rfl rfl)
theorem dL_law_633 : decode cL_law 633 = .ok (.iadd, 1) := dk_96 (dk_at dksL_law_20 9 rfl rfl)
theorem dL_law_634 : decode cL_law 634 = .ok (.iaload, 1) := dk_46 (dk_at dksL_law_20 10 rfl rfl)
theorem dL_law_635 : decode cL_law 635 = .ok (.invokevirtual 169, 3) := dk_182 0 169 (dk_at dksL_law_20 11 rfl rfl)
theorem dL_law_638 : decode cL_law 638 = .ok (.istore 7, 2) := dk_54 7 (dk_at dksL_law_20 14 rfl rfl)
theorem dL_law_640 : decode cL_law 640 = .ok (.aload_n 2, 1) := dk_44 (dk_at dksL_law_20 16 rfl rfl)
theorem dL_law_641 : decode cL_law 641 = .ok (.invokevirtual 136, 3) := dk_182 0 136 (dk_at dksL_law_20 17 rfl rfl)
theorem dL_law_644 : decode cL_law 644 = .ok (.iload 6, 2) := dk_21 6 (dk_at dksL_law_20 20 rfl rfl)
theorem dL_law_646 : decode cL_law 646 = .ok (.if_icmp .eq 5, 3) := dk_159 0 5 (dk_at dksL_law_21 0 rfl rfl)
theorem dL_law_649 : decode cL_law 649 = .ok (.iconst 0, 1) := dk_3 (dk_at dksL_law_21 3 rfl rfl)
theorem dL_law_650 : decode cL_law 650 = .ok (.ireturn, 1) := dk_172 (dk_at dksL_law_21 4 rfl rfl)
theorem dL_law_651 : decode cL_law 651 = .ok (.iload 6, 2) := dk_21 6 (dk_at dksL_law_21 5 rfl rfl)
theorem dL_law_653 : decode cL_law 653 = .ok (.ifCond .ne 15, 3) := dk_154 0 15 (dk_at dksL_law_21 7 rfl rfl)
theorem dL_law_656 : decode cL_law 656 = .ok (.aload_n 3, 1) := dk_45 (dk_at dksL_law_21 10 rfl rfl)
theorem dL_law_657 : decode cL_law 657 = .ok (.iconst 0, 1) := dk_3 (dk_at dksL_law_21 11 rfl rfl)
theorem dL_law_658 : decode cL_law 658 = .ok (.laload, 1) := dk_47 (dk_at dksL_law_21 12 rfl rfl)
theorem dL_law_659 : decode cL_law 659 = .ok (.iload 7, 2) := dk_21 7 (dk_at dksL_law_21 13 rfl rfl)
theorem dL_law_661 : decode cL_law 661 = .ok (.i2l, 1) := dk_133 (dk_at dksL_law_21 15 rfl rfl)
theorem dL_law_662 : decode cL_law 662 = .ok (.lcmp, 1) := dk_148 (dk_at dksL_law_21 16 rfl rfl)
theorem dL_law_663 : decode cL_law 663 = .ok (.ifCond .eq 5, 3) := dk_153 0 5 (dk_at dksL_law_21 17 rfl rfl)
theorem dL_law_666 : decode cL_law 666 = .ok (.iconst 0, 1) := dk_3 (dk_at dksL_law_21 20 rfl rfl)
theorem dL_law_667 : decode cL_law 667 = .ok (.ireturn, 1) := dk_172 (dk_at dksL_law_21 21 rfl rfl)
theorem dL_law_668 : decode cL_law 668 = .ok (.goto 2025, 3) := dk_167 7 233 (dk_at dksL_law_22 0 rfl rfl)
theorem dL_law_671 : decode cL_law 671 = .ok (.aload_n 1, 1) := dk_43 (dk_at dksL_law_22 3 rfl rfl)
theorem dL_law_672 : decode cL_law 672 = .ok (.aload_n 0, 1) := dk_42 (dk_at dksL_law_22 4 rfl rfl)
theorem dL_law_673 : decode cL_law 673 = .ok (.iload 5, 2) := dk_21 5 (dk_at dksL_law_22 5 rfl rfl)
theorem dL_law_675 : decode cL_law 675 = .ok (.iconst 1, 1) := dk_4 (dk_at dksL_law_22 7 rfl rfl)
theorem dL_law_676 : decode cL_law 676 = .ok (.iadd, 1) := dk_96 (dk_at dksL_law_22 8 rfl rfl)
theorem dL_law_677 : decode cL_law 677 = .ok (.iaload, 1) := dk_46 (dk_at dksL_law_22 9 rfl rfl)
theorem dL_law_678 : decode cL_law 678 = .ok (.aload_n 0, 1) := dk_42 (dk_at dksL_law_22 10 rfl rfl)
theorem dL_law_679 : decode cL_law 679 = .ok (.iload 5, 2) := dk_21 5 (dk_at dksL_law_22 11 rfl rfl)
theorem dL_law_681 : decode cL_law 681 = .ok (.iconst 2, 1) := dk_5 (dk_at dksL_law_22 13 rfl rfl)
theorem dL_law_682 : decode cL_law 682 = .ok (.iadd, 1) := dk_96 (dk_at dksL_law_22 14 rfl rfl)
theorem dL_law_683 : decode cL_law 683 = .ok (.iaload, 1) := dk_46 (dk_at dksL_law_22 15 rfl rfl)
theorem dL_law_684 : decode cL_law 684 = .ok (.aload_n 3, 1) := dk_45 (dk_at dksL_law_22 16 rfl rfl)
theorem dL_law_685 : decode cL_law 685 = .ok (.invokestatic 170, 3) := dk_184 0 170 (dk_at dksL_law_22 17 rfl rfl)
theorem dL_law_688 : decode cL_law 688 = .ok (.istore 6, 2) := dk_54 6 (dk_at dksL_law_22 20 rfl rfl)
theorem dL_law_690 : decode cL_law 690 = .ok (.aload_n 2, 1) := dk_44 (dk_at dksL_law_22 22 rfl rfl)
theorem dL_law_691 : decode cL_law 691 = .ok (.aload_n 0, 1) := dk_42 (dk_at dksL_law_22 23 rfl rfl)
theorem dL_law_692 : decode cL_law 692 = .ok (.iload 5, 2) := dk_21 5 (dk_at dksL_law_23 0 rfl rfl)
theorem dL_law_694 : decode cL_law 694 = .ok (.iconst 1, 1) := dk_4 (dk_at dksL_law_23 2 rfl rfl)
theorem dL_law_695 : decode cL_law 695 = .ok (.iadd, 1) := dk_96 (dk_at dksL_law_23 3 rfl rfl)
theorem dL_law_696 : decode cL_law 696 = .ok (.iaload, 1) := dk_46 (dk_at dksL_law_23 4 rfl rfl)
theorem dL_law_697 : decode cL_law 697 = .ok (.aload_n 0, 1) := dk_42 (dk_at dksL_law_23 5 rfl rfl)
theorem dL_law_698 : decode cL_law 698 = .ok (.iload 5, 2) := dk_21 5 (dk_at dksL_law_23 6 rfl rfl)
theorem dL_law_700 : decode cL_law 700 = .ok (.iconst 2, 1) := dk_5 (dk_at dksL_law_23 8 rfl rfl)
theorem dL_law_701 : decode cL_law 701 = .ok (.iadd, 1) := dk_96 (dk_at dksL_law_23 9 rfl rfl)
theorem dL_law_702 : decode cL_law 702 = .ok (.iaload, 1) := dk_46 (dk_at dksL_law_23 10 rfl rfl)
theorem dL_law_703 : decode cL_law 703 = .ok (.invokevirtual 172, 3) := dk_182 0 172 (dk_at dksL_law_23 11 rfl rfl)
theorem dL_law_706 : decode cL_law 706 = .ok (.istore 7, 2) := dk_54 7 (dk_at dksL_law_23 14 rfl rfl)
theorem dL_law_708 : decode cL_law 708 = .ok (.aload_n 2, 1) := dk_44 (dk_at dksL_law_23 16 rfl rfl)
theorem dL_law_709 : decode cL_law 709 = .ok (.invokevirtual 136, 3) := dk_182 0 136 (dk_at dksL_law_23 17 rfl rfl)
theorem dL_law_712 : decode cL_law 712 = .ok (.iload 6, 2) := dk_21 6 (dk_at dksL_law_23 20 rfl rfl)
theorem dL_law_714 : decode cL_law 714 = .ok (.if_icmp .eq 5, 3) := dk_159 0 5 (dk_at dksL_law_24 0 rfl rfl)
theorem dL_law_717 : decode cL_law 717 = .ok (.iconst 0, 1) := dk_3 (dk_at dksL_law_24 3 rfl rfl)
theorem dL_law_718 : decode cL_law 718 = .ok (.ireturn, 1) := dk_172 (dk_at dksL_law_24 4 rfl rfl)
theorem dL_law_719 : decode cL_law 719 = .ok (.iload 6, 2) := dk_21 6 (dk_at dksL_law_24 5 rfl rfl)
theorem dL_law_721 : decode cL_law 721 = .ok (.ifCond .ne 15, 3) := dk_154 0 15 (dk_at dksL_law_24 7 rfl rfl)
theorem dL_law_724 : decode cL_law 724 = .ok (.aload_n 3, 1) := dk_45 (dk_at dksL_law_24 10 rfl rfl)
theorem dL_law_725 : decode cL_law 725 = .ok (.iconst 0, 1) := dk_3 (dk_at dksL_law_24 11 rfl rfl)
theorem dL_law_726 : decode cL_law 726 = .ok (.laload, 1) := dk_47 (dk_at dksL_law_24 12 rfl rfl)
theorem dL_law_727 : decode cL_law 727 = .ok (.iload 7, 2) := dk_21 7 (dk_at dksL_law_24 13 rfl rfl)
theorem dL_law_729 : decode cL_law 729 = .ok (.i2l, 1) := dk_133 (dk_at dksL_law_24 15 rfl rfl)
theorem dL_law_730 : decode cL_law 730 = .ok (.lcmp, 1) := dk_148 (dk_at dksL_law_24 16 rfl rfl)
theorem dL_law_731 : decode cL_law 731 = .ok (.ifCond .eq 5, 3) := dk_153 0 5 (dk_at dksL_law_24 17 rfl rfl)
theorem dL_law_734 : decode cL_law 734 = .ok (.iconst 0, 1) := dk_3 (dk_at dksL_law_24 20 rfl rfl)
theorem dL_law_735 : decode cL_law 735 = .ok (.ireturn, 1) := dk_172 (dk_at dksL_law_24 21 rfl rfl)
theorem dL_law_736 : decode cL_law 736 = .ok (.goto 1957, 3) := dk_167 7 165 (dk_at dksL_law_25 0 rfl rfl)
theorem dL_law_739 : decode cL_law 739 = .ok (.aload_n 1, 1) := dk_43 (dk_at dksL_law_25 3 rfl rfl)
theorem dL_law_740 : decode cL_law 740 = .ok (.aload_n 0, 1) := dk_42 (dk_at dksL_law_25 4 rfl rfl)
theorem dL_law_741 : decode cL_law 741 = .ok (.iload 5, 2) := dk_21 5 (dk_at dksL_law_25 5 rfl rfl)
theorem dL_law_743 : decode cL_law 743 = .ok (.iconst 1, 1) := dk_4 (dk_at dksL_law_25 7 rfl rfl)
theorem dL_law_744 : decode cL_law 744 = .ok (.iadd, 1) := dk_96 (dk_at dksL_law_25 8 rfl rfl)
theorem dL_law_745 : decode cL_law 745 = .ok (.iaload, 1) := dk_46 (dk_at dksL_law_25 9 rfl rfl)
theorem dL_law_746 : decode cL_law 746 = .ok (.aload_n 3, 1) := dk_45 (dk_at dksL_law_25 10 rfl rfl)
theorem dL_law_747 : decode cL_law 747 = .ok (.invokestatic 173, 3) := dk_184 0 173 (dk_at dksL_law_25 11 rfl rfl)
theorem dL_law_750 : decode cL_law 750 = .ok (.istore 6, 2) := dk_54 6 (dk_at dksL_law_25 14 rfl rfl)
theorem dL_law_752 : decode cL_law 752 = .ok (.aload_n 2, 1) := dk_44 (dk_at dksL_law_25 16 rfl rfl)
theorem dL_law_753 : decode cL_law 753 = .ok (.aload_n 0, 1) := dk_42 (dk_at dksL_law_25 17 rfl rfl)
theorem dL_law_754 : decode cL_law 754 = .ok (.iload 5, 2) := dk_21 5 (dk_at dksL_law_25 18 rfl rfl)
theorem dL_law_756 : decode cL_law 756 = .ok (.iconst 1, 1) := dk_4 (dk_at dksL_law_25 20 rfl rfl)
theorem dL_law_757 : decode cL_law 757 = .ok (.iadd, 1) := dk_96 (dk_at dksL_law_25 21 rfl rfl)
theorem dL_law_758 : decode cL_law 758 = .ok (.iaload, 1) := dk_46 (dk_at dksL_law_25 22 rfl rfl)
theorem dL_law_759 : decode cL_law 759 = .ok (.invokevirtual 175, 3) := dk_182 0 175 (dk_at dksL_law_26 0 rfl rfl)
theorem dL_law_762 : decode cL_law 762 = .ok (.istore 7, 2) := dk_54 7 (dk_at dksL_law_26 3 rfl rfl)
theorem dL_law_764 : decode cL_law 764 = .ok (.aload_n 2, 1) := dk_44 (dk_at dksL_law_26 5 rfl rfl)
theorem dL_law_765 : decode cL_law 765 = .ok (.invokevirtual 136, 3) := dk_182 0 136 (dk_at dksL_law_26 6 rfl rfl)
theorem dL_law_768 : decode cL_law 768 = .ok (.iload 6, 2) := dk_21 6 (dk_at dksL_law_26 9 rfl rfl)
theorem dL_law_770 : decode cL_law 770 = .ok (.if_icmp .eq 5, 3) := dk_159 0 5 (dk_at dksL_law_26 11 rfl rfl)
theorem dL_law_773 : decode cL_law 773 = .ok (.iconst 0, 1) := dk_3 (dk_at dksL_law_26 14 rfl rfl)
theorem dL_law_774 : decode cL_law 774 = .ok (.ireturn, 1) := dk_172 (dk_at dksL_law_26 15 rfl rfl)
theorem dL_law_775 : decode cL_law 775 = .ok (.iload 6, 2) := dk_21 6 (dk_at dksL_law_26 16 rfl rfl)
theorem dL_law_777 : decode cL_law 777 = .ok (.ifCond .ne 15, 3) := dk_154 0 15 (dk_at dksL_law_26 18 rfl rfl)
theorem dL_law_780 : decode cL_law 780 = .ok (.aload_n 3, 1) := dk_45 (dk_at dksL_law_26 21 rfl rfl)
theorem dL_law_781 : decode cL_law 781 = .ok (.iconst 0, 1) := dk_3 (dk_at dksL_law_26 22 rfl rfl)
theorem dL_law_782 : decode cL_law 782 = .ok (.laload, 1) := dk_47 (dk_at dksL_law_26 23 rfl rfl)
theorem dL_law_783 : decode cL_law 783 = .ok (.iload 7, 2) := dk_21 7 (dk_at dksL_law_27 0 rfl rfl)
theorem dL_law_785 : decode cL_law 785 = .ok (.i2l, 1) := dk_133 (dk_at dksL_law_27 2 rfl rfl)
theorem dL_law_786 : decode cL_law 786 = .ok (.lcmp, 1) := dk_148 (dk_at dksL_law_27 3 rfl rfl)
theorem dL_law_787 : decode cL_law 787 = .ok (.ifCond .eq 5, 3) := dk_153 0 5 (dk_at dksL_law_27 4 rfl rfl)
theorem dL_law_790 : decode cL_law 790 = .ok (.iconst 0, 1) := dk_3 (dk_at dksL_law_27 7 rfl rfl)
theorem dL_law_791 : decode cL_law 791 = .ok (.ireturn, 1) := dk_172 (dk_at dksL_law_27 8 rfl rfl)
theorem dL_law_792 : decode cL_law 792 = .ok (.goto 1901, 3) := dk_167 7 109 (dk_at dksL_law_27 9 rfl rfl)
theorem dL_law_795 : decode cL_law 795 = .ok (.aload_n 1, 1) := dk_43 (dk_at dksL_law_27 12 rfl rfl)
theorem dL_law_796 : decode cL_law 796 = .ok (.aload_n 0, 1) := dk_42 (dk_at dksL_law_27 13 rfl rfl)
theorem dL_law_797 : decode cL_law 797 = .ok (.iload 5, 2) := dk_21 5 (dk_at dksL_law_27 14 rfl rfl)
theorem dL_law_799 : decode cL_law 799 = .ok (.iconst 1, 1) := dk_4 (dk_at dksL_law_27 16 rfl rfl)
theorem dL_law_800 : decode cL_law 800 = .ok (.iadd, 1) := dk_96 (dk_at dksL_law_27 17 rfl rfl)
theorem dL_law_801 : decode cL_law 801 = .ok (.iaload, 1) := dk_46 (dk_at dksL_law_27 18 rfl rfl)
theorem dL_law_802 : decode cL_law 802 = .ok (.aload_n 0, 1) := dk_42 (dk_at dksL_law_27 19 rfl rfl)
theorem dL_law_803 : decode cL_law 803 = .ok (.iload 5, 2) := dk_21 5 (dk_at dksL_law_27 20 rfl rfl)
theorem dL_law_805 : decode cL_law 805 = .ok (.iconst 2, 1) := dk_5 (dk_at dksL_law_27 22 rfl rfl)
theorem dL_law_806 : decode cL_law 806 = .ok (.iadd, 1) := dk_96 (dk_at dksL_law_27 23 rfl rfl)
theorem dL_law_807 : decode cL_law 807 = .ok (.iaload, 1) := dk_46 (dk_at dksL_law_28 0 rfl rfl)
theorem dL_law_808 : decode cL_law 808 = .ok (.aload_n 3, 1) := dk_45 (dk_at dksL_law_28 1 rfl rfl)
theorem dL_law_809 : decode cL_law 809 = .ok (.invokestatic 176, 3) := dk_184 0 176 (dk_at dksL_law_28 2 rfl rfl)
theorem dL_law_812 : decode cL_law 812 = .ok (.istore 6, 2) := dk_54 6 (dk_at dksL_law_28 5 rfl rfl)
theorem dL_law_814 : decode cL_law 814 = .ok (.aload_n 2, 1) := dk_44 (dk_at dksL_law_28 7 rfl rfl)
theorem dL_law_815 : decode cL_law 815 = .ok (.aload_n 0, 1) := dk_42 (dk_at dksL_law_28 8 rfl rfl)
theorem dL_law_816 : decode cL_law 816 = .ok (.iload 5, 2) := dk_21 5 (dk_at dksL_law_28 9 rfl rfl)
theorem dL_law_818 : decode cL_law 818 = .ok (.iconst 1, 1) := dk_4 (dk_at dksL_law_28 11 rfl rfl)
theorem dL_law_819 : decode cL_law 819 = .ok (.iadd, 1) := dk_96 (dk_at dksL_law_28 12 rfl rfl)
theorem dL_law_820 : decode cL_law 820 = .ok (.iaload, 1) := dk_46 (dk_at dksL_law_28 13 rfl rfl)
theorem dL_law_821 : decode cL_law 821 = .ok (.aload_n 0, 1) := dk_42 (dk_at dksL_law_28 14 rfl rfl)
theorem dL_law_822 : decode cL_law 822 = .ok (.iload 5, 2) := dk_21 5 (dk_at dksL_law_28 15 rfl rfl)
theorem dL_law_824 : decode cL_law 824 = .ok (.iconst 2, 1) := dk_5 (dk_at dksL_law_28 17 rfl rfl)
theorem dL_law_825 : decode cL_law 825 = .ok (.iadd, 1) := dk_96 (dk_at dksL_law_28 18 rfl rfl)
theorem dL_law_826 : decode cL_law 826 = .ok (.iaload, 1) := dk_46 (dk_at dksL_law_28 19 rfl rfl)
theorem dL_law_827 : decode cL_law 827 = .ok (.invokevirtual 178, 3) := dk_182 0 178 (dk_at dksL_law_28 20 rfl rfl)
theorem dL_law_830 : decode cL_law 830 = .ok (.istore 7, 2) := dk_54 7 (dk_at dksL_law_29 0 rfl rfl)
theorem dL_law_832 : decode cL_law 832 = .ok (.aload_n 2, 1) := dk_44 (dk_at dksL_law_29 2 rfl rfl)
theorem dL_law_833 : decode cL_law 833 = .ok (.invokevirtual 136, 3) := dk_182 0 136 (dk_at dksL_law_29 3 rfl rfl)
theorem dL_law_836 : decode cL_law 836 = .ok (.iload 6, 2) := dk_21 6 (dk_at dksL_law_29 6 rfl rfl)
theorem dL_law_838 : decode cL_law 838 = .ok (.if_icmp .eq 5, 3) := dk_159 0 5 (dk_at dksL_law_29 8 rfl rfl)
theorem dL_law_841 : decode cL_law 841 = .ok (.iconst 0, 1) := dk_3 (dk_at dksL_law_29 11 rfl rfl)
theorem dL_law_842 : decode cL_law 842 = .ok (.ireturn, 1) := dk_172 (dk_at dksL_law_29 12 rfl rfl)
theorem dL_law_843 : decode cL_law 843 = .ok (.iload 6, 2) := dk_21 6 (dk_at dksL_law_29 13 rfl rfl)
theorem dL_law_845 : decode cL_law 845 = .ok (.ifCond .ne 15, 3) := dk_154 0 15 (dk_at dksL_law_29 15 rfl rfl)
theorem dL_law_848 : decode cL_law 848 = .ok (.aload_n 3, 1) := dk_45 (dk_at dksL_law_29 18 rfl rfl)
theorem dL_law_849 : decode cL_law 849 = .ok (.iconst 0, 1) := dk_3 (dk_at dksL_law_29 19 rfl rfl)
theorem dL_law_850 : decode cL_law 850 = .ok (.laload, 1) := dk_47 (dk_at dksL_law_29 20 rfl rfl)
theorem dL_law_851 : decode cL_law 851 = .ok (.iload 7, 2) := dk_21 7 (dk_at dksL_law_29 21 rfl rfl)
theorem dL_law_853 : decode cL_law 853 = .ok (.i2l, 1) := dk_133 (dk_at dksL_law_29 23 rfl rfl)
theorem dL_law_854 : decode cL_law 854 = .ok (.lcmp, 1) := dk_148 (dk_at dksL_law_30 0 rfl rfl)
theorem dL_law_855 : decode cL_law 855 = .ok (.ifCond .eq 5, 3) := dk_153 0 5 (dk_at dksL_law_30 1 rfl rfl)
theorem dL_law_858 : decode cL_law 858 = .ok (.iconst 0, 1) := dk_3 (dk_at dksL_law_30 4 rfl rfl)
theorem dL_law_859 : decode cL_law 859 = .ok (.ireturn, 1) := dk_172 (dk_at dksL_law_30 5 rfl rfl)
theorem dL_law_860 : decode cL_law 860 = .ok (.goto 1833, 3) := dk_167 7 41 (dk_at dksL_law_30 6 rfl rfl)
theorem dL_law_863 : decode cL_law 863 = .ok (.aload_n 1, 1) := dk_43 (dk_at dksL_law_30 9 rfl rfl)
theorem dL_law_864 : decode cL_law 864 = .ok (.aload_n 0, 1) := dk_42 (dk_at dksL_law_30 10 rfl rfl)
theorem dL_law_865 : decode cL_law 865 = .ok (.iload 5, 2) := dk_21 5 (dk_at dksL_law_30 11 rfl rfl)
theorem dL_law_867 : decode cL_law 867 = .ok (.iconst 1, 1) := dk_4 (dk_at dksL_law_30 13 rfl rfl)
theorem dL_law_868 : decode cL_law 868 = .ok (.iadd, 1) := dk_96 (dk_at dksL_law_30 14 rfl rfl)
theorem dL_law_869 : decode cL_law 869 = .ok (.iaload, 1) := dk_46 (dk_at dksL_law_30 15 rfl rfl)
theorem dL_law_870 : decode cL_law 870 = .ok (.aload_n 0, 1) := dk_42 (dk_at dksL_law_30 16 rfl rfl)
theorem dL_law_871 : decode cL_law 871 = .ok (.iload 5, 2) := dk_21 5 (dk_at dksL_law_30 17 rfl rfl)
theorem dL_law_873 : decode cL_law 873 = .ok (.iconst 2, 1) := dk_5 (dk_at dksL_law_30 19 rfl rfl)
theorem dL_law_874 : decode cL_law 874 = .ok (.iadd, 1) := dk_96 (dk_at dksL_law_30 20 rfl rfl)
theorem dL_law_875 : decode cL_law 875 = .ok (.iaload, 1) := dk_46 (dk_at dksL_law_30 21 rfl rfl)
theorem dL_law_876 : decode cL_law 876 = .ok (.aload_n 3, 1) := dk_45 (dk_at dksL_law_30 22 rfl rfl)
theorem dL_law_877 : decode cL_law 877 = .ok (.invokestatic 179, 3) := dk_184 0 179 (dk_at dksL_law_31 0 rfl rfl)
theorem dL_law_880 : decode cL_law 880 = .ok (.istore 6, 2) := dk_54 6 (dk_at dksL_law_31 3 rfl rfl)
theorem dL_law_882 : decode cL_law 882 = .ok (.aload_n 2, 1) := dk_44 (dk_at dksL_law_31 5 rfl rfl)
theorem dL_law_883 : decode cL_law 883 = .ok (.aload_n 0, 1) := dk_42 (dk_at dksL_law_31 6 rfl rfl)
theorem dL_law_884 : decode cL_law 884 = .ok (.iload 5, 2) := dk_21 5 (dk_at dksL_law_31 7 rfl rfl)
theorem dL_law_886 : decode cL_law 886 = .ok (.iconst 1, 1) := dk_4 (dk_at dksL_law_31 9 rfl rfl)
theorem dL_law_887 : decode cL_law 887 = .ok (.iadd, 1) := dk_96 (dk_at dksL_law_31 10 rfl rfl)
theorem dL_law_888 : decode cL_law 888 = .ok (.iaload, 1) := dk_46 (dk_at dksL_law_31 11 rfl rfl)
theorem dL_law_889 : decode cL_law 889 = .ok (.aload_n 0, 1) := dk_42 (dk_at dksL_law_31 12 rfl rfl)
theorem dL_law_890 : decode cL_law 890 = .ok (.iload 5, 2) := dk_21 5 (dk_at dksL_law_31 13 rfl rfl)
theorem dL_law_892 : decode cL_law 892 = .ok (.iconst 2, 1) := dk_5 (dk_at dksL_law_31 15 rfl rfl)
theorem dL_law_893 : decode cL_law 893 = .ok (.iadd, 1) := dk_96 (dk_at dksL_law_31 16 rfl rfl)
theorem dL_law_894 : decode cL_law 894 = .ok (.iaload, 1) := dk_46 (dk_at dksL_law_31 17 rfl rfl)
theorem dL_law_895 : decode cL_law 895 = .ok (.invokevirtual 181, 3) := dk_182 0 181 (dk_at dksL_law_31 18 rfl rfl)
theorem dL_law_898 : decode cL_law 898 = .ok (.istore 7, 2) := dk_54 7 (dk_at dksL_law_31 21 rfl rfl)
theorem dL_law_900 : decode cL_law 900 = .ok (.aload_n 2, 1) := dk_44 (dk_at dksL_law_31 23 rfl rfl)
theorem dL_law_901 : decode cL_law 901 = .ok (.invokevirtual 136, 3) := dk_182 0 136 (dk_at dksL_law_32 0 rfl rfl)
theorem dL_law_904 : decode cL_law 904 = .ok (.iload 6, 2) := dk_21 6 (dk_at dksL_law_32 3 rfl rfl)
theorem dL_law_906 : decode cL_law 906 = .ok (.if_icmp .eq 5, 3) := dk_159 0 5 (dk_at dksL_law_32 5 rfl rfl)
theorem dL_law_909 : decode cL_law 909 = .ok (.iconst 0, 1) := dk_3 (dk_at dksL_law_32 8 rfl rfl)
theorem dL_law_910 : decode cL_law 910 = .ok (.ireturn, 1) := dk_172 (dk_at dksL_law_32 9 rfl rfl)
theorem dL_law_911 : decode cL_law 911 = .ok (.iload 6, 2) := dk_21 6 (dk_at dksL_law_32 10 rfl rfl)
theorem dL_law_913 : decode cL_law 913 = .ok (.ifCond .ne 15, 3) := dk_154 0 15 (dk_at dksL_law_32 12 rfl rfl)
theorem dL_law_916 : decode cL_law 916 = .ok (.aload_n 3, 1) := dk_45 (dk_at dksL_law_32 15 rfl rfl)
theorem dL_law_917 : decode cL_law 917 = .ok (.iconst 0, 1) := dk_3 (dk_at dksL_law_32 16 rfl rfl)
theorem dL_law_918 : decode cL_law 918 = .ok (.laload, 1) := dk_47 (dk_at dksL_law_32 17 rfl rfl)
theorem dL_law_919 : decode cL_law 919 = .ok (.iload 7, 2) := dk_21 7 (dk_at dksL_law_32 18 rfl rfl)
theorem dL_law_921 : decode cL_law 921 = .ok (.i2l, 1) := dk_133 (dk_at dksL_law_32 20 rfl rfl)
theorem dL_law_922 : decode cL_law 922 = .ok (.lcmp, 1) := dk_148 (dk_at dksL_law_32 21 rfl rfl)
theorem dL_law_923 : decode cL_law 923 = .ok (.ifCond .eq 5, 3) := dk_153 0 5 (dk_at dksL_law_33 0 rfl rfl)
theorem dL_law_926 : decode cL_law 926 = .ok (.iconst 0, 1) := dk_3 (dk_at dksL_law_33 3 rfl rfl)
theorem dL_law_927 : decode cL_law 927 = .ok (.ireturn, 1) := dk_172 (dk_at dksL_law_33 4 rfl rfl)
theorem dL_law_928 : decode cL_law 928 = .ok (.goto 1765, 3) := dk_167 6 229 (dk_at dksL_law_33 5 rfl rfl)
theorem dL_law_931 : decode cL_law 931 = .ok (.aload_n 1, 1) := dk_43 (dk_at dksL_law_33 8 rfl rfl)
theorem dL_law_932 : decode cL_law 932 = .ok (.aload_n 0, 1) := dk_42 (dk_at dksL_law_33 9 rfl rfl)
theorem dL_law_933 : decode cL_law 933 = .ok (.iload 5, 2) := dk_21 5 (dk_at dksL_law_33 10 rfl rfl)
theorem dL_law_935 : decode cL_law 935 = .ok (.iconst 1, 1) := dk_4 (dk_at dksL_law_33 12 rfl rfl)
theorem dL_law_936 : decode cL_law 936 = .ok (.iadd, 1) := dk_96 (dk_at dksL_law_33 13 rfl rfl)
theorem dL_law_937 : decode cL_law 937 = .ok (.iaload, 1) := dk_46 (dk_at dksL_law_33 14 rfl rfl)
theorem dL_law_938 : decode cL_law 938 = .ok (.aload_n 0, 1) := dk_42 (dk_at dksL_law_33 15 rfl rfl)
theorem dL_law_939 : decode cL_law 939 = .ok (.iload 5, 2) := dk_21 5 (dk_at dksL_law_33 16 rfl rfl)
theorem dL_law_941 : decode cL_law 941 = .ok (.iconst 2, 1) := dk_5 (dk_at dksL_law_33 18 rfl rfl)
theorem dL_law_942 : decode cL_law 942 = .ok (.iadd, 1) := dk_96 (dk_at dksL_law_33 19 rfl rfl)
theorem dL_law_943 : decode cL_law 943 = .ok (.iaload, 1) := dk_46 (dk_at dksL_law_33 20 rfl rfl)
theorem dL_law_944 : decode cL_law 944 = .ok (.aload_n 3, 1) := dk_45 (dk_at dksL_law_33 21 rfl rfl)
theorem dL_law_945 : decode cL_law 945 = .ok (.invokestatic 182, 3) := dk_184 0 182 (dk_at dksL_law_34 0 rfl rfl)
theorem dL_law_948 : decode cL_law 948 = .ok (.istore 6, 2) := dk_54 6 (dk_at dksL_law_34 3 rfl rfl)
theorem dL_law_950 : decode cL_law 950 = .ok (.aload_n 2, 1) := dk_44 (dk_at dksL_law_34 5 rfl rfl)
theorem dL_law_951 : decode cL_law 951 = .ok (.aload_n 0, 1) := dk_42 (dk_at dksL_law_34 6 rfl rfl)
theorem dL_law_952 : decode cL_law 952 = .ok (.iload 5, 2) := dk_21 5 (dk_at dksL_law_34 7 rfl rfl)
theorem dL_law_954 : decode cL_law 954 = .ok (.iconst 1, 1) := dk_4 (dk_at dksL_law_34 9 rfl rfl)
theorem dL_law_955 : decode cL_law 955 = .ok (.iadd, 1) := dk_96 (dk_at dksL_law_34 10 rfl rfl)
theorem dL_law_956 : decode cL_law 956 = .ok (.iaload, 1) := dk_46 (dk_at dksL_law_34 11 rfl rfl)
theorem dL_law_957 : decode cL_law 957 = .ok (.aload_n 0, 1) := dk_42 (dk_at dksL_law_34 12 rfl rfl)
theorem dL_law_958 : decode cL_law 958 = .ok (.iload 5, 2) := dk_21 5 (dk_at dksL_law_34 13 rfl rfl)
theorem dL_law_960 : decode cL_law 960 = .ok (.iconst 2, 1) := dk_5 (dk_at dksL_law_34 15 rfl rfl)
theorem dL_law_961 : decode cL_law 961 = .ok (.iadd, 1) := dk_96 (dk_at dksL_law_34 16 rfl rfl)
theorem dL_law_962 : decode cL_law 962 = .ok (.iaload, 1) := dk_46 (dk_at dksL_law_34 17 rfl rfl)
theorem dL_law_963 : decode cL_law 963 = .ok (.invokevirtual 184, 3) := dk_182 0 184 (dk_at dksL_law_34 18 rfl rfl)
theorem dL_law_966 : decode cL_law 966 = .ok (.istore 7, 2) := dk_54 7 (dk_at dksL_law_34 21 rfl rfl)
theorem dL_law_968 : decode cL_law 968 = .ok (.aload_n 2, 1) := dk_44 (dk_at dksL_law_34 23 rfl rfl)
theorem dL_law_969 : decode cL_law 969 = .ok (.invokevirtual 136, 3) := dk_182 0 136 (dk_at dksL_law_35 0 rfl rfl)
theorem dL_law_972 : decode cL_law 972 = .ok (.iload 6, 2) := dk_21 6 (dk_at dksL_law_35 3 rfl rfl)
theorem dL_law_974 : decode cL_law 974 = .ok (.if_icmp .eq 5, 3) := dk_159 0 5 (dk_at dksL_law_35 5 rfl rfl)
theorem dL_law_977 : decode cL_law 977 = .ok (.iconst 0, 1) := dk_3 (dk_at dksL_law_35 8 rfl rfl)
theorem dL_law_978 : decode cL_law 978 = .ok (.ireturn, 1) := dk_172 (dk_at dksL_law_35 9 rfl rfl)
theorem dL_law_979 : decode cL_law 979 = .ok (.iload 6, 2) := dk_21 6 (dk_at dksL_law_35 10 rfl rfl)
theorem dL_law_981 : decode cL_law 981 = .ok (.ifCond .ne 15, 3) := dk_154 0 15 (dk_at dksL_law_35 12 rfl rfl)
theorem dL_law_984 : decode cL_law 984 = .ok (.aload_n 3, 1) := dk_45 (dk_at dksL_law_35 15 rfl rfl)
theorem dL_law_985 : decode cL_law 985 = .ok (.iconst 0, 1) := dk_3 (dk_at dksL_law_35 16 rfl rfl)
theorem dL_law_986 : decode cL_law 986 = .ok (.laload, 1) := dk_47 (dk_at dksL_law_35 17 rfl rfl)
theorem dL_law_987 : decode cL_law 987 = .ok (.iload 7, 2) := dk_21 7 (dk_at dksL_law_35 18 rfl rfl)
theorem dL_law_989 : decode cL_law 989 = .ok (.i2l, 1) := dk_133 (dk_at dksL_law_35 20 rfl rfl)
theorem dL_law_990 : decode cL_law 990 = .ok (.lcmp, 1) := dk_148 (dk_at dksL_law_35 21 rfl rfl)
theorem dL_law_991 : decode cL_law 991 = .ok (.ifCond .eq 5, 3) := dk_153 0 5 (dk_at dksL_law_36 0 rfl rfl)
theorem dL_law_994 : decode cL_law 994 = .ok (.iconst 0, 1) := dk_3 (dk_at dksL_law_36 3 rfl rfl)
theorem dL_law_995 : decode cL_law 995 = .ok (.ireturn, 1) := dk_172 (dk_at dksL_law_36 4 rfl rfl)
theorem dL_law_996 : decode cL_law 996 = .ok (.goto 1697, 3) := dk_167 6 161 (dk_at dksL_law_36 5 rfl rfl)
theorem dL_law_999 : decode cL_law 999 = .ok (.aload_n 1, 1) := dk_43 (dk_at dksL_law_36 8 rfl rfl)
theorem dL_law_1000 : decode cL_law 1000 = .ok (.aload_n 0, 1) := dk_42 (dk_at dksL_law_36 9 rfl rfl)
theorem dL_law_1001 : decode cL_law 1001 = .ok (.iload 5, 2) := dk_21 5 (dk_at dksL_law_36 10 rfl rfl)
theorem dL_law_1003 : decode cL_law 1003 = .ok (.iconst 1, 1) := dk_4 (dk_at dksL_law_36 12 rfl rfl)
theorem dL_law_1004 : decode cL_law 1004 = .ok (.iadd, 1) := dk_96 (dk_at dksL_law_36 13 rfl rfl)
theorem dL_law_1005 : decode cL_law 1005 = .ok (.iaload, 1) := dk_46 (dk_at dksL_law_36 14 rfl rfl)
theorem dL_law_1006 : decode cL_law 1006 = .ok (.aload_n 0, 1) := dk_42 (dk_at dksL_law_36 15 rfl rfl)
theorem dL_law_1007 : decode cL_law 1007 = .ok (.iload 5, 2) := dk_21 5 (dk_at dksL_law_36 16 rfl rfl)
theorem dL_law_1009 : decode cL_law 1009 = .ok (.iconst 2, 1) := dk_5 (dk_at dksL_law_36 18 rfl rfl)
theorem dL_law_1010 : decode cL_law 1010 = .ok (.iadd, 1) := dk_96 (dk_at dksL_law_36 19 rfl rfl)
theorem dL_law_1011 : decode cL_law 1011 = .ok (.iaload, 1) := dk_46 (dk_at dksL_law_36 20 rfl rfl)
theorem dL_law_1012 : decode cL_law 1012 = .ok (.aload_n 3, 1) := dk_45 (dk_at dksL_law_36 21 rfl rfl)
theorem dL_law_1013 : decode cL_law 1013 = .ok (.invokestatic 185, 3) := dk_184 0 185 (dk_at dksL_law_37 0 rfl rfl)
theorem dL_law_1016 : decode cL_law 1016 = .ok (.istore 6, 2) := dk_54 6 (dk_at dksL_law_37 3 rfl rfl)
theorem dL_law_1018 : decode cL_law 1018 = .ok (.aload_n 2, 1) := dk_44 (dk_at dksL_law_37 5 rfl rfl)
theorem dL_law_1019 : decode cL_law 1019 = .ok (.aload_n 0, 1) := dk_42 (dk_at dksL_law_37 6 rfl rfl)
theorem dL_law_1020 : decode cL_law 1020 = .ok (.iload 5, 2) := dk_21 5 (dk_at dksL_law_37 7 rfl rfl)
theorem dL_law_1022 : decode cL_law 1022 = .ok (.iconst 1, 1) := dk_4 (dk_at dksL_law_37 9 rfl rfl)
theorem dL_law_1023 : decode cL_law 1023 = .ok (.iadd, 1) := dk_96 (dk_at dksL_law_37 10 rfl rfl)
theorem dL_law_1024 : decode cL_law 1024 = .ok (.iaload, 1) := dk_46 (dk_at dksL_law_37 11 rfl rfl)
theorem dL_law_1025 : decode cL_law 1025 = .ok (.aload_n 0, 1) := dk_42 (dk_at dksL_law_37 12 rfl rfl)
theorem dL_law_1026 : decode cL_law 1026 = .ok (.iload 5, 2) := dk_21 5 (dk_at dksL_law_37 13 rfl rfl)
theorem dL_law_1028 : decode cL_law 1028 = .ok (.iconst 2, 1) := dk_5 (dk_at dksL_law_37 15 rfl rfl)
theorem dL_law_1029 : decode cL_law 1029 = .ok (.iadd, 1) := dk_96 (dk_at dksL_law_37 16 rfl rfl)
theorem dL_law_1030 : decode cL_law 1030 = .ok (.iaload, 1) := dk_46 (dk_at dksL_law_37 17 rfl rfl)
theorem dL_law_1031 : decode cL_law 1031 = .ok (.invokevirtual 187, 3) := dk_182 0 187 (dk_at dksL_law_37 18 rfl rfl)
theorem dL_law_1034 : decode cL_law 1034 = .ok (.istore 7, 2) := dk_54 7 (dk_at dksL_law_37 21 rfl rfl)
theorem dL_law_1036 : decode cL_law 1036 = .ok (.aload_n 2, 1) := dk_44 (dk_at dksL_law_37 23 rfl rfl)
theorem dL_law_1037 : decode cL_law 1037 = .ok (.invokevirtual 136, 3) := dk_182 0 136 (dk_at dksL_law_38 0 rfl rfl)
theorem dL_law_1040 : decode cL_law 1040 = .ok (.iload 6, 2) := dk_21 6 (dk_at dksL_law_38 3 rfl rfl)
theorem dL_law_1042 : decode cL_law 1042 = .ok (.if_icmp .eq 5, 3) := dk_159 0 5 (dk_at dksL_law_38 5 rfl rfl)
theorem dL_law_1045 : decode cL_law 1045 = .ok (.iconst 0, 1) := dk_3 (dk_at dksL_law_38 8 rfl rfl)
theorem dL_law_1046 : decode cL_law 1046 = .ok (.ireturn, 1) := dk_172 (dk_at dksL_law_38 9 rfl rfl)
theorem dL_law_1047 : decode cL_law 1047 = .ok (.iload 6, 2) := dk_21 6 (dk_at dksL_law_38 10 rfl rfl)
theorem dL_law_1049 : decode cL_law 1049 = .ok (.ifCond .ne 15, 3) := dk_154 0 15 (dk_at dksL_law_38 12 rfl rfl)
theorem dL_law_1052 : decode cL_law 1052 = .ok (.aload_n 3, 1) := dk_45 (dk_at dksL_law_38 15 rfl rfl)
theorem dL_law_1053 : decode cL_law 1053 = .ok (.iconst 0, 1) := dk_3 (dk_at dksL_law_38 16 rfl rfl)
theorem dL_law_1054 : decode cL_law 1054 = .ok (.laload, 1) := dk_47 (dk_at dksL_law_38 17 rfl rfl)
theorem dL_law_1055 : decode cL_law 1055 = .ok (.iload 7, 2) := dk_21 7 (dk_at dksL_law_38 18 rfl rfl)
theorem dL_law_1057 : decode cL_law 1057 = .ok (.i2l, 1) := dk_133 (dk_at dksL_law_38 20 rfl rfl)
theorem dL_law_1058 : decode cL_law 1058 = .ok (.lcmp, 1) := dk_148 (dk_at dksL_law_38 21 rfl rfl)
theorem dL_law_1059 : decode cL_law 1059 = .ok (.ifCond .eq 5, 3) := dk_153 0 5 (dk_at dksL_law_39 0 rfl rfl)
theorem dL_law_1062 : decode cL_law 1062 = .ok (.iconst 0, 1) := dk_3 (dk_at dksL_law_39 3 rfl rfl)
theorem dL_law_1063 : decode cL_law 1063 = .ok (.ireturn, 1) := dk_172 (dk_at dksL_law_39 4 rfl rfl)
theorem dL_law_1064 : decode cL_law 1064 = .ok (.goto 1629, 3) := dk_167 6 93 (dk_at dksL_law_39 5 rfl rfl)
theorem dL_law_1067 : decode cL_law 1067 = .ok (.aload_n 1, 1) := dk_43 (dk_at dksL_law_39 8 rfl rfl)
theorem dL_law_1068 : decode cL_law 1068 = .ok (.aload_n 0, 1) := dk_42 (dk_at dksL_law_39 9 rfl rfl)
theorem dL_law_1069 : decode cL_law 1069 = .ok (.iload 5, 2) := dk_21 5 (dk_at dksL_law_39 10 rfl rfl)
theorem dL_law_1071 : decode cL_law 1071 = .ok (.iconst 1, 1) := dk_4 (dk_at dksL_law_39 12 rfl rfl)
theorem dL_law_1072 : decode cL_law 1072 = .ok (.iadd, 1) := dk_96 (dk_at dksL_law_39 13 rfl rfl)
theorem dL_law_1073 : decode cL_law 1073 = .ok (.iaload, 1) := dk_46 (dk_at dksL_law_39 14 rfl rfl)
theorem dL_law_1074 : decode cL_law 1074 = .ok (.aload_n 0, 1) := dk_42 (dk_at dksL_law_39 15 rfl rfl)
theorem dL_law_1075 : decode cL_law 1075 = .ok (.iload 5, 2) := dk_21 5 (dk_at dksL_law_39 16 rfl rfl)
theorem dL_law_1077 : decode cL_law 1077 = .ok (.iconst 2, 1) := dk_5 (dk_at dksL_law_39 18 rfl rfl)
theorem dL_law_1078 : decode cL_law 1078 = .ok (.iadd, 1) := dk_96 (dk_at dksL_law_39 19 rfl rfl)
theorem dL_law_1079 : decode cL_law 1079 = .ok (.iaload, 1) := dk_46 (dk_at dksL_law_39 20 rfl rfl)
theorem dL_law_1080 : decode cL_law 1080 = .ok (.aload_n 0, 1) := dk_42 (dk_at dksL_law_39 21 rfl rfl)
theorem dL_law_1081 : decode cL_law 1081 = .ok (.iload 5, 2) := dk_21 5 (dk_at dksL_law_39 22 rfl rfl)
theorem dL_law_1083 : decode cL_law 1083 = .ok (.iconst 3, 1) := dk_6 (dk_at dksL_law_40 0 rfl rfl)
theorem dL_law_1084 : decode cL_law 1084 = .ok (.iadd, 1) := dk_96 (dk_at dksL_law_40 1 rfl rfl)
theorem dL_law_1085 : decode cL_law 1085 = .ok (.iaload, 1) := dk_46 (dk_at dksL_law_40 2 rfl rfl)
theorem dL_law_1086 : decode cL_law 1086 = .ok (.aload_n 0, 1) := dk_42 (dk_at dksL_law_40 3 rfl rfl)
theorem dL_law_1087 : decode cL_law 1087 = .ok (.iload 5, 2) := dk_21 5 (dk_at dksL_law_40 4 rfl rfl)
theorem dL_law_1089 : decode cL_law 1089 = .ok (.iconst 4, 1) := dk_7 (dk_at dksL_law_40 6 rfl rfl)
theorem dL_law_1090 : decode cL_law 1090 = .ok (.iadd, 1) := dk_96 (dk_at dksL_law_40 7 rfl rfl)
theorem dL_law_1091 : decode cL_law 1091 = .ok (.iaload, 1) := dk_46 (dk_at dksL_law_40 8 rfl rfl)
theorem dL_law_1092 : decode cL_law 1092 = .ok (.aload_n 3, 1) := dk_45 (dk_at dksL_law_40 9 rfl rfl)
theorem dL_law_1093 : decode cL_law 1093 = .ok (.invokestatic 188, 3) := dk_184 0 188 (dk_at dksL_law_40 10 rfl rfl)
theorem dL_law_1096 : decode cL_law 1096 = .ok (.istore 6, 2) := dk_54 6 (dk_at dksL_law_40 13 rfl rfl)
theorem dL_law_1098 : decode cL_law 1098 = .ok (.aload_n 2, 1) := dk_44 (dk_at dksL_law_40 15 rfl rfl)
theorem dL_law_1099 : decode cL_law 1099 = .ok (.aload_n 0, 1) := dk_42 (dk_at dksL_law_40 16 rfl rfl)
theorem dL_law_1100 : decode cL_law 1100 = .ok (.iload 5, 2) := dk_21 5 (dk_at dksL_law_40 17 rfl rfl)
theorem dL_law_1102 : decode cL_law 1102 = .ok (.iconst 1, 1) := dk_4 (dk_at dksL_law_40 19 rfl rfl)
theorem dL_law_1103 : decode cL_law 1103 = .ok (.iadd, 1) := dk_96 (dk_at dksL_law_40 20 rfl rfl)
theorem dL_law_1104 : decode cL_law 1104 = .ok (.iaload, 1) := dk_46 (dk_at dksL_law_40 21 rfl rfl)
theorem dL_law_1105 : decode cL_law 1105 = .ok (.aload_n 0, 1) := dk_42 (dk_at dksL_law_40 22 rfl rfl)
theorem dL_law_1106 : decode cL_law 1106 = .ok (.iload 5, 2) := dk_21 5 (dk_at dksL_law_41 0 rfl rfl)
theorem dL_law_1108 : decode cL_law 1108 = .ok (.iconst 2, 1) := dk_5 (dk_at dksL_law_41 2 rfl rfl)
theorem dL_law_1109 : decode cL_law 1109 = .ok (.iadd, 1) := dk_96 (dk_at dksL_law_41 3 rfl rfl)
theorem dL_law_1110 : decode cL_law 1110 = .ok (.iaload, 1) := dk_46 (dk_at dksL_law_41 4 rfl rfl)
theorem dL_law_1111 : decode cL_law 1111 = .ok (.aload_n 0, 1) := dk_42 (dk_at dksL_law_41 5 rfl rfl)
theorem dL_law_1112 : decode cL_law 1112 = .ok (.iload 5, 2) := dk_21 5 (dk_at dksL_law_41 6 rfl rfl)
theorem dL_law_1114 : decode cL_law 1114 = .ok (.iconst 3, 1) := dk_6 (dk_at dksL_law_41 8 rfl rfl)
theorem dL_law_1115 : decode cL_law 1115 = .ok (.iadd, 1) := dk_96 (dk_at dksL_law_41 9 rfl rfl)
theorem dL_law_1116 : decode cL_law 1116 = .ok (.iaload, 1) := dk_46 (dk_at dksL_law_41 10 rfl rfl)
theorem dL_law_1117 : decode cL_law 1117 = .ok (.aload_n 0, 1) := dk_42 (dk_at dksL_law_41 11 rfl rfl)
theorem dL_law_1118 : decode cL_law 1118 = .ok (.iload 5, 2) := dk_21 5 (dk_at dksL_law_41 12 rfl rfl)
theorem dL_law_1120 : decode cL_law 1120 = .ok (.iconst 4, 1) := dk_7 (dk_at dksL_law_41 14 rfl rfl)
theorem dL_law_1121 : decode cL_law 1121 = .ok (.iadd, 1) := dk_96 (dk_at dksL_law_41 15 rfl rfl)
theorem dL_law_1122 : decode cL_law 1122 = .ok (.iaload, 1) := dk_46 (dk_at dksL_law_41 16 rfl rfl)
theorem dL_law_1123 : decode cL_law 1123 = .ok (.invokevirtual 190, 3) := dk_182 0 190 (dk_at dksL_law_41 17 rfl rfl)
theorem dL_law_1126 : decode cL_law 1126 = .ok (.istore 7, 2) := dk_54 7 (dk_at dksL_law_41 20 rfl rfl)
theorem dL_law_1128 : decode cL_law 1128 = .ok (.aload_n 2, 1) := dk_44 (dk_at dksL_law_41 22 rfl rfl)
theorem dL_law_1129 : decode cL_law 1129 = .ok (.invokevirtual 136, 3) := dk_182 0 136 (dk_at dksL_law_42 0 rfl rfl)
theorem dL_law_1132 : decode cL_law 1132 = .ok (.iload 6, 2) := dk_21 6 (dk_at dksL_law_42 3 rfl rfl)
theorem dL_law_1134 : decode cL_law 1134 = .ok (.if_icmp .eq 5, 3) := dk_159 0 5 (dk_at dksL_law_42 5 rfl rfl)
theorem dL_law_1137 : decode cL_law 1137 = .ok (.iconst 0, 1) := dk_3 (dk_at dksL_law_42 8 rfl rfl)
theorem dL_law_1138 : decode cL_law 1138 = .ok (.ireturn, 1) := dk_172 (dk_at dksL_law_42 9 rfl rfl)
theorem dL_law_1139 : decode cL_law 1139 = .ok (.iload 6, 2) := dk_21 6 (dk_at dksL_law_42 10 rfl rfl)
theorem dL_law_1141 : decode cL_law 1141 = .ok (.ifCond .ne 15, 3) := dk_154 0 15 (dk_at dksL_law_42 12 rfl rfl)
theorem dL_law_1144 : decode cL_law 1144 = .ok (.aload_n 3, 1) := dk_45 (dk_at dksL_law_42 15 rfl rfl)
theorem dL_law_1145 : decode cL_law 1145 = .ok (.iconst 0, 1) := dk_3 (dk_at dksL_law_42 16 rfl rfl)
theorem dL_law_1146 : decode cL_law 1146 = .ok (.laload, 1) := dk_47 (dk_at dksL_law_42 17 rfl rfl)
theorem dL_law_1147 : decode cL_law 1147 = .ok (.iload 7, 2) := dk_21 7 (dk_at dksL_law_42 18 rfl rfl)
theorem dL_law_1149 : decode cL_law 1149 = .ok (.i2l, 1) := dk_133 (dk_at dksL_law_42 20 rfl rfl)
theorem dL_law_1150 : decode cL_law 1150 = .ok (.lcmp, 1) := dk_148 (dk_at dksL_law_42 21 rfl rfl)
theorem dL_law_1151 : decode cL_law 1151 = .ok (.ifCond .eq 5, 3) := dk_153 0 5 (dk_at dksL_law_43 0 rfl rfl)
theorem dL_law_1154 : decode cL_law 1154 = .ok (.iconst 0, 1) := dk_3 (dk_at dksL_law_43 3 rfl rfl)
theorem dL_law_1155 : decode cL_law 1155 = .ok (.ireturn, 1) := dk_172 (dk_at dksL_law_43 4 rfl rfl)
theorem dL_law_1156 : decode cL_law 1156 = .ok (.goto 1537, 3) := dk_167 6 1 (dk_at dksL_law_43 5 rfl rfl)
theorem dL_law_1159 : decode cL_law 1159 = .ok (.aload_n 1, 1) := dk_43 (dk_at dksL_law_43 8 rfl rfl)
theorem dL_law_1160 : decode cL_law 1160 = .ok (.aload_n 0, 1) := dk_42 (dk_at dksL_law_43 9 rfl rfl)
theorem dL_law_1161 : decode cL_law 1161 = .ok (.iload 5, 2) := dk_21 5 (dk_at dksL_law_43 10 rfl rfl)
theorem dL_law_1163 : decode cL_law 1163 = .ok (.iconst 1, 1) := dk_4 (dk_at dksL_law_43 12 rfl rfl)
theorem dL_law_1164 : decode cL_law 1164 = .ok (.iadd, 1) := dk_96 (dk_at dksL_law_43 13 rfl rfl)
theorem dL_law_1165 : decode cL_law 1165 = .ok (.iaload, 1) := dk_46 (dk_at dksL_law_43 14 rfl rfl)
theorem dL_law_1166 : decode cL_law 1166 = .ok (.aload_n 0, 1) := dk_42 (dk_at dksL_law_43 15 rfl rfl)
theorem dL_law_1167 : decode cL_law 1167 = .ok (.iload 5, 2) := dk_21 5 (dk_at dksL_law_43 16 rfl rfl)
theorem dL_law_1169 : decode cL_law 1169 = .ok (.iconst 2, 1) := dk_5 (dk_at dksL_law_43 18 rfl rfl)
theorem dL_law_1170 : decode cL_law 1170 = .ok (.iadd, 1) := dk_96 (dk_at dksL_law_43 19 rfl rfl)
theorem dL_law_1171 : decode cL_law 1171 = .ok (.iaload, 1) := dk_46 (dk_at dksL_law_43 20 rfl rfl)
theorem dL_law_1172 : decode cL_law 1172 = .ok (.aload_n 0, 1) := dk_42 (dk_at dksL_law_43 21 rfl rfl)
theorem dL_law_1173 : decode cL_law 1173 = .ok (.iload 5, 2) := dk_21 5 (dk_at dksL_law_43 22 rfl rfl)
theorem dL_law_1175 : decode cL_law 1175 = .ok (.iconst 3, 1) := dk_6 (dk_at dksL_law_44 0 rfl rfl)
theorem dL_law_1176 : decode cL_law 1176 = .ok (.iadd, 1) := dk_96 (dk_at dksL_law_44 1 rfl rfl)
theorem dL_law_1177 : decode cL_law 1177 = .ok (.iaload, 1) := dk_46 (dk_at dksL_law_44 2 rfl rfl)
theorem dL_law_1178 : decode cL_law 1178 = .ok (.aload_n 0, 1) := dk_42 (dk_at dksL_law_44 3 rfl rfl)
theorem dL_law_1179 : decode cL_law 1179 = .ok (.iload 5, 2) := dk_21 5 (dk_at dksL_law_44 4 rfl rfl)
theorem dL_law_1181 : decode cL_law 1181 = .ok (.iconst 4, 1) := dk_7 (dk_at dksL_law_44 6 rfl rfl)
theorem dL_law_1182 : decode cL_law 1182 = .ok (.iadd, 1) := dk_96 (dk_at dksL_law_44 7 rfl rfl)
theorem dL_law_1183 : decode cL_law 1183 = .ok (.iaload, 1) := dk_46 (dk_at dksL_law_44 8 rfl rfl)
theorem dL_law_1184 : decode cL_law 1184 = .ok (.aload_n 3, 1) := dk_45 (dk_at dksL_law_44 9 rfl rfl)
theorem dL_law_1185 : decode cL_law 1185 = .ok (.invokestatic 191, 3) := dk_184 0 191 (dk_at dksL_law_44 10 rfl rfl)
theorem dL_law_1188 : decode cL_law 1188 = .ok (.istore 6, 2) := dk_54 6 (dk_at dksL_law_44 13 rfl rfl)
theorem dL_law_1190 : decode cL_law 1190 = .ok (.aload_n 2, 1) := dk_44 (dk_at dksL_law_44 15 rfl rfl)
theorem dL_law_1191 : decode cL_law 1191 = .ok (.aload_n 0, 1) := dk_42 (dk_at dksL_law_44 16 rfl rfl)
theorem dL_law_1192 : decode cL_law 1192 = .ok (.iload 5, 2) := dk_21 5 (dk_at dksL_law_44 17 rfl rfl)
theorem dL_law_1194 : decode cL_law 1194 = .ok (.iconst 1, 1) := dk_4 (dk_at dksL_law_44 19 rfl rfl)
theorem dL_law_1195 : decode cL_law 1195 = .ok (.iadd, 1) := dk_96 (dk_at dksL_law_44 20 rfl rfl)
theorem dL_law_1196 : decode cL_law 1196 = .ok (.iaload, 1) := dk_46 (dk_at dksL_law_44 21 rfl rfl)
theorem dL_law_1197 : decode cL_law 1197 = .ok (.aload_n 0, 1) := dk_42 (dk_at dksL_law_44 22 rfl rfl)
theorem dL_law_1198 : decode cL_law 1198 = .ok (.iload 5, 2) := dk_21 5 (dk_at dksL_law_45 0 rfl rfl)
theorem dL_law_1200 : decode cL_law 1200 = .ok (.iconst 2, 1) := dk_5 (dk_at dksL_law_45 2 rfl rfl)
theorem dL_law_1201 : decode cL_law 1201 = .ok (.iadd, 1) := dk_96 (dk_at dksL_law_45 3 rfl rfl)
theorem dL_law_1202 : decode cL_law 1202 = .ok (.iaload, 1) := dk_46 (dk_at dksL_law_45 4 rfl rfl)
theorem dL_law_1203 : decode cL_law 1203 = .ok (.aload_n 0, 1) := dk_42 (dk_at dksL_law_45 5 rfl rfl)
theorem dL_law_1204 : decode cL_law 1204 = .ok (.iload 5, 2) := dk_21 5 (dk_at dksL_law_45 6 rfl rfl)
theorem dL_law_1206 : decode cL_law 1206 = .ok (.iconst 3, 1) := dk_6 (dk_at dksL_law_45 8 rfl rfl)
theorem dL_law_1207 : decode cL_law 1207 = .ok (.iadd, 1) := dk_96 (dk_at dksL_law_45 9 rfl rfl)
theorem dL_law_1208 : decode cL_law 1208 = .ok (.iaload, 1) := dk_46 (dk_at dksL_law_45 10 rfl rfl)
theorem dL_law_1209 : decode cL_law 1209 = .ok (.aload_n 0, 1) := dk_42 (dk_at dksL_law_45 11 rfl rfl)
theorem dL_law_1210 : decode cL_law 1210 = .ok (.iload 5, 2) := dk_21 5 (dk_at dksL_law_45 12 rfl rfl)
theorem dL_law_1212 : decode cL_law 1212 = .ok (.iconst 4, 1) := dk_7 (dk_at dksL_law_45 14 rfl rfl)
theorem dL_law_1213 : decode cL_law 1213 = .ok (.iadd, 1) := dk_96 (dk_at dksL_law_45 15 rfl rfl)
theorem dL_law_1214 : decode cL_law 1214 = .ok (.iaload, 1) := dk_46 (dk_at dksL_law_45 16 rfl rfl)
theorem dL_law_1215 : decode cL_law 1215 = .ok (.invokevirtual 193, 3) := dk_182 0 193 (dk_at dksL_law_45 17 rfl rfl)
theorem dL_law_1218 : decode cL_law 1218 = .ok (.istore 7, 2) := dk_54 7 (dk_at dksL_law_45 20 rfl rfl)
theorem dL_law_1220 : decode cL_law 1220 = .ok (.aload_n 2, 1) := dk_44 (dk_at dksL_law_45 22 rfl rfl)
theorem dL_law_1221 : decode cL_law 1221 = .ok (.invokevirtual 136, 3) := dk_182 0 136 (dk_at dksL_law_46 0 rfl rfl)
theorem dL_law_1224 : decode cL_law 1224 = .ok (.iload 6, 2) := dk_21 6 (dk_at dksL_law_46 3 rfl rfl)
theorem dL_law_1226 : decode cL_law 1226 = .ok (.if_icmp .eq 5, 3) := dk_159 0 5 (dk_at dksL_law_46 5 rfl rfl)
theorem dL_law_1229 : decode cL_law 1229 = .ok (.iconst 0, 1) := dk_3 (dk_at dksL_law_46 8 rfl rfl)
theorem dL_law_1230 : decode cL_law 1230 = .ok (.ireturn, 1) := dk_172 (dk_at dksL_law_46 9 rfl rfl)
theorem dL_law_1231 : decode cL_law 1231 = .ok (.iload 6, 2) := dk_21 6 (dk_at dksL_law_46 10 rfl rfl)
theorem dL_law_1233 : decode cL_law 1233 = .ok (.ifCond .ne 15, 3) := dk_154 0 15 (dk_at dksL_law_46 12 rfl rfl)
theorem dL_law_1236 : decode cL_law 1236 = .ok (.aload_n 3, 1) := dk_45 (dk_at dksL_law_46 15 rfl rfl)
theorem dL_law_1237 : decode cL_law 1237 = .ok (.iconst 0, 1) := dk_3 (dk_at dksL_law_46 16 rfl rfl)
theorem dL_law_1238 : decode cL_law 1238 = .ok (.laload, 1) := dk_47 (dk_at dksL_law_46 17 rfl rfl)
theorem dL_law_1239 : decode cL_law 1239 = .ok (.iload 7, 2) := dk_21 7 (dk_at dksL_law_46 18 rfl rfl)
theorem dL_law_1241 : decode cL_law 1241 = .ok (.i2l, 1) := dk_133 (dk_at dksL_law_46 20 rfl rfl)
theorem dL_law_1242 : decode cL_law 1242 = .ok (.lcmp, 1) := dk_148 (dk_at dksL_law_46 21 rfl rfl)
theorem dL_law_1243 : decode cL_law 1243 = .ok (.ifCond .eq 5, 3) := dk_153 0 5 (dk_at dksL_law_47 0 rfl rfl)
theorem dL_law_1246 : decode cL_law 1246 = .ok (.iconst 0, 1) := dk_3 (dk_at dksL_law_47 3 rfl rfl)
theorem dL_law_1247 : decode cL_law 1247 = .ok (.ireturn, 1) := dk_172 (dk_at dksL_law_47 4 rfl rfl)
theorem dL_law_1248 : decode cL_law 1248 = .ok (.goto 1445, 3) := dk_167 5 165 (dk_at dksL_law_47 5 rfl rfl)
theorem dL_law_1251 : decode cL_law 1251 = .ok (.aload_n 1, 1) := dk_43 (dk_at dksL_law_47 8 rfl rfl)
theorem dL_law_1252 : decode cL_law 1252 = .ok (.aload_n 0, 1) := dk_42 (dk_at dksL_law_47 9 rfl rfl)
theorem dL_law_1253 : decode cL_law 1253 = .ok (.iload 5, 2) := dk_21 5 (dk_at dksL_law_47 10 rfl rfl)
theorem dL_law_1255 : decode cL_law 1255 = .ok (.iconst 1, 1) := dk_4 (dk_at dksL_law_47 12 rfl rfl)
theorem dL_law_1256 : decode cL_law 1256 = .ok (.iadd, 1) := dk_96 (dk_at dksL_law_47 13 rfl rfl)
theorem dL_law_1257 : decode cL_law 1257 = .ok (.iaload, 1) := dk_46 (dk_at dksL_law_47 14 rfl rfl)
theorem dL_law_1258 : decode cL_law 1258 = .ok (.aload_n 0, 1) := dk_42 (dk_at dksL_law_47 15 rfl rfl)
theorem dL_law_1259 : decode cL_law 1259 = .ok (.iload 5, 2) := dk_21 5 (dk_at dksL_law_47 16 rfl rfl)
theorem dL_law_1261 : decode cL_law 1261 = .ok (.iconst 2, 1) := dk_5 (dk_at dksL_law_47 18 rfl rfl)
theorem dL_law_1262 : decode cL_law 1262 = .ok (.iadd, 1) := dk_96 (dk_at dksL_law_47 19 rfl rfl)
theorem dL_law_1263 : decode cL_law 1263 = .ok (.iaload, 1) := dk_46 (dk_at dksL_law_47 20 rfl rfl)
theorem dL_law_1264 : decode cL_law 1264 = .ok (.aload_n 3, 1) := dk_45 (dk_at dksL_law_47 21 rfl rfl)
theorem dL_law_1265 : decode cL_law 1265 = .ok (.invokestatic 194, 3) := dk_184 0 194 (dk_at dksL_law_48 0 rfl rfl)
theorem dL_law_1268 : decode cL_law 1268 = .ok (.istore 6, 2) := dk_54 6 (dk_at dksL_law_48 3 rfl rfl)
theorem dL_law_1270 : decode cL_law 1270 = .ok (.aload_n 2, 1) := dk_44 (dk_at dksL_law_48 5 rfl rfl)
theorem dL_law_1271 : decode cL_law 1271 = .ok (.aload_n 0, 1) := dk_42 (dk_at dksL_law_48 6 rfl rfl)
theorem dL_law_1272 : decode cL_law 1272 = .ok (.iload 5, 2) := dk_21 5 (dk_at dksL_law_48 7 rfl rfl)
theorem dL_law_1274 : decode cL_law 1274 = .ok (.iconst 1, 1) := dk_4 (dk_at dksL_law_48 9 rfl rfl)
theorem dL_law_1275 : decode cL_law 1275 = .ok (.iadd, 1) := dk_96 (dk_at dksL_law_48 10 rfl rfl)
theorem dL_law_1276 : decode cL_law 1276 = .ok (.iaload, 1) := dk_46 (dk_at dksL_law_48 11 rfl rfl)
theorem dL_law_1277 : decode cL_law 1277 = .ok (.aload_n 0, 1) := dk_42 (dk_at dksL_law_48 12 rfl rfl)
theorem dL_law_1278 : decode cL_law 1278 = .ok (.iload 5, 2) := dk_21 5 (dk_at dksL_law_48 13 rfl rfl)
theorem dL_law_1280 : decode cL_law 1280 = .ok (.iconst 2, 1) := dk_5 (dk_at dksL_law_48 15 rfl rfl)
theorem dL_law_1281 : decode cL_law 1281 = .ok (.iadd, 1) := dk_96 (dk_at dksL_law_48 16 rfl rfl)
theorem dL_law_1282 : decode cL_law 1282 = .ok (.iaload, 1) := dk_46 (dk_at dksL_law_48 17 rfl rfl)
theorem dL_law_1283 : decode cL_law 1283 = .ok (.invokevirtual 196, 3) := dk_182 0 196 (dk_at dksL_law_48 18 rfl rfl)
theorem dL_law_1286 : decode cL_law 1286 = .ok (.istore 7, 2) := dk_54 7 (dk_at dksL_law_48 21 rfl rfl)
theorem dL_law_1288 : decode cL_law 1288 = .ok (.aload_n 2, 1) := dk_44 (dk_at dksL_law_48 23 rfl rfl)
theorem dL_law_1289 : decode cL_law 1289 = .ok (.invokevirtual 136, 3) := dk_182 0 136 (dk_at dksL_law_49 0 rfl rfl)
theorem dL_law_1292 : decode cL_law 1292 = .ok (.iload 6, 2) := dk_21 6 (dk_at dksL_law_49 3 rfl rfl)
theorem dL_law_1294 : decode cL_law 1294 = .ok (.if_icmp .eq 5, 3) := dk_159 0 5 (dk_at dksL_law_49 5 rfl rfl)
theorem dL_law_1297 : decode cL_law 1297 = .ok (.iconst 0, 1) := dk_3 (dk_at dksL_law_49 8 rfl rfl)
theorem dL_law_1298 : decode cL_law 1298 = .ok (.ireturn, 1) := dk_172 (dk_at dksL_law_49 9 rfl rfl)
theorem dL_law_1299 : decode cL_law 1299 = .ok (.iload 6, 2) := dk_21 6 (dk_at dksL_law_49 10 rfl rfl)
theorem dL_law_1301 : decode cL_law 1301 = .ok (.ifCond .ne 15, 3) := dk_154 0 15 (dk_at dksL_law_49 12 rfl rfl)
theorem dL_law_1304 : decode cL_law 1304 = .ok (.aload_n 3, 1) := dk_45 (dk_at dksL_law_49 15 rfl rfl)
theorem dL_law_1305 : decode cL_law 1305 = .ok (.iconst 0, 1) := dk_3 (dk_at dksL_law_49 16 rfl rfl)
theorem dL_law_1306 : decode cL_law 1306 = .ok (.laload, 1) := dk_47 (dk_at dksL_law_49 17 rfl rfl)
theorem dL_law_1307 : decode cL_law 1307 = .ok (.iload 7, 2) := dk_21 7 (dk_at dksL_law_49 18 rfl rfl)
theorem dL_law_1309 : decode cL_law 1309 = .ok (.i2l, 1) := dk_133 (dk_at dksL_law_49 20 rfl rfl)
theorem dL_law_1310 : decode cL_law 1310 = .ok (.lcmp, 1) := dk_148 (dk_at dksL_law_49 21 rfl rfl)
theorem dL_law_1311 : decode cL_law 1311 = .ok (.ifCond .eq 5, 3) := dk_153 0 5 (dk_at dksL_law_50 0 rfl rfl)
theorem dL_law_1314 : decode cL_law 1314 = .ok (.iconst 0, 1) := dk_3 (dk_at dksL_law_50 3 rfl rfl)
theorem dL_law_1315 : decode cL_law 1315 = .ok (.ireturn, 1) := dk_172 (dk_at dksL_law_50 4 rfl rfl)
theorem dL_law_1316 : decode cL_law 1316 = .ok (.goto 1377, 3) := dk_167 5 97 (dk_at dksL_law_50 5 rfl rfl)
theorem dL_law_1319 : decode cL_law 1319 = .ok (.aload_n 1, 1) := dk_43 (dk_at dksL_law_50 8 rfl rfl)
theorem dL_law_1320 : decode cL_law 1320 = .ok (.aload_n 0, 1) := dk_42 (dk_at dksL_law_50 9 rfl rfl)
theorem dL_law_1321 : decode cL_law 1321 = .ok (.iload 5, 2) := dk_21 5 (dk_at dksL_law_50 10 rfl rfl)
theorem dL_law_1323 : decode cL_law 1323 = .ok (.iconst 1, 1) := dk_4 (dk_at dksL_law_50 12 rfl rfl)
theorem dL_law_1324 : decode cL_law 1324 = .ok (.iadd, 1) := dk_96 (dk_at dksL_law_50 13 rfl rfl)
theorem dL_law_1325 : decode cL_law 1325 = .ok (.iaload, 1) := dk_46 (dk_at dksL_law_50 14 rfl rfl)
theorem dL_law_1326 : decode cL_law 1326 = .ok (.aload_n 0, 1) := dk_42 (dk_at dksL_law_50 15 rfl rfl)
theorem dL_law_1327 : decode cL_law 1327 = .ok (.iload 5, 2) := dk_21 5 (dk_at dksL_law_50 16 rfl rfl)
theorem dL_law_1329 : decode cL_law 1329 = .ok (.iconst 2, 1) := dk_5 (dk_at dksL_law_50 18 rfl rfl)
theorem dL_law_1330 : decode cL_law 1330 = .ok (.iadd, 1) := dk_96 (dk_at dksL_law_50 19 rfl rfl)
theorem dL_law_1331 : decode cL_law 1331 = .ok (.iaload, 1) := dk_46 (dk_at dksL_law_50 20 rfl rfl)
theorem dL_law_1332 : decode cL_law 1332 = .ok (.aload_n 0, 1) := dk_42 (dk_at dksL_law_50 21 rfl rfl)
theorem dL_law_1333 : decode cL_law 1333 = .ok (.iload 5, 2) := dk_21 5 (dk_at dksL_law_50 22 rfl rfl)
theorem dL_law_1335 : decode cL_law 1335 = .ok (.iconst 3, 1) := dk_6 (dk_at dksL_law_51 0 rfl rfl)
theorem dL_law_1336 : decode cL_law 1336 = .ok (.iadd, 1) := dk_96 (dk_at dksL_law_51 1 rfl rfl)
theorem dL_law_1337 : decode cL_law 1337 = .ok (.iaload, 1) := dk_46 (dk_at dksL_law_51 2 rfl rfl)
theorem dL_law_1338 : decode cL_law 1338 = .ok (.aload_n 3, 1) := dk_45 (dk_at dksL_law_51 3 rfl rfl)
theorem dL_law_1339 : decode cL_law 1339 = .ok (.invokestatic 197, 3) := dk_184 0 197 (dk_at dksL_law_51 4 rfl rfl)
theorem dL_law_1342 : decode cL_law 1342 = .ok (.istore 6, 2) := dk_54 6 (dk_at dksL_law_51 7 rfl rfl)
theorem dL_law_1344 : decode cL_law 1344 = .ok (.aload_n 2, 1) := dk_44 (dk_at dksL_law_51 9 rfl rfl)
theorem dL_law_1345 : decode cL_law 1345 = .ok (.aload_n 0, 1) := dk_42 (dk_at dksL_law_51 10 rfl rfl)
theorem dL_law_1346 : decode cL_law 1346 = .ok (.iload 5, 2) := dk_21 5 (dk_at dksL_law_51 11 rfl rfl)
theorem dL_law_1348 : decode cL_law 1348 = .ok (.iconst 1, 1) := dk_4 (dk_at dksL_law_51 13 rfl rfl)
theorem dL_law_1349 : decode cL_law 1349 = .ok (.iadd, 1) := dk_96 (dk_at dksL_law_51 14 rfl rfl)
theorem dL_law_1350 : decode cL_law 1350 = .ok (.iaload, 1) := dk_46 (dk_at dksL_law_51 15 rfl rfl)
theorem dL_law_1351 : decode cL_law 1351 = .ok (.aload_n 0, 1) := dk_42 (dk_at dksL_law_51 16 rfl rfl)
theorem dL_law_1352 : decode cL_law 1352 = .ok (.iload 5, 2) := dk_21 5 (dk_at dksL_law_51 17 rfl rfl)
theorem dL_law_1354 : decode cL_law 1354 = .ok (.iconst 2, 1) := dk_5 (dk_at dksL_law_51 19 rfl rfl)
theorem dL_law_1355 : decode cL_law 1355 = .ok (.iadd, 1) := dk_96 (dk_at dksL_law_51 20 rfl rfl)
theorem dL_law_1356 : decode cL_law 1356 = .ok (.iaload, 1) := dk_46 (dk_at dksL_law_51 21 rfl rfl)
theorem dL_law_1357 : decode cL_law 1357 = .ok (.aload_n 0, 1) := dk_42 (dk_at dksL_law_51 22 rfl rfl)
theorem dL_law_1358 : decode cL_law 1358 = .ok (.iload 5, 2) := dk_21 5 (dk_at dksL_law_52 0 rfl rfl)
theorem dL_law_1360 : decode cL_law 1360 = .ok (.iconst 3, 1) := dk_6 (dk_at dksL_law_52 2 rfl rfl)
theorem dL_law_1361 : decode cL_law 1361 = .ok (.iadd, 1) := dk_96 (dk_at dksL_law_52 3 rfl rfl)
theorem dL_law_1362 : decode cL_law 1362 = .ok (.iaload, 1) := dk_46 (dk_at dksL_law_52 4 rfl rfl)
theorem dL_law_1363 : decode cL_law 1363 = .ok (.invokevirtual 199, 3) := dk_182 0 199 (dk_at dksL_law_52 5 rfl rfl)
theorem dL_law_1366 : decode cL_law 1366 = .ok (.istore 7, 2) := dk_54 7 (dk_at dksL_law_52 8 rfl rfl)
theorem dL_law_1368 : decode cL_law 1368 = .ok (.aload_n 2, 1) := dk_44 (dk_at dksL_law_52 10 rfl rfl)
theorem dL_law_1369 : decode cL_law 1369 = .ok (.invokevirtual 136, 3) := dk_182 0 136 (dk_at dksL_law_52 11 rfl rfl)
theorem dL_law_1372 : decode cL_law 1372 = .ok (.iload 6, 2) := dk_21 6 (dk_at dksL_law_52 14 rfl rfl)
theorem dL_law_1374 : decode cL_law 1374 = .ok (.if_icmp .eq 5, 3) := dk_159 0 5 (dk_at dksL_law_52 16 rfl rfl)
theorem dL_law_1377 : decode cL_law 1377 = .ok (.iconst 0, 1) := dk_3 (dk_at dksL_law_52 19 rfl rfl)
theorem dL_law_1378 : decode cL_law 1378 = .ok (.ireturn, 1) := dk_172 (dk_at dksL_law_52 20 rfl rfl)
theorem dL_law_1379 : decode cL_law 1379 = .ok (.iload 6, 2) := dk_21 6 (dk_at dksL_law_52 21 rfl rfl)
theorem dL_law_1381 : decode cL_law 1381 = .ok (.ifCond .ne 15, 3) := dk_154 0 15 (dk_at dksL_law_53 0 rfl rfl)
theorem dL_law_1384 : decode cL_law 1384 = .ok (.aload_n 3, 1) := dk_45 (dk_at dksL_law_53 3 rfl rfl)
theorem dL_law_1385 : decode cL_law 1385 = .ok (.iconst 0, 1) := dk_3 (dk_at dksL_law_53 4 rfl rfl)
theorem dL_law_1386 : decode cL_law 1386 = .ok (.laload, 1) := dk_47 (dk_at dksL_law_53 5 rfl rfl)
theorem dL_law_1387 : decode cL_law 1387 = .ok (.iload 7, 2) := dk_21 7 (dk_at dksL_law_53 6 rfl rfl)
theorem dL_law_1389 : decode cL_law 1389 = .ok (.i2l, 1) := dk_133 (dk_at dksL_law_53 8 rfl rfl)
theorem dL_law_1390 : decode cL_law 1390 = .ok (.lcmp, 1) := dk_148 (dk_at dksL_law_53 9 rfl rfl)
theorem dL_law_1391 : decode cL_law 1391 = .ok (.ifCond .eq 5, 3) := dk_153 0 5 (dk_at dksL_law_53 10 rfl rfl)
theorem dL_law_1394 : decode cL_law 1394 = .ok (.iconst 0, 1) := dk_3 (dk_at dksL_law_53 13 rfl rfl)
theorem dL_law_1395 : decode cL_law 1395 = .ok (.ireturn, 1) := dk_172 (dk_at dksL_law_53 14 rfl rfl)
theorem dL_law_1396 : decode cL_law 1396 = .ok (.goto 1297, 3) := dk_167 5 17 (dk_at dksL_law_53 15 rfl rfl)
theorem dL_law_1399 : decode cL_law 1399 = .ok (.aload_n 1, 1) := dk_43 (dk_at dksL_law_53 18 rfl rfl)
theorem dL_law_1400 : decode cL_law 1400 = .ok (.aload_n 0, 1) := dk_42 (dk_at dksL_law_53 19 rfl rfl)
theorem dL_law_1401 : decode cL_law 1401 = .ok (.iload 5, 2) := dk_21 5 (dk_at dksL_law_53 20 rfl rfl)
theorem dL_law_1403 : decode cL_law 1403 = .ok (.iconst 1, 1) := dk_4 (dk_at dksL_law_53 22 rfl rfl)
theorem dL_law_1404 : decode cL_law 1404 = .ok (.iadd, 1) := dk_96 (dk_at dksL_law_53 23 rfl rfl)
theorem dL_law_1405 : decode cL_law 1405 = .ok (.iaload, 1) := dk_46 (dk_at dksL_law_54 0 rfl rfl)
theorem dL_law_1406 : decode cL_law 1406 = .ok (.aload_n 0, 1) := dk_42 (dk_at dksL_law_54 1 rfl rfl)
theorem dL_law_1407 : decode cL_law 1407 = .ok (.iload 5, 2) := dk_21 5 (dk_at dksL_law_54 2 rfl rfl)
theorem dL_law_1409 : decode cL_law 1409 = .ok (.iconst 2, 1) := dk_5 (dk_at dksL_law_54 4 rfl rfl)
theorem dL_law_1410 : decode cL_law 1410 = .ok (.iadd, 1) := dk_96 (dk_at dksL_law_54 5 rfl rfl)
theorem dL_law_1411 : decode cL_law 1411 = .ok (.iaload, 1) := dk_46 (dk_at dksL_law_54 6 rfl rfl)
theorem dL_law_1412 : decode cL_law 1412 = .ok (.aload_n 0, 1) := dk_42 (dk_at dksL_law_54 7 rfl rfl)
theorem dL_law_1413 : decode cL_law 1413 = .ok (.iload 5, 2) := dk_21 5 (dk_at dksL_law_54 8 rfl rfl)
theorem dL_law_1415 : decode cL_law 1415 = .ok (.iconst 3, 1) := dk_6 (dk_at dksL_law_54 10 rfl rfl)
theorem dL_law_1416 : decode cL_law 1416 = .ok (.iadd, 1) := dk_96 (dk_at dksL_law_54 11 rfl rfl)
theorem dL_law_1417 : decode cL_law 1417 = .ok (.iaload, 1) := dk_46 (dk_at dksL_law_54 12 rfl rfl)
theorem dL_law_1418 : decode cL_law 1418 = .ok (.aload_n 0, 1) := dk_42 (dk_at dksL_law_54 13 rfl rfl)
theorem dL_law_1419 : decode cL_law 1419 = .ok (.iload 5, 2) := dk_21 5 (dk_at dksL_law_54 14 rfl rfl)
theorem dL_law_1421 : decode cL_law 1421 = .ok (.iconst 4, 1) := dk_7 (dk_at dksL_law_54 16 rfl rfl)
theorem dL_law_1422 : decode cL_law 1422 = .ok (.iadd, 1) := dk_96 (dk_at dksL_law_54 17 rfl rfl)
theorem dL_law_1423 : decode cL_law 1423 = .ok (.iaload, 1) := dk_46 (dk_at dksL_law_54 18 rfl rfl)
theorem dL_law_1424 : decode cL_law 1424 = .ok (.aload_n 3, 1) := dk_45 (dk_at dksL_law_54 19 rfl rfl)
theorem dL_law_1425 : decode cL_law 1425 = .ok (.invokestatic 200, 3) := dk_184 0 200 (dk_at dksL_law_54 20 rfl rfl)
theorem dL_law_1428 : decode cL_law 1428 = .ok (.istore 6, 2) := dk_54 6 (dk_at dksL_law_55 0 rfl rfl)
theorem dL_law_1430 : decode cL_law 1430 = .ok (.aload_n 2, 1) := dk_44 (dk_at dksL_law_55 2 rfl rfl)
theorem dL_law_1431 : decode cL_law 1431 = .ok (.aload_n 0, 1) := dk_42 (dk_at dksL_law_55 3 rfl rfl)
theorem dL_law_1432 : decode cL_law 1432 = .ok (.iload 5, 2) := dk_21 5 (dk_at dksL_law_55 4 rfl rfl)
theorem dL_law_1434 : decode cL_law 1434 = .ok (.iconst 1, 1) := dk_4 (dk_at dksL_law_55 6 rfl rfl)
theorem dL_law_1435 : decode cL_law 1435 = .ok (.iadd, 1) := dk_96 (dk_at dksL_law_55 7 rfl rfl)
theorem dL_law_1436 : decode cL_law 1436 = .ok (.iaload, 1) := dk_46 (dk_at dksL_law_55 8 rfl rfl)
theorem dL_law_1437 : decode cL_law 1437 = .ok (.aload_n 0, 1) := dk_42 (dk_at dksL_law_55 9 rfl rfl)
theorem dL_law_1438 : decode cL_law 1438 = .ok (.iload 5, 2) := dk_21 5 (dk_at dksL_law_55 10 rfl rfl)
theorem dL_law_1440 : decode cL_law 1440 = .ok (.iconst 2, 1) := dk_5 (dk_at dksL_law_55 12 rfl rfl)
theorem dL_law_1441 : decode cL_law 1441 = .ok (.iadd, 1) := dk_96 (dk_at dksL_law_55 13 rfl rfl)
theorem dL_law_1442 : decode cL_law 1442 = .ok (.iaload, 1) := dk_46 (dk_at dksL_law_55 14 rfl rfl)
theorem dL_law_1443 : decode cL_law 1443 = .ok (.aload_n 0, 1) := dk_42 (dk_at dksL_law_55 15 rfl rfl)
theorem dL_law_1444 : decode cL_law 1444 = .ok (.iload 5, 2) := dk_21 5 (dk_at dksL_law_55 16 rfl rfl)
theorem dL_law_1446 : decode cL_law 1446 = .ok (.iconst 3, 1) := dk_6 (dk_at dksL_law_55 18 rfl rfl)
theorem dL_law_1447 : decode cL_law 1447 = .ok (.iadd, 1) := dk_96 (dk_at dksL_law_55 19 rfl rfl)
theorem dL_law_1448 : decode cL_law 1448 = .ok (.iaload, 1) := dk_46 (dk_at dksL_law_55 20 rfl rfl)
theorem dL_law_1449 : decode cL_law 1449 = .ok (.aload_n 0, 1) := dk_42 (dk_at dksL_law_55 21 rfl rfl)
theorem dL_law_1450 : decode cL_law 1450 = .ok (.iload 5, 2) := dk_21 5 (dk_at dksL_law_55 22 rfl rfl)
theorem dL_law_1452 : decode cL_law 1452 = .ok (.iconst 4, 1) := dk_7 (dk_at dksL_law_56 0 rfl rfl)
theorem dL_law_1453 : decode cL_law 1453 = .ok (.iadd, 1) := dk_96 (dk_at dksL_law_56 1 rfl rfl)
theorem dL_law_1454 : decode cL_law 1454 = .ok (.iaload, 1) := dk_46 (dk_at dksL_law_56 2 rfl rfl)
theorem dL_law_1455 : decode cL_law 1455 = .ok (.invokevirtual 202, 3) := dk_182 0 202 (dk_at dksL_law_56 3 rfl rfl)
theorem dL_law_1458 : decode cL_law 1458 = .ok (.istore 7, 2) := dk_54 7 (dk_at dksL_law_56 6 rfl rfl)
theorem dL_law_1460 : decode cL_law 1460 = .ok (.aload_n 2, 1) := dk_44 (dk_at dksL_law_56 8 rfl rfl)
theorem dL_law_1461 : decode cL_law 1461 = .ok (.invokevirtual 136, 3) := dk_182 0 136 (dk_at dksL_law_56 9 rfl rfl)
theorem dL_law_1464 : decode cL_law 1464 = .ok (.iload 6, 2) := dk_21 6 (dk_at dksL_law_56 12 rfl rfl)
theorem dL_law_1466 : decode cL_law 1466 = .ok (.if_icmp .eq 5, 3) := dk_159 0 5 (dk_at dksL_law_56 14 rfl rfl)
theorem dL_law_1469 : decode cL_law 1469 = .ok (.iconst 0, 1) := dk_3 (dk_at dksL_law_56 17 rfl rfl)
theorem dL_law_1470 : decode cL_law 1470 = .ok (.ireturn, 1) := dk_172 (dk_at dksL_law_56 18 rfl rfl)
theorem dL_law_1471 : decode cL_law 1471 = .ok (.iload 6, 2) := dk_21 6 (dk_at dksL_law_56 19 rfl rfl)
theorem dL_law_1473 : decode cL_law 1473 = .ok (.ifCond .ne 15, 3) := dk_154 0 15 (dk_at dksL_law_56 21 rfl rfl)
theorem dL_law_1476 : decode cL_law 1476 = .ok (.aload_n 3, 1) := dk_45 (dk_at dksL_law_57 0 rfl rfl)
theorem dL_law_1477 : decode cL_law 1477 = .ok (.iconst 0, 1) := dk_3 (dk_at dksL_law_57 1 rfl rfl)
theorem dL_law_1478 : decode cL_law 1478 = .ok (.laload, 1) := dk_47 (dk_at dksL_law_57 2 rfl rfl)
theorem dL_law_1479 : decode cL_law 1479 = .ok (.iload 7, 2) := dk_21 7 (dk_at dksL_law_57 3 rfl rfl)
theorem dL_law_1481 : decode cL_law 1481 = .ok (.i2l, 1) := dk_133 (dk_at dksL_law_57 5 rfl rfl)
theorem dL_law_1482 : decode cL_law 1482 = .ok (.lcmp, 1) := dk_148 (dk_at dksL_law_57 6 rfl rfl)
theorem dL_law_1483 : decode cL_law 1483 = .ok (.ifCond .eq 5, 3) := dk_153 0 5 (dk_at dksL_law_57 7 rfl rfl)
theorem dL_law_1486 : decode cL_law 1486 = .ok (.iconst 0, 1) := dk_3 (dk_at dksL_law_57 10 rfl rfl)
theorem dL_law_1487 : decode cL_law 1487 = .ok (.ireturn, 1) := dk_172 (dk_at dksL_law_57 11 rfl rfl)
theorem dL_law_1488 : decode cL_law 1488 = .ok (.goto 1205, 3) := dk_167 4 181 (dk_at dksL_law_57 12 rfl rfl)
theorem dL_law_1491 : decode cL_law 1491 = .ok (.aload_n 1, 1) := dk_43 (dk_at dksL_law_57 15 rfl rfl)
theorem dL_law_1492 : decode cL_law 1492 = .ok (.aload_n 0, 1) := dk_42 (dk_at dksL_law_57 16 rfl rfl)
theorem dL_law_1493 : decode cL_law 1493 = .ok (.iload 5, 2) := dk_21 5 (dk_at dksL_law_57 17 rfl rfl)
theorem dL_law_1495 : decode cL_law 1495 = .ok (.iconst 1, 1) := dk_4 (dk_at dksL_law_57 19 rfl rfl)
theorem dL_law_1496 : decode cL_law 1496 = .ok (.iadd, 1) := dk_96 (dk_at dksL_law_57 20 rfl rfl)
theorem dL_law_1497 : decode cL_law 1497 = .ok (.iaload, 1) := dk_46 (dk_at dksL_law_57 21 rfl rfl)
theorem dL_law_1498 : decode cL_law 1498 = .ok (.aload_n 0, 1) := dk_42 (dk_at dksL_law_57 22 rfl rfl)
theorem dL_law_1499 : decode cL_law 1499 = .ok (.iload 5, 2) := dk_21 5 (dk_at dksL_law_58 0 rfl rfl)
theorem dL_law_1501 : decode cL_law 1501 = .ok (.iconst 2, 1) := dk_5 (dk_at dksL_law_58 2 rfl rfl)
theorem dL_law_1502 : decode cL_law 1502 = .ok (.iadd, 1) := dk_96 (dk_at dksL_law_58 3 rfl rfl)
theorem dL_law_1503 : decode cL_law 1503 = .ok (.iaload, 1) := dk_46 (dk_at dksL_law_58 4 rfl rfl)
theorem dL_law_1504 : decode cL_law 1504 = .ok (.aload_n 3, 1) := dk_45 (dk_at dksL_law_58 5 rfl rfl)
theorem dL_law_1505 : decode cL_law 1505 = .ok (.invokestatic 203, 3) := dk_184 0 203 (dk_at dksL_law_58 6 rfl rfl)
theorem dL_law_1508 : decode cL_law 1508 = .ok (.istore 6, 2) := dk_54 6 (dk_at dksL_law_58 9 rfl rfl)
theorem dL_law_1510 : decode cL_law 1510 = .ok (.aload_n 2, 1) := dk_44 (dk_at dksL_law_58 11 rfl rfl)
theorem dL_law_1511 : decode cL_law 1511 = .ok (.aload_n 0, 1) := dk_42 (dk_at dksL_law_58 12 rfl rfl)
theorem dL_law_1512 : decode cL_law 1512 = .ok (.iload 5, 2) := dk_21 5 (dk_at dksL_law_58 13 rfl rfl)
theorem dL_law_1514 : decode cL_law 1514 = .ok (.iconst 1, 1) := dk_4 (dk_at dksL_law_58 15 rfl rfl)
theorem dL_law_1515 : decode cL_law 1515 = .ok (.iadd, 1) := dk_96 (dk_at dksL_law_58 16 rfl rfl)
theorem dL_law_1516 : decode cL_law 1516 = .ok (.iaload, 1) := dk_46 (dk_at dksL_law_58 17 rfl rfl)
theorem dL_law_1517 : decode cL_law 1517 = .ok (.aload_n 0, 1) := dk_42 (dk_at dksL_law_58 18 rfl rfl)
theorem dL_law_1518 : decode cL_law 1518 = .ok (.iload 5, 2) := dk_21 5 (dk_at dksL_law_58 19 rfl rfl)
theorem dL_law_1520 : decode cL_law 1520 = .ok (.iconst 2, 1) := dk_5 (dk_at dksL_law_58 21 rfl rfl)
theorem dL_law_1521 : decode cL_law 1521 = .ok (.iadd, 1) := dk_96 (dk_at dksL_law_58 22 rfl rfl)
theorem dL_law_1522 : decode cL_law 1522 = .ok (.iaload, 1) := dk_46 (dk_at dksL_law_58 23 rfl rfl)
theorem dL_law_1523 : decode cL_law 1523 = .ok (.invokevirtual 205, 3) := dk_182 0 205 (dk_at dksL_law_59 0 rfl rfl)
theorem dL_law_1526 : decode cL_law 1526 = .ok (.istore 7, 2) := dk_54 7 (dk_at dksL_law_59 3 rfl rfl)
theorem dL_law_1528 : decode cL_law 1528 = .ok (.aload_n 2, 1) := dk_44 (dk_at dksL_law_59 5 rfl rfl)
theorem dL_law_1529 : decode cL_law 1529 = .ok (.invokevirtual 136, 3) := dk_182 0 136 (dk_at dksL_law_59 6 rfl rfl)
theorem dL_law_1532 : decode cL_law 1532 = .ok (.iload 6, 2) := dk_21 6 (dk_at dksL_law_59 9 rfl rfl)
theorem dL_law_1534 : decode cL_law 1534 = .ok (.if_icmp .eq 5, 3) := dk_159 0 5 (dk_at dksL_law_59 11 rfl rfl)
theorem dL_law_1537 : decode cL_law 1537 = .ok (.iconst 0, 1) := dk_3 (dk_at dksL_law_59 14 rfl rfl)
theorem dL_law_1538 : decode cL_law 1538 = .ok (.ireturn, 1) := dk_172 (dk_at dksL_law_59 15 rfl rfl)
theorem dL_law_1539 : decode cL_law 1539 = .ok (.iload 6, 2) := dk_21 6 (dk_at dksL_law_59 16 rfl rfl)
theorem dL_law_1541 : decode cL_law 1541 = .ok (.ifCond .ne 15, 3) := dk_154 0 15 (dk_at dksL_law_59 18 rfl rfl)
theorem dL_law_1544 : decode cL_law 1544 = .ok (.aload_n 3, 1) := dk_45 (dk_at dksL_law_59 21 rfl rfl)
theorem dL_law_1545 : decode cL_law 1545 = .ok (.iconst 0, 1) := dk_3 (dk_at dksL_law_59 22 rfl rfl)
theorem dL_law_1546 : decode cL_law 1546 = .ok (.laload, 1) := dk_47 (dk_at dksL_law_59 23 rfl rfl)
theorem dL_law_1547 : decode cL_law 1547 = .ok (.iload 7, 2) := dk_21 7 (dk_at dksL_law_60 0 rfl rfl)
theorem dL_law_1549 : decode cL_law 1549 = .ok (.i2l, 1) := dk_133 (dk_at dksL_law_60 2 rfl rfl)
theorem dL_law_1550 : decode cL_law 1550 = .ok (.lcmp, 1) := dk_148 (dk_at dksL_law_60 3 rfl rfl)
theorem dL_law_1551 : decode cL_law 1551 = .ok (.ifCond .eq 5, 3) := dk_153 0 5 (dk_at dksL_law_60 4 rfl rfl)
theorem dL_law_1554 : decode cL_law 1554 = .ok (.iconst 0, 1) := dk_3 (dk_at dksL_law_60 7 rfl rfl)
theorem dL_law_1555 : decode cL_law 1555 = .ok (.ireturn, 1) := dk_172 (dk_at dksL_law_60 8 rfl rfl)
theorem dL_law_1556 : decode cL_law 1556 = .ok (.goto 1137, 3) := dk_167 4 113 (dk_at dksL_law_60 9 rfl rfl)
theorem dL_law_1559 : decode cL_law 1559 = .ok (.aload_n 1, 1) := dk_43 (dk_at dksL_law_60 12 rfl rfl)
theorem dL_law_1560 : decode cL_law 1560 = .ok (.aload_n 0, 1) := dk_42 (dk_at dksL_law_60 13 rfl rfl)
theorem dL_law_1561 : decode cL_law 1561 = .ok (.iload 5, 2) := dk_21 5 (dk_at dksL_law_60 14 rfl rfl)
theorem dL_law_1563 : decode cL_law 1563 = .ok (.iconst 1, 1) := dk_4 (dk_at dksL_law_60 16 rfl rfl)
theorem dL_law_1564 : decode cL_law 1564 = .ok (.iadd, 1) := dk_96 (dk_at dksL_law_60 17 rfl rfl)
theorem dL_law_1565 : decode cL_law 1565 = .ok (.iaload, 1) := dk_46 (dk_at dksL_law_60 18 rfl rfl)
theorem dL_law_1566 : decode cL_law 1566 = .ok (.aload_n 3, 1) := dk_45 (dk_at dksL_law_60 19 rfl rfl)
theorem dL_law_1567 : decode cL_law 1567 = .ok (.invokestatic 206, 3) := dk_184 0 206 (dk_at dksL_law_60 20 rfl rfl)
theorem dL_law_1570 : decode cL_law 1570 = .ok (.istore 6, 2) := dk_54 6 (dk_at dksL_law_61 0 rfl rfl)
theorem dL_law_1572 : decode cL_law 1572 = .ok (.aload_n 2, 1) := dk_44 (dk_at dksL_law_61 2 rfl rfl)
theorem dL_law_1573 : decode cL_law 1573 = .ok (.aload_n 0, 1) := dk_42 (dk_at dksL_law_61 3 rfl rfl)
theorem dL_law_1574 : decode cL_law 1574 = .ok (.iload 5, 2) := dk_21 5 (dk_at dksL_law_61 4 rfl rfl)
theorem dL_law_1576 : decode cL_law 1576 = .ok (.iconst 1, 1) := dk_4 (dk_at dksL_law_61 6 rfl rfl)
theorem dL_law_1577 : decode cL_law 1577 = .ok (.iadd, 1) := dk_96 (dk_at dksL_law_61 7 rfl rfl)
theorem dL_law_1578 : decode cL_law 1578 = .ok (.iaload, 1) := dk_46 (dk_at dksL_law_61 8 rfl rfl)
theorem dL_law_1579 : decode cL_law 1579 = .ok (.invokevirtual 208, 3) := dk_182 0 208 (dk_at dksL_law_61 9 rfl rfl)
theorem dL_law_1582 : decode cL_law 1582 = .ok (.istore 7, 2) := dk_54 7 (dk_at dksL_law_61 12 rfl rfl)
theorem dL_law_1584 : decode cL_law 1584 = .ok (.aload_n 2, 1) := dk_44 (dk_at dksL_law_61 14 rfl rfl)
theorem dL_law_1585 : decode cL_law 1585 = .ok (.invokevirtual 136, 3) := dk_182 0 136 (dk_at dksL_law_61 15 rfl rfl)
theorem dL_law_1588 : decode cL_law 1588 = .ok (.iload 6, 2) := dk_21 6 (dk_at dksL_law_61 18 rfl rfl)
theorem dL_law_1590 : decode cL_law 1590 = .ok (.if_icmp .eq 5, 3) := dk_159 0 5 (dk_at dksL_law_61 20 rfl rfl)
theorem dL_law_1593 : decode cL_law 1593 = .ok (.iconst 0, 1) := dk_3 (dk_at dksL_law_61 23 rfl rfl)
theorem dL_law_1594 : decode cL_law 1594 = .ok (.ireturn, 1) := dk_172 (dk_at dksL_law_62 0 rfl rfl)
theorem dL_law_1595 : decode cL_law 1595 = .ok (.iload 6, 2) := dk_21 6 (dk_at dksL_law_62 1 rfl rfl)
theorem dL_law_1597 : decode cL_law 1597 = .ok (.ifCond .ne 15, 3) := dk_154 0 15 (dk_at dksL_law_62 3 rfl rfl)
theorem dL_law_1600 : decode cL_law 1600 = .ok (.aload_n 3, 1) := dk_45 (dk_at dksL_law_62 6 rfl rfl)
theorem dL_law_1601 : decode cL_law 1601 = .ok (.iconst 0, 1) := dk_3 (dk_at dksL_law_62 7 rfl rfl)
theorem dL_law_1602 : decode cL_law 1602 = .ok (.laload, 1) := dk_47 (dk_at dksL_law_62 8 rfl rfl)
theorem dL_law_1603 : decode cL_law 1603 = .ok (.iload 7, 2) := dk_21 7 (dk_at dksL_law_62 9 rfl rfl)
theorem dL_law_1605 : decode cL_law 1605 = .ok (.i2l, 1) := dk_133 (dk_at dksL_law_62 11 rfl rfl)
theorem dL_law_1606 : decode cL_law 1606 = .ok (.lcmp, 1) := dk_148 (dk_at dksL_law_62 12 rfl rfl)
theorem dL_law_1607 : decode cL_law 1607 = .ok (.ifCond .eq 5, 3) := dk_153 0 5 (dk_at dksL_law_62 13 rfl rfl)
theorem dL_law_1610 : decode cL_law 1610 = .ok (.iconst 0, 1) := dk_3 (dk_at dksL_law_62 16 rfl rfl)
theorem dL_law_1611 : decode cL_law 1611 = .ok (.ireturn, 1) := dk_172 (dk_at dksL_law_62 17 rfl rfl)
theorem dL_law_1612 : decode cL_law 1612 = .ok (.goto 1081, 3) := dk_167 4 57 (dk_at dksL_law_62 18 rfl rfl)
theorem dL_law_1615 : decode cL_law 1615 = .ok (.aload_n 1, 1) := dk_43 (dk_at dksL_law_62 21 rfl rfl)
theorem dL_law_1616 : decode cL_law 1616 = .ok (.aload_n 0, 1) := dk_42 (dk_at dksL_law_62 22 rfl rfl)
theorem dL_law_1617 : decode cL_law 1617 = .ok (.iload 5, 2) := dk_21 5 (dk_at dksL_law_63 0 rfl rfl)
theorem dL_law_1619 : decode cL_law 1619 = .ok (.iconst 1, 1) := dk_4 (dk_at dksL_law_63 2 rfl rfl)
theorem dL_law_1620 : decode cL_law 1620 = .ok (.iadd, 1) := dk_96 (dk_at dksL_law_63 3 rfl rfl)
theorem dL_law_1621 : decode cL_law 1621 = .ok (.iaload, 1) := dk_46 (dk_at dksL_law_63 4 rfl rfl)
theorem dL_law_1622 : decode cL_law 1622 = .ok (.aload_n 3, 1) := dk_45 (dk_at dksL_law_63 5 rfl rfl)
theorem dL_law_1623 : decode cL_law 1623 = .ok (.invokestatic 209, 3) := dk_184 0 209 (dk_at dksL_law_63 6 rfl rfl)
theorem dL_law_1626 : decode cL_law 1626 = .ok (.istore 6, 2) := dk_54 6 (dk_at dksL_law_63 9 rfl rfl)
theorem dL_law_1628 : decode cL_law 1628 = .ok (.aload_n 2, 1) := dk_44 (dk_at dksL_law_63 11 rfl rfl)
theorem dL_law_1629 : decode cL_law 1629 = .ok (.aload_n 0, 1) := dk_42 (dk_at dksL_law_63 12 rfl rfl)
theorem dL_law_1630 : decode cL_law 1630 = .ok (.iload 5, 2) := dk_21 5 (dk_at dksL_law_63 13 rfl rfl)
theorem dL_law_1632 : decode cL_law 1632 = .ok (.iconst 1, 1) := dk_4 (dk_at dksL_law_63 15 rfl rfl)
theorem dL_law_1633 : decode cL_law 1633 = .ok (.iadd, 1) := dk_96 (dk_at dksL_law_63 16 rfl rfl)
theorem dL_law_1634 : decode cL_law 1634 = .ok (.iaload, 1) := dk_46 (dk_at dksL_law_63 17 rfl rfl)
theorem dL_law_1635 : decode cL_law 1635 = .ok (.invokevirtual 211, 3) := dk_182 0 211 (dk_at dksL_law_63 18 rfl rfl)
theorem dL_law_1638 : decode cL_law 1638 = .ok (.istore 7, 2) := dk_54 7 (dk_at dksL_law_63 21 rfl rfl)
theorem dL_law_1640 : decode cL_law 1640 = .ok (.aload_n 2, 1) := dk_44 (dk_at dksL_law_63 23 rfl rfl)
theorem dL_law_1641 : decode cL_law 1641 = .ok (.invokevirtual 136, 3) := dk_182 0 136 (dk_at dksL_law_64 0 rfl rfl)
theorem dL_law_1644 : decode cL_law 1644 = .ok (.iload 6, 2) := dk_21 6 (dk_at dksL_law_64 3 rfl rfl)
theorem dL_law_1646 : decode cL_law 1646 = .ok (.if_icmp .eq 5, 3) := dk_159 0 5 (dk_at dksL_law_64 5 rfl rfl)
theorem dL_law_1649 : decode cL_law 1649 = .ok (.iconst 0, 1) := dk_3 (dk_at dksL_law_64 8 rfl rfl)
theorem dL_law_1650 : decode cL_law 1650 = .ok (.ireturn, 1) := dk_172 (dk_at dksL_law_64 9 rfl rfl)
theorem dL_law_1651 : decode cL_law 1651 = .ok (.iload 6, 2) := dk_21 6 (dk_at dksL_law_64 10 rfl rfl)
theorem dL_law_1653 : decode cL_law 1653 = .ok (.ifCond .ne 15, 3) := dk_154 0 15 (dk_at dksL_law_64 12 rfl rfl)
theorem dL_law_1656 : decode cL_law 1656 = .ok (.aload_n 3, 1) := dk_45 (dk_at dksL_law_64 15 rfl rfl)
theorem dL_law_1657 : decode cL_law 1657 = .ok (.iconst 0, 1) := dk_3 (dk_at dksL_law_64 16 rfl rfl)
theorem dL_law_1658 : decode cL_law 1658 = .ok (.laload, 1) := dk_47 (dk_at dksL_law_64 17 rfl rfl)
theorem dL_law_1659 : decode cL_law 1659 = .ok (.iload 7, 2) := dk_21 7 (dk_at dksL_law_64 18 rfl rfl)
theorem dL_law_1661 : decode cL_law 1661 = .ok (.i2l, 1) := dk_133 (dk_at dksL_law_64 20 rfl rfl)
theorem dL_law_1662 : decode cL_law 1662 = .ok (.lcmp, 1) := dk_148 (dk_at dksL_law_64 21 rfl rfl)
theorem dL_law_1663 : decode cL_law 1663 = .ok (.ifCond .eq 5, 3) := dk_153 0 5 (dk_at dksL_law_65 0 rfl rfl)
theorem dL_law_1666 : decode cL_law 1666 = .ok (.iconst 0, 1) := dk_3 (dk_at dksL_law_65 3 rfl rfl)
theorem dL_law_1667 : decode cL_law 1667 = .ok (.ireturn, 1) := dk_172 (dk_at dksL_law_65 4 rfl rfl)
theorem dL_law_1668 : decode cL_law 1668 = .ok (.goto 1025, 3) := dk_167 4 1 (dk_at dksL_law_65 5 rfl rfl)
theorem dL_law_1671 : decode cL_law 1671 = .ok (.aload_n 1, 1) := dk_43 (dk_at dksL_law_65 8 rfl rfl)
theorem dL_law_1672 : decode cL_law 1672 = .ok (.aload_n 0, 1) := dk_42 (dk_at dksL_law_65 9 rfl rfl)
theorem dL_law_1673 : decode cL_law 1673 = .ok (.iload 5, 2) := dk_21 5 (dk_at dksL_law_65 10 rfl rfl)
theorem dL_law_1675 : decode cL_law 1675 = .ok (.iconst 1, 1) := dk_4 (dk_at dksL_law_65 12 rfl rfl)
theorem dL_law_1676 : decode cL_law 1676 = .ok (.iadd, 1) := dk_96 (dk_at dksL_law_65 13 rfl rfl)
theorem dL_law_1677 : decode cL_law 1677 = .ok (.iaload, 1) := dk_46 (dk_at dksL_law_65 14 rfl rfl)
theorem dL_law_1678 : decode cL_law 1678 = .ok (.aload_n 0, 1) := dk_42 (dk_at dksL_law_65 15 rfl rfl)
theorem dL_law_1679 : decode cL_law 1679 = .ok (.iload 5, 2) := dk_21 5 (dk_at dksL_law_65 16 rfl rfl)
theorem dL_law_1681 : decode cL_law 1681 = .ok (.iconst 2, 1) := dk_5 (dk_at dksL_law_65 18 rfl rfl)
theorem dL_law_1682 : decode cL_law 1682 = .ok (.iadd, 1) := dk_96 (dk_at dksL_law_65 19 rfl rfl)
theorem dL_law_1683 : decode cL_law 1683 = .ok (.iaload, 1) := dk_46 (dk_at dksL_law_65 20 rfl rfl)
theorem dL_law_1684 : decode cL_law 1684 = .ok (.aload_n 3, 1) := dk_45 (dk_at dksL_law_65 21 rfl rfl)
theorem dL_law_1685 : decode cL_law 1685 = .ok (.invokestatic 212, 3) := dk_184 0 212 (dk_at dksL_law_66 0 rfl rfl)
theorem dL_law_1688 : decode cL_law 1688 = .ok (.istore 6, 2) := dk_54 6 (dk_at dksL_law_66 3 rfl rfl)
theorem dL_law_1690 : decode cL_law 1690 = .ok (.aload_n 2, 1) := dk_44 (dk_at dksL_law_66 5 rfl rfl)
theorem dL_law_1691 : decode cL_law 1691 = .ok (.aload_n 0, 1) := dk_42 (dk_at dksL_law_66 6 rfl rfl)
theorem dL_law_1692 : decode cL_law 1692 = .ok (.iload 5, 2) := dk_21 5 (dk_at dksL_law_66 7 rfl rfl)
theorem dL_law_1694 : decode cL_law 1694 = .ok (.iconst 1, 1) := dk_4 (dk_at dksL_law_66 9 rfl rfl)
theorem dL_law_1695 : decode cL_law 1695 = .ok (.iadd, 1) := dk_96 (dk_at dksL_law_66 10 rfl rfl)
theorem dL_law_1696 : decode cL_law 1696 = .ok (.iaload, 1) := dk_46 (dk_at dksL_law_66 11 rfl rfl)
theorem dL_law_1697 : decode cL_law 1697 = .ok (.aload_n 0, 1) := dk_42 (dk_at dksL_law_66 12 rfl rfl)
theorem dL_law_1698 : decode cL_law 1698 = .ok (.iload 5, 2) := dk_21 5 (dk_at dksL_law_66 13 rfl rfl)
theorem dL_law_1700 : decode cL_law 1700 = .ok (.iconst 2, 1) := dk_5 (dk_at dksL_law_66 15 rfl rfl)
theorem dL_law_1701 : decode cL_law 1701 = .ok (.iadd, 1) := dk_96 (dk_at dksL_law_66 16 rfl rfl)
theorem dL_law_1702 : decode cL_law 1702 = .ok (.iaload, 1) := dk_46 (dk_at dksL_law_66 17 rfl rfl)
theorem dL_law_1703 : decode cL_law 1703 = .ok (.invokevirtual 214, 3) := dk_182 0 214 (dk_at dksL_law_66 18 rfl rfl)
theorem dL_law_1706 : decode cL_law 1706 = .ok (.istore 7, 2) := dk_54 7 (dk_at dksL_law_66 21 rfl rfl)
theorem dL_law_1708 : decode cL_law 1708 = .ok (.aload_n 2, 1) := dk_44 (dk_at dksL_law_66 23 rfl rfl)
theorem dL_law_1709 : decode cL_law 1709 = .ok (.invokevirtual 136, 3) := dk_182 0 136 (dk_at dksL_law_67 0 rfl rfl)
theorem dL_law_1712 : decode cL_law 1712 = .ok (.iload 6, 2) := dk_21 6 (dk_at dksL_law_67 3 rfl rfl)
theorem dL_law_1714 : decode cL_law 1714 = .ok (.if_icmp .eq 5, 3) := dk_159 0 5 (dk_at dksL_law_67 5 rfl rfl)
theorem dL_law_1717 : decode cL_law 1717 = .ok (.iconst 0, 1) := dk_3 (dk_at dksL_law_67 8 rfl rfl)
theorem dL_law_1718 : decode cL_law 1718 = .ok (.ireturn, 1) := dk_172 (dk_at dksL_law_67 9 rfl rfl)
theorem dL_law_1719 : decode cL_law 1719 = .ok (.iload 6, 2) := dk_21 6 (dk_at dksL_law_67 10 rfl rfl)
theorem dL_law_1721 : decode cL_law 1721 = .ok (.ifCond .ne 15, 3) := dk_154 0 15 (dk_at dksL_law_67 12 rfl rfl)
theorem dL_law_1724 : decode cL_law 1724 = .ok (.aload_n 3, 1) := dk_45 (dk_at dksL_law_67 15 rfl rfl)
theorem dL_law_1725 : decode cL_law 1725 = .ok (.iconst 0, 1) := dk_3 (dk_at dksL_law_67 16 rfl rfl)
theorem dL_law_1726 : decode cL_law 1726 = .ok (.laload, 1) := dk_47 (dk_at dksL_law_67 17 rfl rfl)
theorem dL_law_1727 : decode cL_law 1727 = .ok (.iload 7, 2) := dk_21 7 (dk_at dksL_law_67 18 rfl rfl)
theorem dL_law_1729 : decode cL_law 1729 = .ok (.i2l, 1) := dk_133 (dk_at dksL_law_67 20 rfl rfl)
theorem dL_law_1730 : decode cL_law 1730 = .ok (.lcmp, 1) := dk_148 (dk_at dksL_law_67 21 rfl rfl)
theorem dL_law_1731 : decode cL_law 1731 = .ok (.ifCond .eq 5, 3) := dk_153 0 5 (dk_at dksL_law_68 0 rfl rfl)
theorem dL_law_1734 : decode cL_law 1734 = .ok (.iconst 0, 1) := dk_3 (dk_at dksL_law_68 3 rfl rfl)
theorem dL_law_1735 : decode cL_law 1735 = .ok (.ireturn, 1) := dk_172 (dk_at dksL_law_68 4 rfl rfl)
theorem dL_law_1736 : decode cL_law 1736 = .ok (.goto 957, 3) := dk_167 3 189 (dk_at dksL_law_68 5 rfl rfl)
theorem dL_law_1739 : decode cL_law 1739 = .ok (.aload_n 1, 1) := dk_43 (dk_at dksL_law_68 8 rfl rfl)
theorem dL_law_1740 : decode cL_law 1740 = .ok (.aload_n 0, 1) := dk_42 (dk_at dksL_law_68 9 rfl rfl)
theorem dL_law_1741 : decode cL_law 1741 = .ok (.iload 5, 2) := dk_21 5 (dk_at dksL_law_68 10 rfl rfl)
theorem dL_law_1743 : decode cL_law 1743 = .ok (.iconst 1, 1) := dk_4 (dk_at dksL_law_68 12 rfl rfl)
theorem dL_law_1744 : decode cL_law 1744 = .ok (.iadd, 1) := dk_96 (dk_at dksL_law_68 13 rfl rfl)
theorem dL_law_1745 : decode cL_law 1745 = .ok (.iaload, 1) := dk_46 (dk_at dksL_law_68 14 rfl rfl)
theorem dL_law_1746 : decode cL_law 1746 = .ok (.aload_n 3, 1) := dk_45 (dk_at dksL_law_68 15 rfl rfl)
theorem dL_law_1747 : decode cL_law 1747 = .ok (.invokestatic 215, 3) := dk_184 0 215 (dk_at dksL_law_68 16 rfl rfl)
theorem dL_law_1750 : decode cL_law 1750 = .ok (.istore 6, 2) := dk_54 6 (dk_at dksL_law_68 19 rfl rfl)
theorem dL_law_1752 : decode cL_law 1752 = .ok (.aload_n 2, 1) := dk_44 (dk_at dksL_law_68 21 rfl rfl)
theorem dL_law_1753 : decode cL_law 1753 = .ok (.aload_n 0, 1) := dk_42 (dk_at dksL_law_68 22 rfl rfl)
theorem dL_law_1754 : decode cL_law 1754 = .ok (.iload 5, 2) := dk_21 5 (dk_at dksL_law_69 0 rfl rfl)
theorem dL_law_1756 : decode cL_law 1756 = .ok (.iconst 1, 1) := dk_4 (dk_at dksL_law_69 2 rfl rfl)
theorem dL_law_1757 : decode cL_law 1757 = .ok (.iadd, 1) := dk_96 (dk_at dksL_law_69 3 rfl rfl)
theorem dL_law_1758 : decode cL_law 1758 = .ok (.iaload, 1) := dk_46 (dk_at dksL_law_69 4 rfl rfl)
theorem dL_law_1759 : decode cL_law 1759 = .ok (.invokevirtual 217, 3) := dk_182 0 217 (dk_at dksL_law_69 5 rfl rfl)
theorem dL_law_1762 : decode cL_law 1762 = .ok (.istore 7, 2) := dk_54 7 (dk_at dksL_law_69 8 rfl rfl)
theorem dL_law_1764 : decode cL_law 1764 = .ok (.aload_n 2, 1) := dk_44 (dk_at dksL_law_69 10 rfl rfl)
theorem dL_law_1765 : decode cL_law 1765 = .ok (.invokevirtual 136, 3) := dk_182 0 136 (dk_at dksL_law_69 11 rfl rfl)
theorem dL_law_1768 : decode cL_law 1768 = .ok (.iload 6, 2) := dk_21 6 (dk_at dksL_law_69 14 rfl rfl)
theorem dL_law_1770 : decode cL_law 1770 = .ok (.if_icmp .eq 5, 3) := dk_159 0 5 (dk_at dksL_law_69 16 rfl rfl)
theorem dL_law_1773 : decode cL_law 1773 = .ok (.iconst 0, 1) := dk_3 (dk_at dksL_law_69 19 rfl rfl)
theorem dL_law_1774 : decode cL_law 1774 = .ok (.ireturn, 1) := dk_172 (dk_at dksL_law_69 20 rfl rfl)
theorem dL_law_1775 : decode cL_law 1775 = .ok (.iload 6, 2) := dk_21 6 (dk_at dksL_law_69 21 rfl rfl)
theorem dL_law_1777 : decode cL_law 1777 = .ok (.ifCond .ne 15, 3) := dk_154 0 15 (dk_at dksL_law_70 0 rfl rfl)
theorem dL_law_1780 : decode cL_law 1780 = .ok (.aload_n 3, 1) := dk_45 (dk_at dksL_law_70 3 rfl rfl)
theorem dL_law_1781 : decode cL_law 1781 = .ok (.iconst 0, 1) := dk_3 (dk_at dksL_law_70 4 rfl rfl)
theorem dL_law_1782 : decode cL_law 1782 = .ok (.laload, 1) := dk_47 (dk_at dksL_law_70 5 rfl rfl)
theorem dL_law_1783 : decode cL_law 1783 = .ok (.iload 7, 2) := dk_21 7 (dk_at dksL_law_70 6 rfl rfl)
theorem dL_law_1785 : decode cL_law 1785 = .ok (.i2l, 1) := dk_133 (dk_at dksL_law_70 8 rfl rfl)
theorem dL_law_1786 : decode cL_law 1786 = .ok (.lcmp, 1) := dk_148 (dk_at dksL_law_70 9 rfl rfl)
theorem dL_law_1787 : decode cL_law 1787 = .ok (.ifCond .eq 5, 3) := dk_153 0 5 (dk_at dksL_law_70 10 rfl rfl)
theorem dL_law_1790 : decode cL_law 1790 = .ok (.iconst 0, 1) := dk_3 (dk_at dksL_law_70 13 rfl rfl)
theorem dL_law_1791 : decode cL_law 1791 = .ok (.ireturn, 1) := dk_172 (dk_at dksL_law_70 14 rfl rfl)
theorem dL_law_1792 : decode cL_law 1792 = .ok (.goto 901, 3) := dk_167 3 133 (dk_at dksL_law_70 15 rfl rfl)
theorem dL_law_1795 : decode cL_law 1795 = .ok (.aload_n 1, 1) := dk_43 (dk_at dksL_law_70 18 rfl rfl)
theorem dL_law_1796 : decode cL_law 1796 = .ok (.aload_n 0, 1) := dk_42 (dk_at dksL_law_70 19 rfl rfl)
theorem dL_law_1797 : decode cL_law 1797 = .ok (.iload 5, 2) := dk_21 5 (dk_at dksL_law_70 20 rfl rfl)
theorem dL_law_1799 : decode cL_law 1799 = .ok (.iconst 1, 1) := dk_4 (dk_at dksL_law_70 22 rfl rfl)
theorem dL_law_1800 : decode cL_law 1800 = .ok (.iadd, 1) := dk_96 (dk_at dksL_law_70 23 rfl rfl)
theorem dL_law_1801 : decode cL_law 1801 = .ok (.iaload, 1) := dk_46 (dk_at dksL_law_71 0 rfl rfl)
theorem dL_law_1802 : decode cL_law 1802 = .ok (.aload_n 0, 1) := dk_42 (dk_at dksL_law_71 1 rfl rfl)
theorem dL_law_1803 : decode cL_law 1803 = .ok (.iload 5, 2) := dk_21 5 (dk_at dksL_law_71 2 rfl rfl)
theorem dL_law_1805 : decode cL_law 1805 = .ok (.iconst 2, 1) := dk_5 (dk_at dksL_law_71 4 rfl rfl)
theorem dL_law_1806 : decode cL_law 1806 = .ok (.iadd, 1) := dk_96 (dk_at dksL_law_71 5 rfl rfl)
theorem dL_law_1807 : decode cL_law 1807 = .ok (.iaload, 1) := dk_46 (dk_at dksL_law_71 6 rfl rfl)
theorem dL_law_1808 : decode cL_law 1808 = .ok (.aload_n 0, 1) := dk_42 (dk_at dksL_law_71 7 rfl rfl)
theorem dL_law_1809 : decode cL_law 1809 = .ok (.iload 5, 2) := dk_21 5 (dk_at dksL_law_71 8 rfl rfl)
theorem dL_law_1811 : decode cL_law 1811 = .ok (.iconst 3, 1) := dk_6 (dk_at dksL_law_71 10 rfl rfl)
theorem dL_law_1812 : decode cL_law 1812 = .ok (.iadd, 1) := dk_96 (dk_at dksL_law_71 11 rfl rfl)
theorem dL_law_1813 : decode cL_law 1813 = .ok (.iaload, 1) := dk_46 (dk_at dksL_law_71 12 rfl rfl)
theorem dL_law_1814 : decode cL_law 1814 = .ok (.aload_n 3, 1) := dk_45 (dk_at dksL_law_71 13 rfl rfl)
theorem dL_law_1815 : decode cL_law 1815 = .ok (.invokestatic 218, 3) := dk_184 0 218 (dk_at dksL_law_71 14 rfl rfl)
theorem dL_law_1818 : decode cL_law 1818 = .ok (.istore 6, 2) := dk_54 6 (dk_at dksL_law_71 17 rfl rfl)
theorem dL_law_1820 : decode cL_law 1820 = .ok (.aload_n 2, 1) := dk_44 (dk_at dksL_law_71 19 rfl rfl)
theorem dL_law_1821 : decode cL_law 1821 = .ok (.aload_n 0, 1) := dk_42 (dk_at dksL_law_71 20 rfl rfl)
theorem dL_law_1822 : decode cL_law 1822 = .ok (.iload 5, 2) := dk_21 5 (dk_at dksL_law_71 21 rfl rfl)
theorem dL_law_1824 : decode cL_law 1824 = .ok (.iconst 1, 1) := dk_4 (dk_at dksL_law_71 23 rfl rfl)
theorem dL_law_1825 : decode cL_law 1825 = .ok (.iadd, 1) := dk_96 (dk_at dksL_law_72 0 rfl rfl)
theorem dL_law_1826 : decode cL_law 1826 = .ok (.iaload, 1) := dk_46 (dk_at dksL_law_72 1 rfl rfl)
theorem dL_law_1827 : decode cL_law 1827 = .ok (.aload_n 0, 1) := dk_42 (dk_at dksL_law_72 2 rfl rfl)
theorem dL_law_1828 : decode cL_law 1828 = .ok (.iload 5, 2) := dk_21 5 (dk_at dksL_law_72 3 rfl rfl)
theorem dL_law_1830 : decode cL_law 1830 = .ok (.iconst 2, 1) := dk_5 (dk_at dksL_law_72 5 rfl rfl)
theorem dL_law_1831 : decode cL_law 1831 = .ok (.iadd, 1) := dk_96 (dk_at dksL_law_72 6 rfl rfl)
theorem dL_law_1832 : decode cL_law 1832 = .ok (.iaload, 1) := dk_46 (dk_at dksL_law_72 7 rfl rfl)
theorem dL_law_1833 : decode cL_law 1833 = .ok (.aload_n 0, 1) := dk_42 (dk_at dksL_law_72 8 rfl rfl)
theorem dL_law_1834 : decode cL_law 1834 = .ok (.iload 5, 2) := dk_21 5 (dk_at dksL_law_72 9 rfl rfl)
theorem dL_law_1836 : decode cL_law 1836 = .ok (.iconst 3, 1) := dk_6 (dk_at dksL_law_72 11 rfl rfl)
theorem dL_law_1837 : decode cL_law 1837 = .ok (.iadd, 1) := dk_96 (dk_at dksL_law_72 12 rfl rfl)
theorem dL_law_1838 : decode cL_law 1838 = .ok (.iaload, 1) := dk_46 (dk_at dksL_law_72 13 rfl rfl)
theorem dL_law_1839 : decode cL_law 1839 = .ok (.invokevirtual 220, 3) := dk_182 0 220 (dk_at dksL_law_72 14 rfl rfl)
theorem dL_law_1842 : decode cL_law 1842 = .ok (.istore 7, 2) := dk_54 7 (dk_at dksL_law_72 17 rfl rfl)
theorem dL_law_1844 : decode cL_law 1844 = .ok (.aload_n 2, 1) := dk_44 (dk_at dksL_law_72 19 rfl rfl)
theorem dL_law_1845 : decode cL_law 1845 = .ok (.invokevirtual 136, 3) := dk_182 0 136 (dk_at dksL_law_72 20 rfl rfl)
theorem dL_law_1848 : decode cL_law 1848 = .ok (.iload 6, 2) := dk_21 6 (dk_at dksL_law_73 0 rfl rfl)
theorem dL_law_1850 : decode cL_law 1850 = .ok (.if_icmp .eq 5, 3) := dk_159 0 5 (dk_at dksL_law_73 2 rfl rfl)
theorem dL_law_1853 : decode cL_law 1853 = .ok (.iconst 0, 1) := dk_3 (dk_at dksL_law_73 5 rfl rfl)
theorem dL_law_1854 : decode cL_law 1854 = .ok (.ireturn, 1) := dk_172 (dk_at dksL_law_73 6 rfl rfl)
theorem dL_law_1855 : decode cL_law 1855 = .ok (.iload 6, 2) := dk_21 6 (dk_at dksL_law_73 7 rfl rfl)
theorem dL_law_1857 : decode cL_law 1857 = .ok (.ifCond .ne 15, 3) := dk_154 0 15 (dk_at dksL_law_73 9 rfl rfl)
theorem dL_law_1860 : decode cL_law 1860 = .ok (.aload_n 3, 1) := dk_45 (dk_at dksL_law_73 12 rfl rfl)
theorem dL_law_1861 : decode cL_law 1861 = .ok (.iconst 0, 1) := dk_3 (dk_at dksL_law_73 13 rfl rfl)
theorem dL_law_1862 : decode cL_law 1862 = .ok (.laload, 1) := dk_47 (dk_at dksL_law_73 14 rfl rfl)
theorem dL_law_1863 : decode cL_law 1863 = .ok (.iload 7, 2) := dk_21 7 (dk_at dksL_law_73 15 rfl rfl)
theorem dL_law_1865 : decode cL_law 1865 = .ok (.i2l, 1) := dk_133 (dk_at dksL_law_73 17 rfl rfl)
theorem dL_law_1866 : decode cL_law 1866 = .ok (.lcmp, 1) := dk_148 (dk_at dksL_law_73 18 rfl rfl)
theorem dL_law_1867 : decode cL_law 1867 = .ok (.ifCond .eq 5, 3) := dk_153 0 5 (dk_at dksL_law_73 19 rfl rfl)
theorem dL_law_1870 : decode cL_law 1870 = .ok (.iconst 0, 1) := dk_3 (dk_at dksL_law_73 22 rfl rfl)
theorem dL_law_1871 : decode cL_law 1871 = .ok (.ireturn, 1) := dk_172 (dk_at dksL_law_73 23 rfl rfl)
theorem dL_law_1872 : decode cL_law 1872 = .ok (.goto 821, 3) := dk_167 3 53 (dk_at dksL_law_74 0 rfl rfl)
theorem dL_law_1875 : decode cL_law 1875 = .ok (.aload_n 1, 1) := dk_43 (dk_at dksL_law_74 3 rfl rfl)
theorem dL_law_1876 : decode cL_law 1876 = .ok (.aload_n 0, 1) := dk_42 (dk_at dksL_law_74 4 rfl rfl)
theorem dL_law_1877 : decode cL_law 1877 = .ok (.iload 5, 2) := dk_21 5 (dk_at dksL_law_74 5 rfl rfl)
theorem dL_law_1879 : decode cL_law 1879 = .ok (.iconst 1, 1) := dk_4 (dk_at dksL_law_74 7 rfl rfl)
theorem dL_law_1880 : decode cL_law 1880 = .ok (.iadd, 1) := dk_96 (dk_at dksL_law_74 8 rfl rfl)
theorem dL_law_1881 : decode cL_law 1881 = .ok (.iaload, 1) := dk_46 (dk_at dksL_law_74 9 rfl rfl)
theorem dL_law_1882 : decode cL_law 1882 = .ok (.aload_n 0, 1) := dk_42 (dk_at dksL_law_74 10 rfl rfl)
theorem dL_law_1883 : decode cL_law 1883 = .ok (.iload 5, 2) := dk_21 5 (dk_at dksL_law_74 11 rfl rfl)
theorem dL_law_1885 : decode cL_law 1885 = .ok (.iconst 2, 1) := dk_5 (dk_at dksL_law_74 13 rfl rfl)
theorem dL_law_1886 : decode cL_law 1886 = .ok (.iadd, 1) := dk_96 (dk_at dksL_law_74 14 rfl rfl)
theorem dL_law_1887 : decode cL_law 1887 = .ok (.iaload, 1) := dk_46 (dk_at dksL_law_74 15 rfl rfl)
theorem dL_law_1888 : decode cL_law 1888 = .ok (.aload_n 0, 1) := dk_42 (dk_at dksL_law_74 16 rfl rfl)
theorem dL_law_1889 : decode cL_law 1889 = .ok (.iload 5, 2) := dk_21 5 (dk_at dksL_law_74 17 rfl rfl)
theorem dL_law_1891 : decode cL_law 1891 = .ok (.iconst 3, 1) := dk_6 (dk_at dksL_law_74 19 rfl rfl)
theorem dL_law_1892 : decode cL_law 1892 = .ok (.iadd, 1) := dk_96 (dk_at dksL_law_74 20 rfl rfl)
theorem dL_law_1893 : decode cL_law 1893 = .ok (.iaload, 1) := dk_46 (dk_at dksL_law_74 21 rfl rfl)
theorem dL_law_1894 : decode cL_law 1894 = .ok (.aload_n 3, 1) := dk_45 (dk_at dksL_law_74 22 rfl rfl)
theorem dL_law_1895 : decode cL_law 1895 = .ok (.invokestatic 221, 3) := dk_184 0 221 (dk_at dksL_law_75 0 rfl rfl)
theorem dL_law_1898 : decode cL_law 1898 = .ok (.istore 6, 2) := dk_54 6 (dk_at dksL_law_75 3 rfl rfl)
theorem dL_law_1900 : decode cL_law 1900 = .ok (.aload_n 2, 1) := dk_44 (dk_at dksL_law_75 5 rfl rfl)
theorem dL_law_1901 : decode cL_law 1901 = .ok (.aload_n 0, 1) := dk_42 (dk_at dksL_law_75 6 rfl rfl)
theorem dL_law_1902 : decode cL_law 1902 = .ok (.iload 5, 2) := dk_21 5 (dk_at dksL_law_75 7 rfl rfl)
theorem dL_law_1904 : decode cL_law 1904 = .ok (.iconst 1, 1) := dk_4 (dk_at dksL_law_75 9 rfl rfl)
theorem dL_law_1905 : decode cL_law 1905 = .ok (.iadd, 1) := dk_96 (dk_at dksL_law_75 10 rfl rfl)
theorem dL_law_1906 : decode cL_law 1906 = .ok (.iaload, 1) := dk_46 (dk_at dksL_law_75 11 rfl rfl)
theorem dL_law_1907 : decode cL_law 1907 = .ok (.aload_n 0, 1) := dk_42 (dk_at dksL_law_75 12 rfl rfl)
theorem dL_law_1908 : decode cL_law 1908 = .ok (.iload 5, 2) := dk_21 5 (dk_at dksL_law_75 13 rfl rfl)
theorem dL_law_1910 : decode cL_law 1910 = .ok (.iconst 2, 1) := dk_5 (dk_at dksL_law_75 15 rfl rfl)
theorem dL_law_1911 : decode cL_law 1911 = .ok (.iadd, 1) := dk_96 (dk_at dksL_law_75 16 rfl rfl)
theorem dL_law_1912 : decode cL_law 1912 = .ok (.iaload, 1) := dk_46 (dk_at dksL_law_75 17 rfl rfl)
theorem dL_law_1913 : decode cL_law 1913 = .ok (.aload_n 0, 1) := dk_42 (dk_at dksL_law_75 18 rfl rfl)
theorem dL_law_1914 : decode cL_law 1914 = .ok (.iload 5, 2) := dk_21 5 (dk_at dksL_law_75 19 rfl rfl)
theorem dL_law_1916 : decode cL_law 1916 = .ok (.iconst 3, 1) := dk_6 (dk_at dksL_law_75 21 rfl rfl)
theorem dL_law_1917 : decode cL_law 1917 = .ok (.iadd, 1) := dk_96 (dk_at dksL_law_75 22 rfl rfl)
theorem dL_law_1918 : decode cL_law 1918 = .ok (.iaload, 1) := dk_46 (dk_at dksL_law_75 23 rfl rfl)
theorem dL_law_1919 : decode cL_law 1919 = .ok (.invokevirtual 223, 3) := dk_182 0 223 (dk_at dksL_law_76 0 rfl rfl)
theorem dL_law_1922 : decode cL_law 1922 = .ok (.istore 7, 2) := dk_54 7 (dk_at dksL_law_76 3 rfl rfl)
theorem dL_law_1924 : decode cL_law 1924 = .ok (.aload_n 2, 1) := dk_44 (dk_at dksL_law_76 5 rfl rfl)
theorem dL_law_1925 : decode cL_law 1925 = .ok (.invokevirtual 136, 3) := dk_182 0 136 (dk_at dksL_law_76 6 rfl rfl)
theorem dL_law_1928 : decode cL_law 1928 = .ok (.iload 6, 2) := dk_21 6 (dk_at dksL_law_76 9 rfl rfl)
theorem dL_law_1930 : decode cL_law 1930 = .ok (.if_icmp .eq 5, 3) := dk_159 0 5 (dk_at dksL_law_76 11 rfl rfl)
theorem dL_law_1933 : decode cL_law 1933 = .ok (.iconst 0, 1) := dk_3 (dk_at dksL_law_76 14 rfl rfl)
theorem dL_law_1934 : decode cL_law 1934 = .ok (.ireturn, 1) := dk_172 (dk_at dksL_law_76 15 rfl rfl)
theorem dL_law_1935 : decode cL_law 1935 = .ok (.iload 6, 2) := dk_21 6 (dk_at dksL_law_76 16 rfl rfl)
theorem dL_law_1937 : decode cL_law 1937 = .ok (.ifCond .ne 15, 3) := dk_154 0 15 (dk_at dksL_law_76 18 rfl rfl)
theorem dL_law_1940 : decode cL_law 1940 = .ok (.aload_n 3, 1) := dk_45 (dk_at dksL_law_76 21 rfl rfl)
theorem dL_law_1941 : decode cL_law 1941 = .ok (.iconst 0, 1) := dk_3 (dk_at dksL_law_76 22 rfl rfl)
theorem dL_law_1942 : decode cL_law 1942 = .ok (.laload, 1) := dk_47 (dk_at dksL_law_76 23 rfl rfl)
theorem dL_law_1943 : decode cL_law 1943 = .ok (.iload 7, 2) := dk_21 7 (dk_at dksL_law_77 0 rfl rfl)
theorem dL_law_1945 : decode cL_law 1945 = .ok (.i2l, 1) := dk_133 (dk_at dksL_law_77 2 rfl rfl)
theorem dL_law_1946 : decode cL_law 1946 = .ok (.lcmp, 1) := dk_148 (dk_at dksL_law_77 3 rfl rfl)
theorem dL_law_1947 : decode cL_law 1947 = .ok (.ifCond .eq 5, 3) := dk_153 0 5 (dk_at dksL_law_77 4 rfl rfl)
theorem dL_law_1950 : decode cL_law 1950 = .ok (.iconst 0, 1) := dk_3 (dk_at dksL_law_77 7 rfl rfl)
theorem dL_law_1951 : decode cL_law 1951 = .ok (.ireturn, 1) := dk_172 (dk_at dksL_law_77 8 rfl rfl)
theorem dL_law_1952 : decode cL_law 1952 = .ok (.goto 741, 3) := dk_167 2 229 (dk_at dksL_law_77 9 rfl rfl)
theorem dL_law_1955 : decode cL_law 1955 = .ok (.aload_n 1, 1) := dk_43 (dk_at dksL_law_77 12 rfl rfl)
theorem dL_law_1956 : decode cL_law 1956 = .ok (.aload_n 0, 1) := dk_42 (dk_at dksL_law_77 13 rfl rfl)
theorem dL_law_1957 : decode cL_law 1957 = .ok (.iload 5, 2) := dk_21 5 (dk_at dksL_law_77 14 rfl rfl)
theorem dL_law_1959 : decode cL_law 1959 = .ok (.iconst 1, 1) := dk_4 (dk_at dksL_law_77 16 rfl rfl)
theorem dL_law_1960 : decode cL_law 1960 = .ok (.iadd, 1) := dk_96 (dk_at dksL_law_77 17 rfl rfl)
theorem dL_law_1961 : decode cL_law 1961 = .ok (.iaload, 1) := dk_46 (dk_at dksL_law_77 18 rfl rfl)
theorem dL_law_1962 : decode cL_law 1962 = .ok (.aload_n 0, 1) := dk_42 (dk_at dksL_law_77 19 rfl rfl)
theorem dL_law_1963 : decode cL_law 1963 = .ok (.iload 5, 2) := dk_21 5 (dk_at dksL_law_77 20 rfl rfl)
theorem dL_law_1965 : decode cL_law 1965 = .ok (.iconst 2, 1) := dk_5 (dk_at dksL_law_77 22 rfl rfl)
theorem dL_law_1966 : decode cL_law 1966 = .ok (.iadd, 1) := dk_96 (dk_at dksL_law_77 23 rfl rfl)
theorem dL_law_1967 : decode cL_law 1967 = .ok (.iaload, 1) := dk_46 (dk_at dksL_law_78 0 rfl rfl)
theorem dL_law_1968 : decode cL_law 1968 = .ok (.aload_n 3, 1) := dk_45 (dk_at dksL_law_78 1 rfl rfl)
theorem dL_law_1969 : decode cL_law 1969 = .ok (.invokestatic 224, 3) := dk_184 0 224 (dk_at dksL_law_78 2 rfl rfl)
theorem dL_law_1972 : decode cL_law 1972 = .ok (.istore 6, 2) := dk_54 6 (dk_at dksL_law_78 5 rfl rfl)
theorem dL_law_1974 : decode cL_law 1974 = .ok (.aload_n 2, 1) := dk_44 (dk_at dksL_law_78 7 rfl rfl)
theorem dL_law_1975 : decode cL_law 1975 = .ok (.aload_n 0, 1) := dk_42 (dk_at dksL_law_78 8 rfl rfl)
theorem dL_law_1976 : decode cL_law 1976 = .ok (.iload 5, 2) := dk_21 5 (dk_at dksL_law_78 9 rfl rfl)
theorem dL_law_1978 : decode cL_law 1978 = .ok (.iconst 1, 1) := dk_4 (dk_at dksL_law_78 11 rfl rfl)
theorem dL_law_1979 : decode cL_law 1979 = .ok (.iadd, 1) := dk_96 (dk_at dksL_law_78 12 rfl rfl)
theorem dL_law_1980 : decode cL_law 1980 = .ok (.iaload, 1) := dk_46 (dk_at dksL_law_78 13 rfl rfl)
theorem dL_law_1981 : decode cL_law 1981 = .ok (.aload_n 0, 1) := dk_42 (dk_at dksL_law_78 14 rfl rfl)
theorem dL_law_1982 : decode cL_law 1982 = .ok (.iload 5, 2) := dk_21 5 (dk_at dksL_law_78 15 rfl rfl)
theorem dL_law_1984 : decode cL_law 1984 = .ok (.iconst 2, 1) := dk_5 (dk_at dksL_law_78 17 rfl rfl)
theorem dL_law_1985 : decode cL_law 1985 = .ok (.iadd, 1) := dk_96 (dk_at dksL_law_78 18 rfl rfl)
theorem dL_law_1986 : decode cL_law 1986 = .ok (.iaload, 1) := dk_46 (dk_at dksL_law_78 19 rfl rfl)
theorem dL_law_1987 : decode cL_law 1987 = .ok (.invokevirtual 226, 3) := dk_182 0 226 (dk_at dksL_law_78 20 rfl rfl)
theorem dL_law_1990 : decode cL_law 1990 = .ok (.istore 7, 2) := dk_54 7 (dk_at dksL_law_79 0 rfl rfl)
theorem dL_law_1992 : decode cL_law 1992 = .ok (.aload_n 2, 1) := dk_44 (dk_at dksL_law_79 2 rfl rfl)
theorem dL_law_1993 : decode cL_law 1993 = .ok (.invokevirtual 136, 3) := dk_182 0 136 (dk_at dksL_law_79 3 rfl rfl)
theorem dL_law_1996 : decode cL_law 1996 = .ok (.iload 6, 2) := dk_21 6 (dk_at dksL_law_79 6 rfl rfl)
theorem dL_law_1998 : decode cL_law 1998 = .ok (.if_icmp .eq 5, 3) := dk_159 0 5 (dk_at dksL_law_79 8 rfl rfl)
theorem dL_law_2001 : decode cL_law 2001 = .ok (.iconst 0, 1) := dk_3 (dk_at dksL_law_79 11 rfl rfl)
theorem dL_law_2002 : decode cL_law 2002 = .ok (.ireturn, 1) := dk_172 (dk_at dksL_law_79 12 rfl rfl)
theorem dL_law_2003 : decode cL_law 2003 = .ok (.iload 6, 2) := dk_21 6 (dk_at dksL_law_79 13 rfl rfl)
theorem dL_law_2005 : decode cL_law 2005 = .ok (.ifCond .ne 15, 3) := dk_154 0 15 (dk_at dksL_law_79 15 rfl rfl)
theorem dL_law_2008 : decode cL_law 2008 = .ok (.aload_n 3, 1) := dk_45 (dk_at dksL_law_79 18 rfl rfl)
theorem dL_law_2009 : decode cL_law 2009 = .ok (.iconst 0, 1) := dk_3 (dk_at dksL_law_79 19 rfl rfl)
theorem dL_law_2010 : decode cL_law 2010 = .ok (.laload, 1) := dk_47 (dk_at dksL_law_79 20 rfl rfl)
theorem dL_law_2011 : decode cL_law 2011 = .ok (.iload 7, 2) := dk_21 7 (dk_at dksL_law_79 21 rfl rfl)
theorem dL_law_2013 : decode cL_law 2013 = .ok (.i2l, 1) := dk_133 (dk_at dksL_law_79 23 rfl rfl)
theorem dL_law_2014 : decode cL_law 2014 = .ok (.lcmp, 1) := dk_148 (dk_at dksL_law_80 0 rfl rfl)
theorem dL_law_2015 : decode cL_law 2015 = .ok (.ifCond .eq 5, 3) := dk_153 0 5 (dk_at dksL_law_80 1 rfl rfl)
theorem dL_law_2018 : decode cL_law 2018 = .ok (.iconst 0, 1) := dk_3 (dk_at dksL_law_80 4 rfl rfl)
theorem dL_law_2019 : decode cL_law 2019 = .ok (.ireturn, 1) := dk_172 (dk_at dksL_law_80 5 rfl rfl)
theorem dL_law_2020 : decode cL_law 2020 = .ok (.goto 673, 3) := dk_167 2 161 (dk_at dksL_law_80 6 rfl rfl)
theorem dL_law_2023 : decode cL_law 2023 = .ok (.aload_n 1, 1) := dk_43 (dk_at dksL_law_80 9 rfl rfl)
theorem dL_law_2024 : decode cL_law 2024 = .ok (.aload_n 0, 1) := dk_42 (dk_at dksL_law_80 10 rfl rfl)
theorem dL_law_2025 : decode cL_law 2025 = .ok (.iload 5, 2) := dk_21 5 (dk_at dksL_law_80 11 rfl rfl)
theorem dL_law_2027 : decode cL_law 2027 = .ok (.iconst 1, 1) := dk_4 (dk_at dksL_law_80 13 rfl rfl)
theorem dL_law_2028 : decode cL_law 2028 = .ok (.iadd, 1) := dk_96 (dk_at dksL_law_80 14 rfl rfl)
theorem dL_law_2029 : decode cL_law 2029 = .ok (.iaload, 1) := dk_46 (dk_at dksL_law_80 15 rfl rfl)
theorem dL_law_2030 : decode cL_law 2030 = .ok (.aload_n 3, 1) := dk_45 (dk_at dksL_law_80 16 rfl rfl)
theorem dL_law_2031 : decode cL_law 2031 = .ok (.invokestatic 227, 3) := dk_184 0 227 (dk_at dksL_law_80 17 rfl rfl)
theorem dL_law_2034 : decode cL_law 2034 = .ok (.istore 6, 2) := dk_54 6 (dk_at dksL_law_80 20 rfl rfl)
theorem dL_law_2036 : decode cL_law 2036 = .ok (.aload_n 2, 1) := dk_44 (dk_at dksL_law_80 22 rfl rfl)
theorem dL_law_2037 : decode cL_law 2037 = .ok (.aload_n 0, 1) := dk_42 (dk_at dksL_law_80 23 rfl rfl)
theorem dL_law_2038 : decode cL_law 2038 = .ok (.iload 5, 2) := dk_21 5 (dk_at dksL_law_81 0 rfl rfl)
theorem dL_law_2040 : decode cL_law 2040 = .ok (.iconst 1, 1) := dk_4 (dk_at dksL_law_81 2 rfl rfl)
theorem dL_law_2041 : decode cL_law 2041 = .ok (.iadd, 1) := dk_96 (dk_at dksL_law_81 3 rfl rfl)
theorem dL_law_2042 : decode cL_law 2042 = .ok (.iaload, 1) := dk_46 (dk_at dksL_law_81 4 rfl rfl)
theorem dL_law_2043 : decode cL_law 2043 = .ok (.invokevirtual 229, 3) := dk_182 0 229 (dk_at dksL_law_81 5 rfl rfl)
theorem dL_law_2046 : decode cL_law 2046 = .ok (.istore 7, 2) := dk_54 7 (dk_at dksL_law_81 8 rfl rfl)
theorem dL_law_2048 : decode cL_law 2048 = .ok (.aload_n 2, 1) := dk_44 (dk_at dksL_law_81 10 rfl rfl)
theorem dL_law_2049 : decode cL_law 2049 = .ok (.invokevirtual 136, 3) := dk_182 0 136 (dk_at dksL_law_81 11 rfl rfl)
theorem dL_law_2052 : decode cL_law 2052 = .ok (.iload 6, 2) := dk_21 6 (dk_at dksL_law_81 14 rfl rfl)
theorem dL_law_2054 : decode cL_law 2054 = .ok (.if_icmp .eq 5, 3) := dk_159 0 5 (dk_at dksL_law_81 16 rfl rfl)
theorem dL_law_2057 : decode cL_law 2057 = .ok (.iconst 0, 1) := dk_3 (dk_at dksL_law_81 19 rfl rfl)
theorem dL_law_2058 : decode cL_law 2058 = .ok (.ireturn, 1) := dk_172 (dk_at dksL_law_81 20 rfl rfl)
theorem dL_law_2059 : decode cL_law 2059 = .ok (.iload 6, 2) := dk_21 6 (dk_at dksL_law_81 21 rfl rfl)
theorem dL_law_2061 : decode cL_law 2061 = .ok (.ifCond .ne 15, 3) := dk_154 0 15 (dk_at dksL_law_82 0 rfl rfl)
theorem dL_law_2064 : decode cL_law 2064 = .ok (.aload_n 3, 1) := dk_45 (dk_at dksL_law_82 3 rfl rfl)
theorem dL_law_2065 : decode cL_law 2065 = .ok (.iconst 0, 1) := dk_3 (dk_at dksL_law_82 4 rfl rfl)
theorem dL_law_2066 : decode cL_law 2066 = .ok (.laload, 1) := dk_47 (dk_at dksL_law_82 5 rfl rfl)
theorem dL_law_2067 : decode cL_law 2067 = .ok (.iload 7, 2) := dk_21 7 (dk_at dksL_law_82 6 rfl rfl)
theorem dL_law_2069 : decode cL_law 2069 = .ok (.i2l, 1) := dk_133 (dk_at dksL_law_82 8 rfl rfl)
theorem dL_law_2070 : decode cL_law 2070 = .ok (.lcmp, 1) := dk_148 (dk_at dksL_law_82 9 rfl rfl)
theorem dL_law_2071 : decode cL_law 2071 = .ok (.ifCond .eq 5, 3) := dk_153 0 5 (dk_at dksL_law_82 10 rfl rfl)
theorem dL_law_2074 : decode cL_law 2074 = .ok (.iconst 0, 1) := dk_3 (dk_at dksL_law_82 13 rfl rfl)
theorem dL_law_2075 : decode cL_law 2075 = .ok (.ireturn, 1) := dk_172 (dk_at dksL_law_82 14 rfl rfl)
theorem dL_law_2076 : decode cL_law 2076 = .ok (.goto 617, 3) := dk_167 2 105 (dk_at dksL_law_82 15 rfl rfl)
theorem dL_law_2079 : decode cL_law 2079 = .ok (.aload_n 1, 1) := dk_43 (dk_at dksL_law_82 18 rfl rfl)
theorem dL_law_2080 : decode cL_law 2080 = .ok (.aload_n 0, 1) := dk_42 (dk_at dksL_law_82 19 rfl rfl)
theorem dL_law_2081 : decode cL_law 2081 = .ok (.iload 5, 2) := dk_21 5 (dk_at dksL_law_82 20 rfl rfl)
theorem dL_law_2083 : decode cL_law 2083 = .ok (.iconst 1, 1) := dk_4 (dk_at dksL_law_82 22 rfl rfl)
theorem dL_law_2084 : decode cL_law 2084 = .ok (.iadd, 1) := dk_96 (dk_at dksL_law_82 23 rfl rfl)
theorem dL_law_2085 : decode cL_law 2085 = .ok (.iaload, 1) := dk_46 (dk_at dksL_law_83 0 rfl rfl)
theorem dL_law_2086 : decode cL_law 2086 = .ok (.aload_n 0, 1) := dk_42 (dk_at dksL_law_83 1 rfl rfl)
theorem dL_law_2087 : decode cL_law 2087 = .ok (.iload 5, 2) := dk_21 5 (dk_at dksL_law_83 2 rfl rfl)
theorem dL_law_2089 : decode cL_law 2089 = .ok (.iconst 2, 1) := dk_5 (dk_at dksL_law_83 4 rfl rfl)
theorem dL_law_2090 : decode cL_law 2090 = .ok (.iadd, 1) := dk_96 (dk_at dksL_law_83 5 rfl rfl)
theorem dL_law_2091 : decode cL_law 2091 = .ok (.iaload, 1) := dk_46 (dk_at dksL_law_83 6 rfl rfl)
theorem dL_law_2092 : decode cL_law 2092 = .ok (.aload_n 3, 1) := dk_45 (dk_at dksL_law_83 7 rfl rfl)
theorem dL_law_2093 : decode cL_law 2093 = .ok (.invokestatic 230, 3) := dk_184 0 230 (dk_at dksL_law_83 8 rfl rfl)
theorem dL_law_2096 : decode cL_law 2096 = .ok (.istore 6, 2) := dk_54 6 (dk_at dksL_law_83 11 rfl rfl)
theorem dL_law_2098 : decode cL_law 2098 = .ok (.aload_n 2, 1) := dk_44 (dk_at dksL_law_83 13 rfl rfl)
theorem dL_law_2099 : decode cL_law 2099 = .ok (.aload_n 0, 1) := dk_42 (dk_at dksL_law_83 14 rfl rfl)
theorem dL_law_2100 : decode cL_law 2100 = .ok (.iload 5, 2) := dk_21 5 (dk_at dksL_law_83 15 rfl rfl)
theorem dL_law_2102 : decode cL_law 2102 = .ok (.iconst 1, 1) := dk_4 (dk_at dksL_law_83 17 rfl rfl)
theorem dL_law_2103 : decode cL_law 2103 = .ok (.iadd, 1) := dk_96 (dk_at dksL_law_83 18 rfl rfl)
theorem dL_law_2104 : decode cL_law 2104 = .ok (.iaload, 1) := dk_46 (dk_at dksL_law_83 19 rfl rfl)
theorem dL_law_2105 : decode cL_law 2105 = .ok (.aload_n 0, 1) := dk_42 (dk_at dksL_law_83 20 rfl rfl)
theorem dL_law_2106 : decode cL_law 2106 = .ok (.iload 5, 2) := dk_21 5 (dk_at dksL_law_83 21 rfl rfl)
theorem dL_law_2108 : decode cL_law 2108 = .ok (.iconst 2, 1) := dk_5 (dk_at dksL_law_83 23 rfl rfl)
theorem dL_law_2109 : decode cL_law 2109 = .ok (.iadd, 1) := dk_96 (dk_at dksL_law_84 0 rfl rfl)
theorem dL_law_2110 : decode cL_law 2110 = .ok (.iaload, 1) := dk_46 (dk_at dksL_law_84 1 rfl rfl)
theorem dL_law_2111 : decode cL_law 2111 = .ok (.invokevirtual 232, 3) := dk_182 0 232 (dk_at dksL_law_84 2 rfl rfl)
theorem dL_law_2114 : decode cL_law 2114 = .ok (.istore 7, 2) := dk_54 7 (dk_at dksL_law_84 5 rfl rfl)
theorem dL_law_2116 : decode cL_law 2116 = .ok (.aload_n 2, 1) := dk_44 (dk_at dksL_law_84 7 rfl rfl)
theorem dL_law_2117 : decode cL_law 2117 = .ok (.invokevirtual 136, 3) := dk_182 0 136 (dk_at dksL_law_84 8 rfl rfl)
theorem dL_law_2120 : decode cL_law 2120 = .ok (.iload 6, 2) := dk_21 6 (dk_at dksL_law_84 11 rfl rfl)
theorem dL_law_2122 : decode cL_law 2122 = .ok (.if_icmp .eq 5, 3) := dk_159 0 5 (dk_at dksL_law_84 13 rfl rfl)
theorem dL_law_2125 : decode cL_law 2125 = .ok (.iconst 0, 1) := dk_3 (dk_at dksL_law_84 16 rfl rfl)
theorem dL_law_2126 : decode cL_law 2126 = .ok (.ireturn, 1) := dk_172 (dk_at dksL_law_84 17 rfl rfl)
theorem dL_law_2127 : decode cL_law 2127 = .ok (.iload 6, 2) := dk_21 6 (dk_at dksL_law_84 18 rfl rfl)
theorem dL_law_2129 : decode cL_law 2129 = .ok (.ifCond .ne 15, 3) := dk_154 0 15 (dk_at dksL_law_84 20 rfl rfl)
theorem dL_law_2132 : decode cL_law 2132 = .ok (.aload_n 3, 1) := dk_45 (dk_at dksL_law_84 23 rfl rfl)
theorem dL_law_2133 : decode cL_law 2133 = .ok (.iconst 0, 1) := dk_3 (dk_at dksL_law_85 0 rfl rfl)
theorem dL_law_2134 : decode cL_law 2134 = .ok (.laload, 1) := dk_47 (dk_at dksL_law_85 1 rfl rfl)
theorem dL_law_2135 : decode cL_law 2135 = .ok (.iload 7, 2) := dk_21 7 (dk_at dksL_law_85 2 rfl rfl)
theorem dL_law_2137 : decode cL_law 2137 = .ok (.i2l, 1) := dk_133 (dk_at dksL_law_85 4 rfl rfl)
theorem dL_law_2138 : decode cL_law 2138 = .ok (.lcmp, 1) := dk_148 (dk_at dksL_law_85 5 rfl rfl)
theorem dL_law_2139 : decode cL_law 2139 = .ok (.ifCond .eq 5, 3) := dk_153 0 5 (dk_at dksL_law_85 6 rfl rfl)
theorem dL_law_2142 : decode cL_law 2142 = .ok (.iconst 0, 1) := dk_3 (dk_at dksL_law_85 9 rfl rfl)
theorem dL_law_2143 : decode cL_law 2143 = .ok (.ireturn, 1) := dk_172 (dk_at dksL_law_85 10 rfl rfl)
theorem dL_law_2144 : decode cL_law 2144 = .ok (.goto 549, 3) := dk_167 2 37 (dk_at dksL_law_85 11 rfl rfl)
theorem dL_law_2147 : decode cL_law 2147 = .ok (.aload_n 1, 1) := dk_43 (dk_at dksL_law_85 14 rfl rfl)
theorem dL_law_2148 : decode cL_law 2148 = .ok (.aload_n 0, 1) := dk_42 (dk_at dksL_law_85 15 rfl rfl)
theorem dL_law_2149 : decode cL_law 2149 = .ok (.iload 5, 2) := dk_21 5 (dk_at dksL_law_85 16 rfl rfl)
theorem dL_law_2151 : decode cL_law 2151 = .ok (.iconst 1, 1) := dk_4 (dk_at dksL_law_85 18 rfl rfl)
theorem dL_law_2152 : decode cL_law 2152 = .ok (.iadd, 1) := dk_96 (dk_at dksL_law_85 19 rfl rfl)
theorem dL_law_2153 : decode cL_law 2153 = .ok (.iaload, 1) := dk_46 (dk_at dksL_law_85 20 rfl rfl)
theorem dL_law_2154 : decode cL_law 2154 = .ok (.aload_n 0, 1) := dk_42 (dk_at dksL_law_85 21 rfl rfl)
theorem dL_law_2155 : decode cL_law 2155 = .ok (.iload 5, 2) := dk_21 5 (dk_at dksL_law_85 22 rfl rfl)
theorem dL_law_2157 : decode cL_law 2157 = .ok (.iconst 2, 1) := dk_5 (dk_at dksL_law_86 0 rfl rfl)
theorem dL_law_2158 : decode cL_law 2158 = .ok (.iadd, 1) := dk_96 (dk_at dksL_law_86 1 rfl rfl)
theorem dL_law_2159 : decode cL_law 2159 = .ok (.iaload, 1) := dk_46 (dk_at dksL_law_86 2 rfl rfl)
theorem dL_law_2160 : decode cL_law 2160 = .ok (.aload_n 3, 1) := dk_45 (dk_at dksL_law_86 3 rfl rfl)
theorem dL_law_2161 : decode cL_law 2161 = .ok (.invokestatic 233, 3) := dk_184 0 233 (dk_at dksL_law_86 4 rfl rfl)
theorem dL_law_2164 : decode cL_law 2164 = .ok (.istore 6, 2) := dk_54 6 (dk_at dksL_law_86 7 rfl rfl)
theorem dL_law_2166 : decode cL_law 2166 = .ok (.aload_n 2, 1) := dk_44 (dk_at dksL_law_86 9 rfl rfl)
theorem dL_law_2167 : decode cL_law 2167 = .ok (.aload_n 0, 1) := dk_42 (dk_at dksL_law_86 10 rfl rfl)
theorem dL_law_2168 : decode cL_law 2168 = .ok (.iload 5, 2) := dk_21 5 (dk_at dksL_law_86 11 rfl rfl)
theorem dL_law_2170 : decode cL_law 2170 = .ok (.iconst 1, 1) := dk_4 (dk_at dksL_law_86 13 rfl rfl)
theorem dL_law_2171 : decode cL_law 2171 = .ok (.iadd, 1) := dk_96 (dk_at dksL_law_86 14 rfl rfl)
theorem dL_law_2172 : decode cL_law 2172 = .ok (.iaload, 1) := dk_46 (dk_at dksL_law_86 15 rfl rfl)
theorem dL_law_2173 : decode cL_law 2173 = .ok (.aload_n 0, 1) := dk_42 (dk_at dksL_law_86 16 rfl rfl)
theorem dL_law_2174 : decode cL_law 2174 = .ok (.iload 5, 2) := dk_21 5 (dk_at dksL_law_86 17 rfl rfl)
theorem dL_law_2176 : decode cL_law 2176 = .ok (.iconst 2, 1) := dk_5 (dk_at dksL_law_86 19 rfl rfl)
theorem dL_law_2177 : decode cL_law 2177 = .ok (.iadd, 1) := dk_96 (dk_at dksL_law_86 20 rfl rfl)
theorem dL_law_2178 : decode cL_law 2178 = .ok (.iaload, 1) := dk_46 (dk_at dksL_law_86 21 rfl rfl)
theorem dL_law_2179 : decode cL_law 2179 = .ok (.invokevirtual 235, 3) := dk_182 0 235 (dk_at dksL_law_87 0 rfl rfl)
theorem dL_law_2182 : decode cL_law 2182 = .ok (.istore 7, 2) := dk_54 7 (dk_at dksL_law_87 3 rfl rfl)
theorem dL_law_2184 : decode cL_law 2184 = .ok (.aload_n 2, 1) := dk_44 (dk_at dksL_law_87 5 rfl rfl)
theorem dL_law_2185 : decode cL_law 2185 = .ok (.invokevirtual 136, 3) := dk_182 0 136 (dk_at dksL_law_87 6 rfl rfl)
theorem dL_law_2188 : decode cL_law 2188 = .ok (.iload 6, 2) := dk_21 6 (dk_at dksL_law_87 9 rfl rfl)
theorem dL_law_2190 : decode cL_law 2190 = .ok (.if_icmp .eq 5, 3) := dk_159 0 5 (dk_at dksL_law_87 11 rfl rfl)
theorem dL_law_2193 : decode cL_law 2193 = .ok (.iconst 0, 1) := dk_3 (dk_at dksL_law_87 14 rfl rfl)
theorem dL_law_2194 : decode cL_law 2194 = .ok (.ireturn, 1) := dk_172 (dk_at dksL_law_87 15 rfl rfl)
theorem dL_law_2195 : decode cL_law 2195 = .ok (.iload 6, 2) := dk_21 6 (dk_at dksL_law_87 16 rfl rfl)
theorem dL_law_2197 : decode cL_law 2197 = .ok (.ifCond .ne 15, 3) := dk_154 0 15 (dk_at dksL_law_87 18 rfl rfl)
theorem dL_law_2200 : decode cL_law 2200 = .ok (.aload_n 3, 1) := dk_45 (dk_at dksL_law_87 21 rfl rfl)
theorem dL_law_2201 : decode cL_law 2201 = .ok (.iconst 0, 1) := dk_3 (dk_at dksL_law_87 22 rfl rfl)
theorem dL_law_2202 : decode cL_law 2202 = .ok (.laload, 1) := dk_47 (dk_at dksL_law_87 23 rfl rfl)
theorem dL_law_2203 : decode cL_law 2203 = .ok (.iload 7, 2) := dk_21 7 (dk_at dksL_law_88 0 rfl rfl)
theorem dL_law_2205 : decode cL_law 2205 = .ok (.i2l, 1) := dk_133 (dk_at dksL_law_88 2 rfl rfl)
theorem dL_law_2206 : decode cL_law 2206 = .ok (.lcmp, 1) := dk_148 (dk_at dksL_law_88 3 rfl rfl)
theorem dL_law_2207 : decode cL_law 2207 = .ok (.ifCond .eq 5, 3) := dk_153 0 5 (dk_at dksL_law_88 4 rfl rfl)
theorem dL_law_2210 : decode cL_law 2210 = .ok (.iconst 0, 1) := dk_3 (dk_at dksL_law_88 7 rfl rfl)
theorem dL_law_2211 : decode cL_law 2211 = .ok (.ireturn, 1) := dk_172 (dk_at dksL_law_88 8 rfl rfl)
theorem dL_law_2212 : decode cL_law 2212 = .ok (.goto 481, 3) := dk_167 1 225 (dk_at dksL_law_88 9 rfl rfl)
theorem dL_law_2215 : decode cL_law 2215 = .ok (.aload_n 1, 1) := dk_43 (dk_at dksL_law_88 12 rfl rfl)
theorem dL_law_2216 : decode cL_law 2216 = .ok (.aload_n 0, 1) := dk_42 (dk_at dksL_law_88 13 rfl rfl)
theorem dL_law_2217 : decode cL_law 2217 = .ok (.iload 5, 2) := dk_21 5 (dk_at dksL_law_88 14 rfl rfl)
theorem dL_law_2219 : decode cL_law 2219 = .ok (.iconst 1, 1) := dk_4 (dk_at dksL_law_88 16 rfl rfl)
theorem dL_law_2220 : decode cL_law 2220 = .ok (.iadd, 1) := dk_96 (dk_at dksL_law_88 17 rfl rfl)
theorem dL_law_2221 : decode cL_law 2221 = .ok (.iaload, 1) := dk_46 (dk_at dksL_law_88 18 rfl rfl)
theorem dL_law_2222 : decode cL_law 2222 = .ok (.aload_n 0, 1) := dk_42 (dk_at dksL_law_88 19 rfl rfl)
theorem dL_law_2223 : decode cL_law 2223 = .ok (.iload 5, 2) := dk_21 5 (dk_at dksL_law_88 20 rfl rfl)
theorem dL_law_2225 : decode cL_law 2225 = .ok (.iconst 2, 1) := dk_5 (dk_at dksL_law_88 22 rfl rfl)
theorem dL_law_2226 : decode cL_law 2226 = .ok (.iadd, 1) := dk_96 (dk_at dksL_law_88 23 rfl rfl)
theorem dL_law_2227 : decode cL_law 2227 = .ok (.iaload, 1) := dk_46 (dk_at dksL_law_89 0 rfl rfl)
theorem dL_law_2228 : decode cL_law 2228 = .ok (.aload_n 3, 1) := dk_45 (dk_at dksL_law_89 1 rfl rfl)
theorem dL_law_2229 : decode cL_law 2229 = .ok (.invokestatic 236, 3) := dk_184 0 236 (dk_at dksL_law_89 2 rfl rfl)
theorem dL_law_2232 : decode cL_law 2232 = .ok (.istore 6, 2) := dk_54 6 (dk_at dksL_law_89 5 rfl rfl)
theorem dL_law_2234 : decode cL_law 2234 = .ok (.aload_n 2, 1) := dk_44 (dk_at dksL_law_89 7 rfl rfl)
theorem dL_law_2235 : decode cL_law 2235 = .ok (.aload_n 0, 1) := dk_42 (dk_at dksL_law_89 8 rfl rfl)
theorem dL_law_2236 : decode cL_law 2236 = .ok (.iload 5, 2) := dk_21 5 (dk_at dksL_law_89 9 rfl rfl)
theorem dL_law_2238 : decode cL_law 2238 = .ok (.iconst 1, 1) := dk_4 (dk_at dksL_law_89 11 rfl rfl)
theorem dL_law_2239 : decode cL_law 2239 = .ok (.iadd, 1) := dk_96 (dk_at dksL_law_89 12 rfl rfl)
theorem dL_law_2240 : decode cL_law 2240 = .ok (.iaload, 1) := dk_46 (dk_at dksL_law_89 13 rfl rfl)
theorem dL_law_2241 : decode cL_law 2241 = .ok (.aload_n 0, 1) := dk_42 (dk_at dksL_law_89 14 rfl rfl)
theorem dL_law_2242 : decode cL_law 2242 = .ok (.iload 5, 2) := dk_21 5 (dk_at dksL_law_89 15 rfl rfl)
theorem dL_law_2244 : decode cL_law 2244 = .ok (.iconst 2, 1) := dk_5 (dk_at dksL_law_89 17 rfl rfl)
theorem dL_law_2245 : decode cL_law 2245 = .ok (.iadd, 1) := dk_96 (dk_at dksL_law_89 18 rfl rfl)
theorem dL_law_2246 : decode cL_law 2246 = .ok (.iaload, 1) := dk_46 (dk_at dksL_law_89 19 rfl rfl)
theorem dL_law_2247 : decode cL_law 2247 = .ok (.invokevirtual 238, 3) := dk_182 0 238 (dk_at dksL_law_89 20 rfl rfl)
theorem dL_law_2250 : decode cL_law 2250 = .ok (.istore 7, 2) := dk_54 7 (dk_at dksL_law_90 0 rfl rfl)
theorem dL_law_2252 : decode cL_law 2252 = .ok (.aload_n 2, 1) := dk_44 (dk_at dksL_law_90 2 rfl rfl)
theorem dL_law_2253 : decode cL_law 2253 = .ok (.invokevirtual 136, 3) := dk_182 0 136 (dk_at dksL_law_90 3 rfl rfl)
theorem dL_law_2256 : decode cL_law 2256 = .ok (.iload 6, 2) := dk_21 6 (dk_at dksL_law_90 6 rfl rfl)
theorem dL_law_2258 : decode cL_law 2258 = .ok (.if_icmp .eq 5, 3) := dk_159 0 5 (dk_at dksL_law_90 8 rfl rfl)
theorem dL_law_2261 : decode cL_law 2261 = .ok (.iconst 0, 1) := dk_3 (dk_at dksL_law_90 11 rfl rfl)
theorem dL_law_2262 : decode cL_law 2262 = .ok (.ireturn, 1) := dk_172 (dk_at dksL_law_90 12 rfl rfl)
theorem dL_law_2263 : decode cL_law 2263 = .ok (.iload 6, 2) := dk_21 6 (dk_at dksL_law_90 13 rfl rfl)
theorem dL_law_2265 : decode cL_law 2265 = .ok (.ifCond .ne 15, 3) := dk_154 0 15 (dk_at dksL_law_90 15 rfl rfl)
theorem dL_law_2268 : decode cL_law 2268 = .ok (.aload_n 3, 1) := dk_45 (dk_at dksL_law_90 18 rfl rfl)
theorem dL_law_2269 : decode cL_law 2269 = .ok (.iconst 0, 1) := dk_3 (dk_at dksL_law_90 19 rfl rfl)
theorem dL_law_2270 : decode cL_law 2270 = .ok (.laload, 1) := dk_47 (dk_at dksL_law_90 20 rfl rfl)
theorem dL_law_2271 : decode cL_law 2271 = .ok (.iload 7, 2) := dk_21 7 (dk_at dksL_law_90 21 rfl rfl)
theorem dL_law_2273 : decode cL_law 2273 = .ok (.i2l, 1) := dk_133 (dk_at dksL_law_90 23 rfl rfl)
theorem dL_law_2274 : decode cL_law 2274 = .ok (.lcmp, 1) := dk_148 (dk_at dksL_law_91 0 rfl rfl)
theorem dL_law_2275 : decode cL_law 2275 = .ok (.ifCond .eq 5, 3) := dk_153 0 5 (dk_at dksL_law_91 1 rfl rfl)
theorem dL_law_2278 : decode cL_law 2278 = .ok (.iconst 0, 1) := dk_3 (dk_at dksL_law_91 4 rfl rfl)
theorem dL_law_2279 : decode cL_law 2279 = .ok (.ireturn, 1) := dk_172 (dk_at dksL_law_91 5 rfl rfl)
theorem dL_law_2280 : decode cL_law 2280 = .ok (.goto 413, 3) := dk_167 1 157 (dk_at dksL_law_91 6 rfl rfl)
theorem dL_law_2283 : decode cL_law 2283 = .ok (.aload_n 1, 1) := dk_43 (dk_at dksL_law_91 9 rfl rfl)
theorem dL_law_2284 : decode cL_law 2284 = .ok (.aload_n 0, 1) := dk_42 (dk_at dksL_law_91 10 rfl rfl)
theorem dL_law_2285 : decode cL_law 2285 = .ok (.iload 5, 2) := dk_21 5 (dk_at dksL_law_91 11 rfl rfl)
theorem dL_law_2287 : decode cL_law 2287 = .ok (.iconst 1, 1) := dk_4 (dk_at dksL_law_91 13 rfl rfl)
theorem dL_law_2288 : decode cL_law 2288 = .ok (.iadd, 1) := dk_96 (dk_at dksL_law_91 14 rfl rfl)
theorem dL_law_2289 : decode cL_law 2289 = .ok (.iaload, 1) := dk_46 (dk_at dksL_law_91 15 rfl rfl)
theorem dL_law_2290 : decode cL_law 2290 = .ok (.aload_n 0, 1) := dk_42 (dk_at dksL_law_91 16 rfl rfl)
theorem dL_law_2291 : decode cL_law 2291 = .ok (.iload 5, 2) := dk_21 5 (dk_at dksL_law_91 17 rfl rfl)
theorem dL_law_2293 : decode cL_law 2293 = .ok (.iconst 2, 1) := dk_5 (dk_at dksL_law_91 19 rfl rfl)
theorem dL_law_2294 : decode cL_law 2294 = .ok (.iadd, 1) := dk_96 (dk_at dksL_law_91 20 rfl rfl)
theorem dL_law_2295 : decode cL_law 2295 = .ok (.iaload, 1) := dk_46 (dk_at dksL_law_91 21 rfl rfl)
theorem dL_law_2296 : decode cL_law 2296 = .ok (.aload_n 3, 1) := dk_45 (dk_at dksL_law_91 22 rfl rfl)
theorem dL_law_2297 : decode cL_law 2297 = .ok (.invokestatic 239, 3) := dk_184 0 239 (dk_at dksL_law_92 0 rfl rfl)
theorem dL_law_2300 : decode cL_law 2300 = .ok (.istore 6, 2) := dk_54 6 (dk_at dksL_law_92 3 rfl rfl)
theorem dL_law_2302 : decode cL_law 2302 = .ok (.aload_n 2, 1) := dk_44 (dk_at dksL_law_92 5 rfl rfl)
theorem dL_law_2303 : decode cL_law 2303 = .ok (.aload_n 0, 1) := dk_42 (dk_at dksL_law_92 6 rfl rfl)
theorem dL_law_2304 : decode cL_law 2304 = .ok (.iload 5, 2) := dk_21 5 (dk_at dksL_law_92 7 rfl rfl)
theorem dL_law_2306 : decode cL_law 2306 = .ok (.iconst 1, 1) := dk_4 (dk_at dksL_law_92 9 rfl rfl)
theorem dL_law_2307 : decode cL_law 2307 = .ok (.iadd, 1) := dk_96 (dk_at dksL_law_92 10 rfl rfl)
theorem dL_law_2308 : decode cL_law 2308 = .ok (.iaload, 1) := dk_46 (dk_at dksL_law_92 11 rfl rfl)
theorem dL_law_2309 : decode cL_law 2309 = .ok (.aload_n 0, 1) := dk_42 (dk_at dksL_law_92 12 rfl rfl)
theorem dL_law_2310 : decode cL_law 2310 = .ok (.iload 5, 2) := dk_21 5 (dk_at dksL_law_92 13 rfl rfl)
theorem dL_law_2312 : decode cL_law 2312 = .ok (.iconst 2, 1) := dk_5 (dk_at dksL_law_92 15 rfl rfl)
theorem dL_law_2313 : decode cL_law 2313 = .ok (.iadd, 1) := dk_96 (dk_at dksL_law_92 16 rfl rfl)
theorem dL_law_2314 : decode cL_law 2314 = .ok (.iaload, 1) := dk_46 (dk_at dksL_law_92 17 rfl rfl)
theorem dL_law_2315 : decode cL_law 2315 = .ok (.invokevirtual 241, 3) := dk_182 0 241 (dk_at dksL_law_92 18 rfl rfl)
theorem dL_law_2318 : decode cL_law 2318 = .ok (.istore 7, 2) := dk_54 7 (dk_at dksL_law_92 21 rfl rfl)
theorem dL_law_2320 : decode cL_law 2320 = .ok (.aload_n 2, 1) := dk_44 (dk_at dksL_law_92 23 rfl rfl)
theorem dL_law_2321 : decode cL_law 2321 = .ok (.invokevirtual 136, 3) := dk_182 0 136 (dk_at dksL_law_93 0 rfl rfl)
theorem dL_law_2324 : decode cL_law 2324 = .ok (.iload 6, 2) := dk_21 6 (dk_at dksL_law_93 3 rfl rfl)
theorem dL_law_2326 : decode cL_law 2326 = .ok (.if_icmp .eq 5, 3) := dk_159 0 5 (dk_at dksL_law_93 5 rfl rfl)
theorem dL_law_2329 : decode cL_law 2329 = .ok (.iconst 0, 1) := dk_3 (dk_at dksL_law_93 8 rfl rfl)
theorem dL_law_2330 : decode cL_law 2330 = .ok (.ireturn, 1) := dk_172 (dk_at dksL_law_93 9 rfl rfl)
theorem dL_law_2331 : decode cL_law 2331 = .ok (.iload 6, 2) := dk_21 6 (dk_at dksL_law_93 10 rfl rfl)
theorem dL_law_2333 : decode cL_law 2333 = .ok (.ifCond .ne 15, 3) := dk_154 0 15 (dk_at dksL_law_93 12 rfl rfl)
theorem dL_law_2336 : decode cL_law 2336 = .ok (.aload_n 3, 1) := dk_45 (dk_at dksL_law_93 15 rfl rfl)
theorem dL_law_2337 : decode cL_law 2337 = .ok (.iconst 0, 1) := dk_3 (dk_at dksL_law_93 16 rfl rfl)
theorem dL_law_2338 : decode cL_law 2338 = .ok (.laload, 1) := dk_47 (dk_at dksL_law_93 17 rfl rfl)
theorem dL_law_2339 : decode cL_law 2339 = .ok (.iload 7, 2) := dk_21 7 (dk_at dksL_law_93 18 rfl rfl)
theorem dL_law_2341 : decode cL_law 2341 = .ok (.i2l, 1) := dk_133 (dk_at dksL_law_93 20 rfl rfl)
theorem dL_law_2342 : decode cL_law 2342 = .ok (.lcmp, 1) := dk_148 (dk_at dksL_law_93 21 rfl rfl)
theorem dL_law_2343 : decode cL_law 2343 = .ok (.ifCond .eq 5, 3) := dk_153 0 5 (dk_at dksL_law_94 0 rfl rfl)
theorem dL_law_2346 : decode cL_law 2346 = .ok (.iconst 0, 1) := dk_3 (dk_at dksL_law_94 3 rfl rfl)
theorem dL_law_2347 : decode cL_law 2347 = .ok (.ireturn, 1) := dk_172 (dk_at dksL_law_94 4 rfl rfl)
theorem dL_law_2348 : decode cL_law 2348 = .ok (.goto 345, 3) := dk_167 1 89 (dk_at dksL_law_94 5 rfl rfl)
theorem dL_law_2351 : decode cL_law 2351 = .ok (.aload_n 1, 1) := dk_43 (dk_at dksL_law_94 8 rfl rfl)
theorem dL_law_2352 : decode cL_law 2352 = .ok (.aload_n 0, 1) := dk_42 (dk_at dksL_law_94 9 rfl rfl)
theorem dL_law_2353 : decode cL_law 2353 = .ok (.iload 5, 2) := dk_21 5 (dk_at dksL_law_94 10 rfl rfl)
theorem dL_law_2355 : decode cL_law 2355 = .ok (.iconst 1, 1) := dk_4 (dk_at dksL_law_94 12 rfl rfl)
theorem dL_law_2356 : decode cL_law 2356 = .ok (.iadd, 1) := dk_96 (dk_at dksL_law_94 13 rfl rfl)
theorem dL_law_2357 : decode cL_law 2357 = .ok (.iaload, 1) := dk_46 (dk_at dksL_law_94 14 rfl rfl)
theorem dL_law_2358 : decode cL_law 2358 = .ok (.aload_n 3, 1) := dk_45 (dk_at dksL_law_94 15 rfl rfl)
theorem dL_law_2359 : decode cL_law 2359 = .ok (.invokestatic 242, 3) := dk_184 0 242 (dk_at dksL_law_94 16 rfl rfl)
theorem dL_law_2362 : decode cL_law 2362 = .ok (.istore 6, 2) := dk_54 6 (dk_at dksL_law_94 19 rfl rfl)
theorem dL_law_2364 : decode cL_law 2364 = .ok (.aload_n 2, 1) := dk_44 (dk_at dksL_law_94 21 rfl rfl)
theorem dL_law_2365 : decode cL_law 2365 = .ok (.aload_n 0, 1) := dk_42 (dk_at dksL_law_94 22 rfl rfl)
theorem dL_law_2366 : decode cL_law 2366 = .ok (.iload 5, 2) := dk_21 5 (dk_at dksL_law_95 0 rfl rfl)
theorem dL_law_2368 : decode cL_law 2368 = .ok (.iconst 1, 1) := dk_4 (dk_at dksL_law_95 2 rfl rfl)
theorem dL_law_2369 : decode cL_law 2369 = .ok (.iadd, 1) := dk_96 (dk_at dksL_law_95 3 rfl rfl)
theorem dL_law_2370 : decode cL_law 2370 = .ok (.iaload, 1) := dk_46 (dk_at dksL_law_95 4 rfl rfl)
theorem dL_law_2371 : decode cL_law 2371 = .ok (.invokevirtual 244, 3) := dk_182 0 244 (dk_at dksL_law_95 5 rfl rfl)
theorem dL_law_2374 : decode cL_law 2374 = .ok (.istore 7, 2) := dk_54 7 (dk_at dksL_law_95 8 rfl rfl)
theorem dL_law_2376 : decode cL_law 2376 = .ok (.aload_n 2, 1) := dk_44 (dk_at dksL_law_95 10 rfl rfl)
theorem dL_law_2377 : decode cL_law 2377 = .ok (.invokevirtual 136, 3) := dk_182 0 136 (dk_at dksL_law_95 11 rfl rfl)
theorem dL_law_2380 : decode cL_law 2380 = .ok (.iload 6, 2) := dk_21 6 (dk_at dksL_law_95 14 rfl rfl)
theorem dL_law_2382 : decode cL_law 2382 = .ok (.if_icmp .eq 5, 3) := dk_159 0 5 (dk_at dksL_law_95 16 rfl rfl)
theorem dL_law_2385 : decode cL_law 2385 = .ok (.iconst 0, 1) := dk_3 (dk_at dksL_law_95 19 rfl rfl)
theorem dL_law_2386 : decode cL_law 2386 = .ok (.ireturn, 1) := dk_172 (dk_at dksL_law_95 20 rfl rfl)
theorem dL_law_2387 : decode cL_law 2387 = .ok (.iload 6, 2) := dk_21 6 (dk_at dksL_law_95 21 rfl rfl)
theorem dL_law_2389 : decode cL_law 2389 = .ok (.ifCond .ne 15, 3) := dk_154 0 15 (dk_at dksL_law_96 0 rfl rfl)
theorem dL_law_2392 : decode cL_law 2392 = .ok (.aload_n 3, 1) := dk_45 (dk_at dksL_law_96 3 rfl rfl)
theorem dL_law_2393 : decode cL_law 2393 = .ok (.iconst 0, 1) := dk_3 (dk_at dksL_law_96 4 rfl rfl)
theorem dL_law_2394 : decode cL_law 2394 = .ok (.laload, 1) := dk_47 (dk_at dksL_law_96 5 rfl rfl)
theorem dL_law_2395 : decode cL_law 2395 = .ok (.iload 7, 2) := dk_21 7 (dk_at dksL_law_96 6 rfl rfl)
theorem dL_law_2397 : decode cL_law 2397 = .ok (.i2l, 1) := dk_133 (dk_at dksL_law_96 8 rfl rfl)
theorem dL_law_2398 : decode cL_law 2398 = .ok (.lcmp, 1) := dk_148 (dk_at dksL_law_96 9 rfl rfl)
theorem dL_law_2399 : decode cL_law 2399 = .ok (.ifCond .eq 5, 3) := dk_153 0 5 (dk_at dksL_law_96 10 rfl rfl)
theorem dL_law_2402 : decode cL_law 2402 = .ok (.iconst 0, 1) := dk_3 (dk_at dksL_law_96 13 rfl rfl)
theorem dL_law_2403 : decode cL_law 2403 = .ok (.ireturn, 1) := dk_172 (dk_at dksL_law_96 14 rfl rfl)
theorem dL_law_2404 : decode cL_law 2404 = .ok (.goto 289, 3) := dk_167 1 33 (dk_at dksL_law_96 15 rfl rfl)
theorem dL_law_2407 : decode cL_law 2407 = .ok (.aload_n 1, 1) := dk_43 (dk_at dksL_law_96 18 rfl rfl)
theorem dL_law_2408 : decode cL_law 2408 = .ok (.invokevirtual 245, 3) := dk_182 0 245 (dk_at dksL_law_96 19 rfl rfl)
theorem dL_law_2411 : decode cL_law 2411 = .ok (.aload_n 2, 1) := dk_44 (dk_at dksL_law_96 22 rfl rfl)
theorem dL_law_2412 : decode cL_law 2412 = .ok (.invokevirtual 249, 3) := dk_182 0 249 (dk_at dksL_law_97 0 rfl rfl)
theorem dL_law_2415 : decode cL_law 2415 = .ok (.lcmp, 1) := dk_148 (dk_at dksL_law_97 3 rfl rfl)
theorem dL_law_2416 : decode cL_law 2416 = .ok (.ifCond .eq 277, 3) := dk_153 1 21 (dk_at dksL_law_97 4 rfl rfl)
theorem dL_law_2419 : decode cL_law 2419 = .ok (.iconst 0, 1) := dk_3 (dk_at dksL_law_97 7 rfl rfl)
theorem dL_law_2420 : decode cL_law 2420 = .ok (.ireturn, 1) := dk_172 (dk_at dksL_law_97 8 rfl rfl)
theorem dL_law_2421 : decode cL_law 2421 = .ok (.aload_n 1, 1) := dk_43 (dk_at dksL_law_97 9 rfl rfl)
theorem dL_law_2422 : decode cL_law 2422 = .ok (.aload_n 0, 1) := dk_42 (dk_at dksL_law_97 10 rfl rfl)
theorem dL_law_2423 : decode cL_law 2423 = .ok (.iload 5, 2) := dk_21 5 (dk_at dksL_law_97 11 rfl rfl)
theorem dL_law_2425 : decode cL_law 2425 = .ok (.iconst 1, 1) := dk_4 (dk_at dksL_law_97 13 rfl rfl)
theorem dL_law_2426 : decode cL_law 2426 = .ok (.iadd, 1) := dk_96 (dk_at dksL_law_97 14 rfl rfl)
theorem dL_law_2427 : decode cL_law 2427 = .ok (.iaload, 1) := dk_46 (dk_at dksL_law_97 15 rfl rfl)
theorem dL_law_2428 : decode cL_law 2428 = .ok (.aload_n 0, 1) := dk_42 (dk_at dksL_law_97 16 rfl rfl)
theorem dL_law_2429 : decode cL_law 2429 = .ok (.iload 5, 2) := dk_21 5 (dk_at dksL_law_97 17 rfl rfl)
theorem dL_law_2431 : decode cL_law 2431 = .ok (.iconst 2, 1) := dk_5 (dk_at dksL_law_97 19 rfl rfl)
theorem dL_law_2432 : decode cL_law 2432 = .ok (.iadd, 1) := dk_96 (dk_at dksL_law_97 20 rfl rfl)
theorem dL_law_2433 : decode cL_law 2433 = .ok (.iaload, 1) := dk_46 (dk_at dksL_law_97 21 rfl rfl)
theorem dL_law_2434 : decode cL_law 2434 = .ok (.aload_n 3, 1) := dk_45 (dk_at dksL_law_97 22 rfl rfl)
theorem dL_law_2435 : decode cL_law 2435 = .ok (.invokestatic 250, 3) := dk_184 0 250 (dk_at dksL_law_98 0 rfl rfl)
theorem dL_law_2438 : decode cL_law 2438 = .ok (.istore 6, 2) := dk_54 6 (dk_at dksL_law_98 3 rfl rfl)
theorem dL_law_2440 : decode cL_law 2440 = .ok (.aload_n 2, 1) := dk_44 (dk_at dksL_law_98 5 rfl rfl)
theorem dL_law_2441 : decode cL_law 2441 = .ok (.aload_n 0, 1) := dk_42 (dk_at dksL_law_98 6 rfl rfl)
theorem dL_law_2442 : decode cL_law 2442 = .ok (.iload 5, 2) := dk_21 5 (dk_at dksL_law_98 7 rfl rfl)
theorem dL_law_2444 : decode cL_law 2444 = .ok (.iconst 1, 1) := dk_4 (dk_at dksL_law_98 9 rfl rfl)
theorem dL_law_2445 : decode cL_law 2445 = .ok (.iadd, 1) := dk_96 (dk_at dksL_law_98 10 rfl rfl)
theorem dL_law_2446 : decode cL_law 2446 = .ok (.iaload, 1) := dk_46 (dk_at dksL_law_98 11 rfl rfl)
theorem dL_law_2447 : decode cL_law 2447 = .ok (.aload_n 0, 1) := dk_42 (dk_at dksL_law_98 12 rfl rfl)
theorem dL_law_2448 : decode cL_law 2448 = .ok (.iload 5, 2) := dk_21 5 (dk_at dksL_law_98 13 rfl rfl)
theorem dL_law_2450 : decode cL_law 2450 = .ok (.iconst 2, 1) := dk_5 (dk_at dksL_law_98 15 rfl rfl)
theorem dL_law_2451 : decode cL_law 2451 = .ok (.iadd, 1) := dk_96 (dk_at dksL_law_98 16 rfl rfl)
theorem dL_law_2452 : decode cL_law 2452 = .ok (.iaload, 1) := dk_46 (dk_at dksL_law_98 17 rfl rfl)
theorem dL_law_2453 : decode cL_law 2453 = .ok (.invokevirtual 252, 3) := dk_182 0 252 (dk_at dksL_law_98 18 rfl rfl)
theorem dL_law_2456 : decode cL_law 2456 = .ok (.istore 7, 2) := dk_54 7 (dk_at dksL_law_98 21 rfl rfl)
theorem dL_law_2458 : decode cL_law 2458 = .ok (.aload_n 2, 1) := dk_44 (dk_at dksL_law_98 23 rfl rfl)
theorem dL_law_2459 : decode cL_law 2459 = .ok (.invokevirtual 136, 3) := dk_182 0 136 (dk_at dksL_law_99 0 rfl rfl)
theorem dL_law_2462 : decode cL_law 2462 = .ok (.iload 6, 2) := dk_21 6 (dk_at dksL_law_99 3 rfl rfl)
theorem dL_law_2464 : decode cL_law 2464 = .ok (.if_icmp .eq 5, 3) := dk_159 0 5 (dk_at dksL_law_99 5 rfl rfl)
theorem dL_law_2467 : decode cL_law 2467 = .ok (.iconst 0, 1) := dk_3 (dk_at dksL_law_99 8 rfl rfl)
theorem dL_law_2468 : decode cL_law 2468 = .ok (.ireturn, 1) := dk_172 (dk_at dksL_law_99 9 rfl rfl)
theorem dL_law_2469 : decode cL_law 2469 = .ok (.iload 6, 2) := dk_21 6 (dk_at dksL_law_99 10 rfl rfl)
theorem dL_law_2471 : decode cL_law 2471 = .ok (.ifCond .ne 15, 3) := dk_154 0 15 (dk_at dksL_law_99 12 rfl rfl)
theorem dL_law_2474 : decode cL_law 2474 = .ok (.aload_n 3, 1) := dk_45 (dk_at dksL_law_99 15 rfl rfl)
theorem dL_law_2475 : decode cL_law 2475 = .ok (.iconst 0, 1) := dk_3 (dk_at dksL_law_99 16 rfl rfl)
theorem dL_law_2476 : decode cL_law 2476 = .ok (.laload, 1) := dk_47 (dk_at dksL_law_99 17 rfl rfl)
theorem dL_law_2477 : decode cL_law 2477 = .ok (.iload 7, 2) := dk_21 7 (dk_at dksL_law_99 18 rfl rfl)
theorem dL_law_2479 : decode cL_law 2479 = .ok (.i2l, 1) := dk_133 (dk_at dksL_law_99 20 rfl rfl)
theorem dL_law_2480 : decode cL_law 2480 = .ok (.lcmp, 1) := dk_148 (dk_at dksL_law_99 21 rfl rfl)
theorem dL_law_2481 : decode cL_law 2481 = .ok (.ifCond .eq 5, 3) := dk_153 0 5 (dk_at dksL_law_100 0 rfl rfl)
theorem dL_law_2484 : decode cL_law 2484 = .ok (.iconst 0, 1) := dk_3 (dk_at dksL_law_100 3 rfl rfl)
theorem dL_law_2485 : decode cL_law 2485 = .ok (.ireturn, 1) := dk_172 (dk_at dksL_law_100 4 rfl rfl)
theorem dL_law_2486 : decode cL_law 2486 = .ok (.goto 207, 3) := dk_167 0 207 (dk_at dksL_law_100 5 rfl rfl)
theorem dL_law_2489 : decode cL_law 2489 = .ok (.aload_n 1, 1) := dk_43 (dk_at dksL_law_100 8 rfl rfl)
theorem dL_law_2490 : decode cL_law 2490 = .ok (.aload_n 0, 1) := dk_42 (dk_at dksL_law_100 9 rfl rfl)
theorem dL_law_2491 : decode cL_law 2491 = .ok (.iload 5, 2) := dk_21 5 (dk_at dksL_law_100 10 rfl rfl)
theorem dL_law_2493 : decode cL_law 2493 = .ok (.iconst 1, 1) := dk_4 (dk_at dksL_law_100 12 rfl rfl)
theorem dL_law_2494 : decode cL_law 2494 = .ok (.iadd, 1) := dk_96 (dk_at dksL_law_100 13 rfl rfl)
theorem dL_law_2495 : decode cL_law 2495 = .ok (.iaload, 1) := dk_46 (dk_at dksL_law_100 14 rfl rfl)
theorem dL_law_2496 : decode cL_law 2496 = .ok (.aload 4, 2) := dk_25 4 (dk_at dksL_law_100 15 rfl rfl)
theorem dL_law_2498 : decode cL_law 2498 = .ok (.invokestatic 253, 3) := dk_184 0 253 (dk_at dksL_law_100 17 rfl rfl)
theorem dL_law_2501 : decode cL_law 2501 = .ok (.istore 6, 2) := dk_54 6 (dk_at dksL_law_100 20 rfl rfl)
theorem dL_law_2503 : decode cL_law 2503 = .ok (.aload_n 2, 1) := dk_44 (dk_at dksL_law_100 22 rfl rfl)
theorem dL_law_2504 : decode cL_law 2504 = .ok (.aload_n 0, 1) := dk_42 (dk_at dksL_law_100 23 rfl rfl)
theorem dL_law_2505 : decode cL_law 2505 = .ok (.iload 5, 2) := dk_21 5 (dk_at dksL_law_101 0 rfl rfl)
theorem dL_law_2507 : decode cL_law 2507 = .ok (.iconst 1, 1) := dk_4 (dk_at dksL_law_101 2 rfl rfl)
theorem dL_law_2508 : decode cL_law 2508 = .ok (.iadd, 1) := dk_96 (dk_at dksL_law_101 3 rfl rfl)
theorem dL_law_2509 : decode cL_law 2509 = .ok (.iaload, 1) := dk_46 (dk_at dksL_law_101 4 rfl rfl)
theorem dL_law_2510 : decode cL_law 2510 = .ok (.invokevirtual 256, 3) := dk_182 1 0 (dk_at dksL_law_101 5 rfl rfl)
theorem dL_law_2513 : decode cL_law 2513 = .ok (.fstore 7, 2) := dk_56 7 (dk_at dksL_law_101 8 rfl rfl)
theorem dL_law_2515 : decode cL_law 2515 = .ok (.aload_n 2, 1) := dk_44 (dk_at dksL_law_101 10 rfl rfl)
theorem dL_law_2516 : decode cL_law 2516 = .ok (.invokevirtual 136, 3) := dk_182 0 136 (dk_at dksL_law_101 11 rfl rfl)
theorem dL_law_2519 : decode cL_law 2519 = .ok (.iload 6, 2) := dk_21 6 (dk_at dksL_law_101 14 rfl rfl)
theorem dL_law_2521 : decode cL_law 2521 = .ok (.if_icmp .eq 5, 3) := dk_159 0 5 (dk_at dksL_law_101 16 rfl rfl)
theorem dL_law_2524 : decode cL_law 2524 = .ok (.iconst 0, 1) := dk_3 (dk_at dksL_law_101 19 rfl rfl)
theorem dL_law_2525 : decode cL_law 2525 = .ok (.ireturn, 1) := dk_172 (dk_at dksL_law_101 20 rfl rfl)
theorem dL_law_2526 : decode cL_law 2526 = .ok (.iload 6, 2) := dk_21 6 (dk_at dksL_law_101 21 rfl rfl)
theorem dL_law_2528 : decode cL_law 2528 = .ok (.ifCond .ne 36, 3) := dk_154 0 36 (dk_at dksL_law_102 0 rfl rfl)
theorem dL_law_2531 : decode cL_law 2531 = .ok (.aload 4, 2) := dk_25 4 (dk_at dksL_law_102 3 rfl rfl)
theorem dL_law_2533 : decode cL_law 2533 = .ok (.iconst 0, 1) := dk_3 (dk_at dksL_law_102 5 rfl rfl)
theorem dL_law_2534 : decode cL_law 2534 = .ok (.daload, 1) := dk_49 (dk_at dksL_law_102 6 rfl rfl)
theorem dL_law_2535 : decode cL_law 2535 = .ok (.fload 7, 2) := dk_23 7 (dk_at dksL_law_102 7 rfl rfl)
theorem dL_law_2537 : decode cL_law 2537 = .ok (.f2d, 1) := dk_141 (dk_at dksL_law_102 9 rfl rfl)
theorem dL_law_2538 : decode cL_law 2538 = .ok (.dcmp .l, 1) := dk_151 (dk_at dksL_law_102 10 rfl rfl)
theorem dL_law_2539 : decode cL_law 2539 = .ok (.ifCond .eq 25, 3) := dk_153 0 25 (dk_at dksL_law_102 11 rfl rfl)
theorem dL_law_2542 : decode cL_law 2542 = .ok (.aload 4, 2) := dk_25 4 (dk_at dksL_law_102 14 rfl rfl)
theorem dL_law_2544 : decode cL_law 2544 = .ok (.iconst 0, 1) := dk_3 (dk_at dksL_law_102 16 rfl rfl)
theorem dL_law_2545 : decode cL_law 2545 = .ok (.daload, 1) := dk_49 (dk_at dksL_law_102 17 rfl rfl)
theorem dL_law_2546 : decode cL_law 2546 = .ok (.aload 4, 2) := dk_25 4 (dk_at dksL_law_102 18 rfl rfl)
theorem dL_law_2548 : decode cL_law 2548 = .ok (.iconst 0, 1) := dk_3 (dk_at dksL_law_102 20 rfl rfl)
theorem dL_law_2549 : decode cL_law 2549 = .ok (.daload, 1) := dk_49 (dk_at dksL_law_102 21 rfl rfl)
theorem dL_law_2550 : decode cL_law 2550 = .ok (.dcmp .l, 1) := dk_151 (dk_at dksL_law_102 22 rfl rfl)
theorem dL_law_2551 : decode cL_law 2551 = .ok (.ifCond .eq 11, 3) := dk_153 0 11 (dk_at dksL_law_103 0 rfl rfl)
theorem dL_law_2554 : decode cL_law 2554 = .ok (.fload 7, 2) := dk_23 7 (dk_at dksL_law_103 3 rfl rfl)
theorem dL_law_2556 : decode cL_law 2556 = .ok (.fload 7, 2) := dk_23 7 (dk_at dksL_law_103 5 rfl rfl)
theorem dL_law_2558 : decode cL_law 2558 = .ok (.fcmp .l, 1) := dk_149 (dk_at dksL_law_103 7 rfl rfl)
theorem dL_law_2559 : decode cL_law 2559 = .ok (.ifCond .ne 5, 3) := dk_154 0 5 (dk_at dksL_law_103 8 rfl rfl)
theorem dL_law_2562 : decode cL_law 2562 = .ok (.iconst 0, 1) := dk_3 (dk_at dksL_law_103 11 rfl rfl)
theorem dL_law_2563 : decode cL_law 2563 = .ok (.ireturn, 1) := dk_172 (dk_at dksL_law_103 12 rfl rfl)
theorem dL_law_2564 : decode cL_law 2564 = .ok (.goto 129, 3) := dk_167 0 129 (dk_at dksL_law_103 13 rfl rfl)
theorem dL_law_2567 : decode cL_law 2567 = .ok (.aload_n 1, 1) := dk_43 (dk_at dksL_law_103 16 rfl rfl)
theorem dL_law_2568 : decode cL_law 2568 = .ok (.invokevirtual 257, 3) := dk_182 1 1 (dk_at dksL_law_103 17 rfl rfl)
theorem dL_law_2571 : decode cL_law 2571 = .ok (.aload_n 2, 1) := dk_44 (dk_at dksL_law_103 20 rfl rfl)
theorem dL_law_2572 : decode cL_law 2572 = .ok (.invokevirtual 260, 3) := dk_182 1 4 (dk_at dksL_law_103 21 rfl rfl)
theorem dL_law_2575 : decode cL_law 2575 = .ok (.if_icmp .eq 118, 3) := dk_159 0 118 (dk_at dksL_law_104 0 rfl rfl)
theorem dL_law_2578 : decode cL_law 2578 = .ok (.iconst 0, 1) := dk_3 (dk_at dksL_law_104 3 rfl rfl)
theorem dL_law_2579 : decode cL_law 2579 = .ok (.ireturn, 1) := dk_172 (dk_at dksL_law_104 4 rfl rfl)
theorem dL_law_2580 : decode cL_law 2580 = .ok (.aload_n 1, 1) := dk_43 (dk_at dksL_law_104 5 rfl rfl)
theorem dL_law_2581 : decode cL_law 2581 = .ok (.invokevirtual 261, 3) := dk_182 1 5 (dk_at dksL_law_104 6 rfl rfl)
theorem dL_law_2584 : decode cL_law 2584 = .ok (.dstore 6, 2) := dk_57 6 (dk_at dksL_law_104 9 rfl rfl)
theorem dL_law_2586 : decode cL_law 2586 = .ok (.aload_n 2, 1) := dk_44 (dk_at dksL_law_104 11 rfl rfl)
theorem dL_law_2587 : decode cL_law 2587 = .ok (.invokevirtual 265, 3) := dk_182 1 9 (dk_at dksL_law_104 12 rfl rfl)
theorem dL_law_2590 : decode cL_law 2590 = .ok (.dstore 8, 2) := dk_57 8 (dk_at dksL_law_104 15 rfl rfl)
theorem dL_law_2592 : decode cL_law 2592 = .ok (.dload 6, 2) := dk_24 6 (dk_at dksL_law_104 17 rfl rfl)
theorem dL_law_2594 : decode cL_law 2594 = .ok (.dload 8, 2) := dk_24 8 (dk_at dksL_law_104 19 rfl rfl)
theorem dL_law_2596 : decode cL_law 2596 = .ok (.dcmp .l, 1) := dk_151 (dk_at dksL_law_104 21 rfl rfl)
theorem dL_law_2597 : decode cL_law 2597 = .ok (.ifCond .eq 21, 3) := dk_153 0 21 (dk_at dksL_law_105 0 rfl rfl)
theorem dL_law_2600 : decode cL_law 2600 = .ok (.dload 6, 2) := dk_24 6 (dk_at dksL_law_105 3 rfl rfl)
theorem dL_law_2602 : decode cL_law 2602 = .ok (.dload 6, 2) := dk_24 6 (dk_at dksL_law_105 5 rfl rfl)
theorem dL_law_2604 : decode cL_law 2604 = .ok (.dcmp .l, 1) := dk_151 (dk_at dksL_law_105 7 rfl rfl)
theorem dL_law_2605 : decode cL_law 2605 = .ok (.ifCond .eq 11, 3) := dk_153 0 11 (dk_at dksL_law_105 8 rfl rfl)
theorem dL_law_2608 : decode cL_law 2608 = .ok (.dload 8, 2) := dk_24 8 (dk_at dksL_law_105 11 rfl rfl)
theorem dL_law_2610 : decode cL_law 2610 = .ok (.dload 8, 2) := dk_24 8 (dk_at dksL_law_105 13 rfl rfl)
theorem dL_law_2612 : decode cL_law 2612 = .ok (.dcmp .l, 1) := dk_151 (dk_at dksL_law_105 15 rfl rfl)
theorem dL_law_2613 : decode cL_law 2613 = .ok (.ifCond .ne 5, 3) := dk_154 0 5 (dk_at dksL_law_105 16 rfl rfl)
theorem dL_law_2616 : decode cL_law 2616 = .ok (.iconst 0, 1) := dk_3 (dk_at dksL_law_105 19 rfl rfl)
theorem dL_law_2617 : decode cL_law 2617 = .ok (.ireturn, 1) := dk_172 (dk_at dksL_law_105 20 rfl rfl)
theorem dL_law_2618 : decode cL_law 2618 = .ok (.goto 75, 3) := dk_167 0 75 (dk_at dksL_law_105 21 rfl rfl)
theorem dL_law_2621 : decode cL_law 2621 = .ok (.aload_n 1, 1) := dk_43 (dk_at dksL_law_106 0 rfl rfl)
theorem dL_law_2622 : decode cL_law 2622 = .ok (.aload_n 0, 1) := dk_42 (dk_at dksL_law_106 1 rfl rfl)
theorem dL_law_2623 : decode cL_law 2623 = .ok (.iload 5, 2) := dk_21 5 (dk_at dksL_law_106 2 rfl rfl)
theorem dL_law_2625 : decode cL_law 2625 = .ok (.iconst 1, 1) := dk_4 (dk_at dksL_law_106 4 rfl rfl)
theorem dL_law_2626 : decode cL_law 2626 = .ok (.iadd, 1) := dk_96 (dk_at dksL_law_106 5 rfl rfl)
theorem dL_law_2627 : decode cL_law 2627 = .ok (.iaload, 1) := dk_46 (dk_at dksL_law_106 6 rfl rfl)
theorem dL_law_2628 : decode cL_law 2628 = .ok (.invokestatic 266, 3) := dk_184 1 10 (dk_at dksL_law_106 7 rfl rfl)
theorem dL_law_2631 : decode cL_law 2631 = .ok (.istore 6, 2) := dk_54 6 (dk_at dksL_law_106 10 rfl rfl)
theorem dL_law_2633 : decode cL_law 2633 = .ok (.aload_n 2, 1) := dk_44 (dk_at dksL_law_106 12 rfl rfl)
theorem dL_law_2634 : decode cL_law 2634 = .ok (.aload_n 0, 1) := dk_42 (dk_at dksL_law_106 13 rfl rfl)
theorem dL_law_2635 : decode cL_law 2635 = .ok (.iload 5, 2) := dk_21 5 (dk_at dksL_law_106 14 rfl rfl)
theorem dL_law_2637 : decode cL_law 2637 = .ok (.iconst 1, 1) := dk_4 (dk_at dksL_law_106 16 rfl rfl)
theorem dL_law_2638 : decode cL_law 2638 = .ok (.iadd, 1) := dk_96 (dk_at dksL_law_106 17 rfl rfl)
theorem dL_law_2639 : decode cL_law 2639 = .ok (.iaload, 1) := dk_46 (dk_at dksL_law_106 18 rfl rfl)
theorem dL_law_2640 : decode cL_law 2640 = .ok (.invokevirtual 269, 3) := dk_182 1 13 (dk_at dksL_law_106 19 rfl rfl)
theorem dL_law_2643 : decode cL_law 2643 = .ok (.aload_n 2, 1) := dk_44 (dk_at dksL_law_106 22 rfl rfl)
theorem dL_law_2644 : decode cL_law 2644 = .ok (.invokevirtual 136, 3) := dk_182 0 136 (dk_at dksL_law_107 0 rfl rfl)
theorem dL_law_2647 : decode cL_law 2647 = .ok (.iload 6, 2) := dk_21 6 (dk_at dksL_law_107 3 rfl rfl)
theorem dL_law_2649 : decode cL_law 2649 = .ok (.if_icmp .eq 5, 3) := dk_159 0 5 (dk_at dksL_law_107 5 rfl rfl)
theorem dL_law_2652 : decode cL_law 2652 = .ok (.iconst 0, 1) := dk_3 (dk_at dksL_law_107 8 rfl rfl)
theorem dL_law_2653 : decode cL_law 2653 = .ok (.ireturn, 1) := dk_172 (dk_at dksL_law_107 9 rfl rfl)
theorem dL_law_2654 : decode cL_law 2654 = .ok (.goto 39, 3) := dk_167 0 39 (dk_at dksL_law_107 10 rfl rfl)
theorem dL_law_2657 : decode cL_law 2657 = .ok (.aload_n 1, 1) := dk_43 (dk_at dksL_law_107 13 rfl rfl)
theorem dL_law_2658 : decode cL_law 2658 = .ok (.aload_n 0, 1) := dk_42 (dk_at dksL_law_107 14 rfl rfl)
theorem dL_law_2659 : decode cL_law 2659 = .ok (.iload 5, 2) := dk_21 5 (dk_at dksL_law_107 15 rfl rfl)
theorem dL_law_2661 : decode cL_law 2661 = .ok (.iconst 1, 1) := dk_4 (dk_at dksL_law_107 17 rfl rfl)
theorem dL_law_2662 : decode cL_law 2662 = .ok (.iadd, 1) := dk_96 (dk_at dksL_law_107 18 rfl rfl)
theorem dL_law_2663 : decode cL_law 2663 = .ok (.iaload, 1) := dk_46 (dk_at dksL_law_107 19 rfl rfl)
theorem dL_law_2664 : decode cL_law 2664 = .ok (.invokestatic 270, 3) := dk_184 1 14 (dk_at dksL_law_107 20 rfl rfl)
theorem dL_law_2667 : decode cL_law 2667 = .ok (.istore 6, 2) := dk_54 6 (dk_at dksL_law_108 0 rfl rfl)
theorem dL_law_2669 : decode cL_law 2669 = .ok (.aload_n 2, 1) := dk_44 (dk_at dksL_law_108 2 rfl rfl)
theorem dL_law_2670 : decode cL_law 2670 = .ok (.aload_n 0, 1) := dk_42 (dk_at dksL_law_108 3 rfl rfl)
theorem dL_law_2671 : decode cL_law 2671 = .ok (.iload 5, 2) := dk_21 5 (dk_at dksL_law_108 4 rfl rfl)
theorem dL_law_2673 : decode cL_law 2673 = .ok (.iconst 1, 1) := dk_4 (dk_at dksL_law_108 6 rfl rfl)
theorem dL_law_2674 : decode cL_law 2674 = .ok (.iadd, 1) := dk_96 (dk_at dksL_law_108 7 rfl rfl)
theorem dL_law_2675 : decode cL_law 2675 = .ok (.iaload, 1) := dk_46 (dk_at dksL_law_108 8 rfl rfl)
theorem dL_law_2676 : decode cL_law 2676 = .ok (.invokevirtual 272, 3) := dk_182 1 16 (dk_at dksL_law_108 9 rfl rfl)
theorem dL_law_2679 : decode cL_law 2679 = .ok (.aload_n 2, 1) := dk_44 (dk_at dksL_law_108 12 rfl rfl)
theorem dL_law_2680 : decode cL_law 2680 = .ok (.invokevirtual 136, 3) := dk_182 0 136 (dk_at dksL_law_108 13 rfl rfl)
theorem dL_law_2683 : decode cL_law 2683 = .ok (.iload 6, 2) := dk_21 6 (dk_at dksL_law_108 16 rfl rfl)
theorem dL_law_2685 : decode cL_law 2685 = .ok (.if_icmp .eq 5, 3) := dk_159 0 5 (dk_at dksL_law_108 18 rfl rfl)
theorem dL_law_2688 : decode cL_law 2688 = .ok (.iconst 0, 1) := dk_3 (dk_at dksL_law_108 21 rfl rfl)
theorem dL_law_2689 : decode cL_law 2689 = .ok (.ireturn, 1) := dk_172 (dk_at dksL_law_108 22 rfl rfl)
theorem dL_law_2690 : decode cL_law 2690 = .ok (.goto 3, 3) := dk_167 0 3 (dk_at dksL_law_109 0 rfl rfl)
theorem dL_law_2693 : decode cL_law 2693 = .ok (.iinc 5 5, 3) := dk_132 5 5 (dk_at dksL_law_109 3 rfl rfl)
theorem dL_law_2696 : decode cL_law 2696 = .ok (.goto (-2668), 3) := dk_167 245 148 (dk_at dksL_law_109 6 rfl rfl)
theorem dL_law_2699 : decode cL_law 2699 = .ok (.iconst 1, 1) := dk_4 (dk_at dksL_law_109 9 rfl rfl)
theorem dL_law_2700 : decode cL_law 2700 = .ok (.ireturn, 1) := dk_172 (dk_at dksL_law_109 10 rfl rfl)
theorem c_124_0 : LkP (OkP 124) [(0, o_new 0 6 dv0), (3, o_dup), (4, o_ci 160 0), (7, o_astore 1 1), (8, o_new 30 39 dv30), (11, o_dup), (12, o_ci 287 0), (15, o_astore 2 1), (16, o_push 1 (.int 1)), (17, o_newa 3 2), (19, o_astore 3 1), (20, o_push 1 (.int 1)), (21, o_newa 4 2), (23, o_astore 4 2), (25, o_push 1 (.int 0)), (26, o_istore 5 2), (28, o_iload 5 2), (30, o_aload 0 1), (31, o_alens), (32, o_push 1 (.int 5)), (33, o_iop (fun x y => x - y)), (34, o_icmp (fun x y => decide (y < x)) 2699), (37, o_aload 0 1), (38, o_iload 5 2), (40, o_rdIs 0), (41, o_push 2 (.int 63)), (43, o_iop (fun x y => x &&& y)), (44, o_sw (swt 0 [224, 280, 336, 349, 362, 375, 431, 523, 603, 671, 739, 795, 863, 931, 999, 1067, 1159, 1251, 1319, 1399, 1491, 1559, 1615, 1671, 1739, 1795, 1875, 1955, 2023, 2079, 2147, 2215, 2283, 2351, 2407, 2421, 2489, 2567, 2580, 2621, 2657] 2693))] := lkp_c (P := OkP 124) ⟨ok_new (ci := 0) (r := CLr 0) rfl dvok_0 q182 q183 q115 dL_law_0, m_new⟩ (
  lkp_c (P := OkP 124) ⟨(PuOK.ok (ok_dup dL_law_3)), m_dup⟩ (
  lkp_c (P := OkP 124) ⟨ok_ci (tg_I (rt := none) ⟨rfl, by decide⟩ rfl q184 q185 q115 q186 ⟨cn_33.1, cn_33.2, pd_0⟩ dL_law_4) hd_no, m_ci⟩ (
  lkp_c (P := OkP 124) ⟨(PuOK.ok (ok_astore_n dL_law_7 rfl)), m_astore⟩ (
  lkp_c (P := OkP 124) ⟨ok_new (ci := 30) (r := CLr 30) rfl dvok_30 q3070 q3071 q139 dL_law_8, m_new⟩ (
  lkp_c (P := OkP 124) ⟨(PuOK.ok (ok_dup dL_law_11)), m_dup⟩ (
  lkp_c (P := OkP 124) ⟨ok_ci (tg_I (rt := none) ⟨rfl, by decide⟩ rfl q3072 q3073 q139 q3074 ⟨cn_34.1, cn_34.2, pd_0⟩ dL_law_12) hd_no, m_ci⟩ (
  lkp_c (P := OkP 124) ⟨(PuOK.ok (ok_astore_n dL_law_15 rfl)), m_astore⟩ (
  lkp_c (P := OkP 124) ⟨(PuOK.ok (ok_iconst dL_law_16 rfl)), m_push⟩ (
  lkp_c (P := OkP 124) ⟨ok_newa (by decide) rfl q3694 dL_law_17, m_newa⟩ (
  lkp_c (P := OkP 124) ⟨(PuOK.ok (ok_astore_n dL_law_19 rfl)), m_astore⟩ (
  lkp_c (P := OkP 124) ⟨(PuOK.ok (ok_iconst dL_law_20 rfl)), m_push⟩ (
  lkp_c (P := OkP 124) ⟨ok_newa (by decide) rfl q3695 dL_law_21, m_newa⟩ (
  lkp_c (P := OkP 124) ⟨(PuOK.ok (ok_astore dL_law_23)), m_astore⟩ (
  lkp_c (P := OkP 124) ⟨(PuOK.ok (ok_iconst dL_law_25 rfl)), m_push⟩ (
  lkp_c (P := OkP 124) ⟨(PuOK.ok (ok_istore dL_law_26)), m_istore⟩ (
  lkp_c (P := OkP 124) ⟨(PuOK.ok (ok_iload dL_law_28)), m_iload⟩ (
  lkp_c (P := OkP 124) ⟨(PuOK.ok (ok_aload_n dL_law_30 rfl)), m_aload⟩ (
  lkp_c (P := OkP 124) ⟨ok_alens dL_law_31, m_alens⟩ (
  lkp_c (P := OkP 124) ⟨(PuOK.ok (ok_iconst dL_law_32 rfl)), m_push⟩ (
  lkp_c (P := OkP 124) ⟨(PuOK.ok (ok_isub dL_law_33)), m_iop⟩ (
  lkp_c (P := OkP 124) ⟨(PuOK.ok (ok_icmp_gt dL_law_34 rfl)), m_icmp⟩ (
  lkp_c (P := OkP 124) ⟨(PuOK.ok (ok_aload_n dL_law_37 rfl)), m_aload⟩ (
  lkp_c (P := OkP 124) ⟨(PuOK.ok (ok_iload dL_law_38)), m_iload⟩ (
  lkp_c (P := OkP 124) ⟨ok_ialds dL_law_40, m_rdIs⟩ (
  lkp_c (P := OkP 124) ⟨(PuOK.ok (ok_bipush dL_law_41 rfl)), m_push⟩ (
  lkp_c (P := OkP 124) ⟨(PuOK.ok (ok_iand dL_law_43)), m_iop⟩ (
  lkp_c (P := OkP 124) ⟨(PuOK.ok (ok_tsw dL_law_44 (by decide +kernel))), m_sw⟩ (
  trivial))))))))))))))))))))))))))))
theorem c_124_1 : LkP (OkP 124) [] := trivial
theorem c_124_2 : LkP (OkP 124) [] := trivial
theorem c_124_3 : LkP (OkP 124) [(224, o_aload 1 1), (225, o_aload 0 1), (226, o_iload 5 2), (228, o_push 1 (.int 1)), (229, o_iop (fun x y => x + y)), (230, o_rdIs 0), (231, o_aload 3 1), (232, o_cs 125 3 false none), (235, o_istore 6 2), (237, o_aload 2 1), (238, o_aload 0 1), (239, o_iload 5 2), (241, o_push 1 (.int 1)), (242, o_iop (fun x y => x + y)), (243, o_rdIs 0), (244, o_cv [(30, 290)] 1 3 false none), (247, o_istore 7 2), (249, o_aload 2 1), (250, o_cv [(30, 289)] 0 3 false none), (253, o_iload 6 2), (255, o_icmp (fun x y => decide (x = y)) 260)] := lkp_c (P := OkP 124) ⟨(PuOK.ok (ok_aload_n dL_law_224 rfl)), m_aload⟩ (
  lkp_c (P := OkP 124) ⟨(PuOK.ok (ok_aload_n dL_law_225 rfl)), m_aload⟩ (
  lkp_c (P := OkP 124) ⟨(PuOK.ok (ok_iload dL_law_226)), m_iload⟩ (
  lkp_c (P := OkP 124) ⟨(PuOK.ok (ok_iconst dL_law_228 rfl)), m_push⟩ (
  lkp_c (P := OkP 124) ⟨(PuOK.ok (ok_iadd dL_law_229)), m_iop⟩ (
  lkp_c (P := OkP 124) ⟨ok_ialds dL_law_230, m_rdIs⟩ (
  lkp_c (P := OkP 124) ⟨(PuOK.ok (ok_aload_n dL_law_231 rfl)), m_aload⟩ (
  lkp_c (P := OkP 124) ⟨ok_cs (tg_SW ⟨rfl, by decide⟩ q1603 q1604 q114 q1605 ⟨cn_35.1, cn_35.2, pd_60⟩ dL_law_232) hd_no, m_cs⟩ (
  lkp_c (P := OkP 124) ⟨(PuOK.ok (ok_istore dL_law_235)), m_istore⟩ (
  lkp_c (P := OkP 124) ⟨(PuOK.ok (ok_aload_n dL_law_237 rfl)), m_aload⟩ (
  lkp_c (P := OkP 124) ⟨(PuOK.ok (ok_aload_n dL_law_238 rfl)), m_aload⟩ (
  lkp_c (P := OkP 124) ⟨(PuOK.ok (ok_iload dL_law_239)), m_iload⟩ (
  lkp_c (P := OkP 124) ⟨(PuOK.ok (ok_iconst dL_law_241 rfl)), m_push⟩ (
  lkp_c (P := OkP 124) ⟨(PuOK.ok (ok_iadd dL_law_242)), m_iop⟩ (
  lkp_c (P := OkP 124) ⟨ok_ialds dL_law_243, m_rdIs⟩ (
  lkp_c (P := OkP 124) ⟨ok_cv (List.forall_mem_cons.mpr ⟨tg_V (ci := 30) (r := CLr 30) (y := 290) rfl ⟨rfl, by decide⟩ rfl q3202 q3203 q3204 q139 q3205 ⟨cn_34.1, cn_34.2, pd_48⟩ dL_law_244, (List.forall_mem_nil _)⟩) hd_no, m_cv⟩ (
  lkp_c (P := OkP 124) ⟨(PuOK.ok (ok_istore dL_law_247)), m_istore⟩ (
  lkp_c (P := OkP 124) ⟨(PuOK.ok (ok_aload_n dL_law_249 rfl)), m_aload⟩ (
  lkp_c (P := OkP 124) ⟨ok_cv (List.forall_mem_cons.mpr ⟨tg_V (ci := 30) (r := CLr 30) (y := 289) rfl ⟨rfl, by decide⟩ rfl q3198 q3199 q3200 q139 q3201 ⟨cn_34.1, cn_34.2, pd_13⟩ dL_law_250, (List.forall_mem_nil _)⟩) hd_no, m_cv⟩ (
  lkp_c (P := OkP 124) ⟨(PuOK.ok (ok_iload dL_law_253)), m_iload⟩ (
  lkp_c (P := OkP 124) ⟨(PuOK.ok (ok_icmp_eq dL_law_255 rfl)), m_icmp⟩ (
  trivial)))))))))))))))))))))
theorem c_124_4 : LkP (OkP 124) [(258, o_push 1 (.int 0)), (259, o_ret 5), (260, o_iload 6 2), (262, o_if (fun x => decide (¬ x = 0)) 277), (265, o_aload 3 1), (266, o_push 1 (.int 0)), (267, o_rdJ), (268, o_iload 7 2), (270, o_i2l), (271, o_lcmp), (272, o_if (fun x => decide (x = 0)) 277), (275, o_push 1 (.int 0)), (276, o_ret 5), (277, o_goto 2693), (280, o_aload 1 1), (281, o_aload 0 1), (282, o_iload 5 2), (284, o_push 1 (.int 1)), (285, o_iop (fun x y => x + y)), (286, o_rdIs 0), (287, o_aload 3 1), (288, o_cs 126 3 false none), (291, o_istore 6 2), (293, o_aload 2 1), (294, o_aload 0 1), (295, o_iload 5 2), (297, o_push 1 (.int 1)), (298, o_iop (fun x y => x + y)), (299, o_rdIs 0), (300, o_cv [(30, 292)] 1 3 false none), (303, o_istore 7 2), (305, o_aload 2 1), (306, o_cv [(30, 289)] 0 3 false none), (309, o_iload 6 2), (311, o_icmp (fun x y => decide (x = y)) 316), (314, o_push 1 (.int 0)), (315, o_ret 5), (316, o_iload 6 2), (318, o_if (fun x => decide (¬ x = 0)) 333)] := lkp_c (P := OkP 124) ⟨(PuOK.ok (ok_iconst dL_law_258 rfl)), m_push⟩ (
  lkp_c (P := OkP 124) ⟨ok_iret rfl rfl (by decide) dL_law_259, m_ret⟩ (
  lkp_c (P := OkP 124) ⟨(PuOK.ok (ok_iload dL_law_260)), m_iload⟩ (
  lkp_c (P := OkP 124) ⟨(PuOK.ok (ok_if_ne dL_law_262 rfl)), m_if⟩ (
  lkp_c (P := OkP 124) ⟨(PuOK.ok (ok_aload_n dL_law_265 rfl)), m_aload⟩ (
  lkp_c (P := OkP 124) ⟨(PuOK.ok (ok_iconst dL_law_266 rfl)), m_push⟩ (
  lkp_c (P := OkP 124) ⟨ok_lald dL_law_267, m_rdJ⟩ (
  lkp_c (P := OkP 124) ⟨(PuOK.ok (ok_iload dL_law_268)), m_iload⟩ (
  lkp_c (P := OkP 124) ⟨(PuOK.ok (ok_i2l dL_law_270)), m_i2l⟩ (
  lkp_c (P := OkP 124) ⟨(PuOK.ok (ok_lcmp dL_law_271)), m_lcmp⟩ (
  lkp_c (P := OkP 124) ⟨(PuOK.ok (ok_if_eq dL_law_272 rfl)), m_if⟩ (
  lkp_c (P := OkP 124) ⟨(PuOK.ok (ok_iconst dL_law_275 rfl)), m_push⟩ (
  lkp_c (P := OkP 124) ⟨ok_iret rfl rfl (by decide) dL_law_276, m_ret⟩ (
  lkp_c (P := OkP 124) ⟨(PuOK.ok (ok_goto dL_law_277 rfl)), m_goto⟩ (
  lkp_c (P := OkP 124) ⟨(PuOK.ok (ok_aload_n dL_law_280 rfl)), m_aload⟩ (
  lkp_c (P := OkP 124) ⟨(PuOK.ok (ok_aload_n dL_law_281 rfl)), m_aload⟩ (
  lkp_c (P := OkP 124) ⟨(PuOK.ok (ok_iload dL_law_282)), m_iload⟩ (
  lkp_c (P := OkP 124) ⟨(PuOK.ok (ok_iconst dL_law_284 rfl)), m_push⟩ (
  lkp_c (P := OkP 124) ⟨(PuOK.ok (ok_iadd dL_law_285)), m_iop⟩ (
  lkp_c (P := OkP 124) ⟨ok_ialds dL_law_286, m_rdIs⟩ (
  lkp_c (P := OkP 124) ⟨(PuOK.ok (ok_aload_n dL_law_287 rfl)), m_aload⟩ (
  lkp_c (P := OkP 124) ⟨ok_cs (tg_SW ⟨rfl, by decide⟩ q1635 q1636 q114 q1637 ⟨cn_35.1, cn_35.2, pd_60⟩ dL_law_288) hd_no, m_cs⟩ (
  lkp_c (P := OkP 124) ⟨(PuOK.ok (ok_istore dL_law_291)), m_istore⟩ (
  lkp_c (P := OkP 124) ⟨(PuOK.ok (ok_aload_n dL_law_293 rfl)), m_aload⟩ (
  lkp_c (P := OkP 124) ⟨(PuOK.ok (ok_aload_n dL_law_294 rfl)), m_aload⟩ (
  lkp_c (P := OkP 124) ⟨(PuOK.ok (ok_iload dL_law_295)), m_iload⟩ (
  lkp_c (P := OkP 124) ⟨(PuOK.ok (ok_iconst dL_law_297 rfl)), m_push⟩ (
  lkp_c (P := OkP 124) ⟨(PuOK.ok (ok_iadd dL_law_298)), m_iop⟩ (
  lkp_c (P := OkP 124) ⟨ok_ialds dL_law_299, m_rdIs⟩ (
  lkp_c (P := OkP 124) ⟨ok_cv (List.forall_mem_cons.mpr ⟨tg_V (ci := 30) (r := CLr 30) (y := 292) rfl ⟨rfl, by decide⟩ rfl q3210 q3211 q3212 q139 q3213 ⟨cn_34.1, cn_34.2, pd_48⟩ dL_law_300, (List.forall_mem_nil _)⟩) hd_no, m_cv⟩ (
  lkp_c (P := OkP 124) ⟨(PuOK.ok (ok_istore dL_law_303)), m_istore⟩ (
  lkp_c (P := OkP 124) ⟨(PuOK.ok (ok_aload_n dL_law_305 rfl)), m_aload⟩ (
  lkp_c (P := OkP 124) ⟨ok_cv (List.forall_mem_cons.mpr ⟨tg_V (ci := 30) (r := CLr 30) (y := 289) rfl ⟨rfl, by decide⟩ rfl q3198 q3199 q3200 q139 q3201 ⟨cn_34.1, cn_34.2, pd_13⟩ dL_law_306, (List.forall_mem_nil _)⟩) hd_no, m_cv⟩ (
  lkp_c (P := OkP 124) ⟨(PuOK.ok (ok_iload dL_law_309)), m_iload⟩ (
  lkp_c (P := OkP 124) ⟨(PuOK.ok (ok_icmp_eq dL_law_311 rfl)), m_icmp⟩ (
  lkp_c (P := OkP 124) ⟨(PuOK.ok (ok_iconst dL_law_314 rfl)), m_push⟩ (
  lkp_c (P := OkP 124) ⟨ok_iret rfl rfl (by decide) dL_law_315, m_ret⟩ (
  lkp_c (P := OkP 124) ⟨(PuOK.ok (ok_iload dL_law_316)), m_iload⟩ (
  lkp_c (P := OkP 124) ⟨(PuOK.ok (ok_if_ne dL_law_318 rfl)), m_if⟩ (
  trivial)))))))))))))))))))))))))))))))))))))))
theorem c_124_5 : LkP (OkP 124) [(321, o_aload 3 1), (322, o_push 1 (.int 0)), (323, o_rdJ), (324, o_iload 7 2), (326, o_i2l), (327, o_lcmp), (328, o_if (fun x => decide (x = 0)) 333), (331, o_push 1 (.int 0)), (332, o_ret 5), (333, o_goto 2693), (336, o_aload 1 1), (337, o_cv [(0, 164)] 0 3 false none), (340, o_aload 2 1), (341, o_cv [(30, 294)] 0 3 false none), (344, o_icmp (fun x y => decide (x = y)) 2693), (347, o_push 1 (.int 0)), (348, o_ret 5), (349, o_aload 1 1), (350, o_cv [(0, 167)] 0 3 false none), (353, o_aload 2 1), (354, o_cv [(30, 319)] 0 3 false none), (357, o_icmp (fun x y => decide (x = y)) 2693), (360, o_push 1 (.int 0)), (361, o_ret 5), (362, o_aload 1 1), (363, o_cv [(0, 168)] 0 3 false none), (366, o_aload 2 1), (367, o_cv [(30, 320)] 0 3 false none), (370, o_icmp (fun x y => decide (x = y)) 2693), (373, o_push 1 (.int 0)), (374, o_ret 5), (375, o_aload 1 1), (376, o_aload 0 1), (377, o_iload 5 2), (379, o_push 1 (.int 1)), (380, o_iop (fun x y => x + y)), (381, o_rdIs 0), (382, o_aload 3 1), (383, o_cs 127 3 false none)] := lkp_c (P := OkP 124) ⟨(PuOK.ok (ok_aload_n dL_law_321 rfl)), m_aload⟩ (
  lkp_c (P := OkP 124) ⟨(PuOK.ok (ok_iconst dL_law_322 rfl)), m_push⟩ (
  lkp_c (P := OkP 124) ⟨ok_lald dL_law_323, m_rdJ⟩ (
  lkp_c (P := OkP 124) ⟨(PuOK.ok (ok_iload dL_law_324)), m_iload⟩ (
  lkp_c (P := OkP 124) ⟨(PuOK.ok (ok_i2l dL_law_326)), m_i2l⟩ (
  lkp_c (P := OkP 124) ⟨(PuOK.ok (ok_lcmp dL_law_327)), m_lcmp⟩ (
  lkp_c (P := OkP 124) ⟨(PuOK.ok (ok_if_eq dL_law_328 rfl)), m_if⟩ (
  lkp_c (P := OkP 124) ⟨(PuOK.ok (ok_iconst dL_law_331 rfl)), m_push⟩ (
  lkp_c (P := OkP 124) ⟨ok_iret rfl rfl (by decide) dL_law_332, m_ret⟩ (
  lkp_c (P := OkP 124) ⟨(PuOK.ok (ok_goto dL_law_333 rfl)), m_goto⟩ (
  lkp_c (P := OkP 124) ⟨(PuOK.ok (ok_aload_n dL_law_336 rfl)), m_aload⟩ (
  lkp_c (P := OkP 124) ⟨ok_cv (List.forall_mem_cons.mpr ⟨tg_VW (ci := 0) (r := CLr 0) (y := 164) rfl ⟨rfl, by decide⟩ rfl q1260 q1261 q1262 q115 q1263 ⟨cn_33.1, cn_33.2, pd_13⟩ dL_law_337, (List.forall_mem_nil _)⟩) hd_no, m_cv⟩ (
  lkp_c (P := OkP 124) ⟨(PuOK.ok (ok_aload_n dL_law_340 rfl)), m_aload⟩ (
  lkp_c (P := OkP 124) ⟨ok_cv (List.forall_mem_cons.mpr ⟨tg_V (ci := 30) (r := CLr 30) (y := 294) rfl ⟨rfl, by decide⟩ rfl q3217 q3218 q3219 q139 q3220 ⟨cn_34.1, cn_34.2, pd_13⟩ dL_law_341, (List.forall_mem_nil _)⟩) hd_no, m_cv⟩ (
  lkp_c (P := OkP 124) ⟨(PuOK.ok (ok_icmp_eq dL_law_344 rfl)), m_icmp⟩ (
  lkp_c (P := OkP 124) ⟨(PuOK.ok (ok_iconst dL_law_347 rfl)), m_push⟩ (
  lkp_c (P := OkP 124) ⟨ok_iret rfl rfl (by decide) dL_law_348, m_ret⟩ (
  lkp_c (P := OkP 124) ⟨(PuOK.ok (ok_aload_n dL_law_349 rfl)), m_aload⟩ (
  lkp_c (P := OkP 124) ⟨ok_cv (List.forall_mem_cons.mpr ⟨tg_V (ci := 0) (r := CLr 0) (y := 167) rfl ⟨rfl, by decide⟩ rfl q1595 q1596 q1597 q115 q1598 ⟨cn_33.1, cn_33.2, pd_13⟩ dL_law_350, (List.forall_mem_nil _)⟩) hd_no, m_cv⟩ (
  lkp_c (P := OkP 124) ⟨(PuOK.ok (ok_aload_n dL_law_353 rfl)), m_aload⟩ (
  lkp_c (P := OkP 124) ⟨ok_cv (List.forall_mem_cons.mpr ⟨tg_V (ci := 30) (r := CLr 30) (y := 319) rfl ⟨rfl, by decide⟩ rfl q3335 q3336 q3337 q139 q3338 ⟨cn_34.1, cn_34.2, pd_13⟩ dL_law_354, (List.forall_mem_nil _)⟩) hd_no, m_cv⟩ (
  lkp_c (P := OkP 124) ⟨(PuOK.ok (ok_icmp_eq dL_law_357 rfl)), m_icmp⟩ (
  lkp_c (P := OkP 124) ⟨(PuOK.ok (ok_iconst dL_law_360 rfl)), m_push⟩ (
  lkp_c (P := OkP 124) ⟨ok_iret rfl rfl (by decide) dL_law_361, m_ret⟩ (
  lkp_c (P := OkP 124) ⟨(PuOK.ok (ok_aload_n dL_law_362 rfl)), m_aload⟩ (
  lkp_c (P := OkP 124) ⟨ok_cv (List.forall_mem_cons.mpr ⟨tg_V (ci := 0) (r := CLr 0) (y := 168) rfl ⟨rfl, by decide⟩ rfl q1599 q1600 q1601 q115 q1602 ⟨cn_33.1, cn_33.2, pd_13⟩ dL_law_363, (List.forall_mem_nil _)⟩) hd_no, m_cv⟩ (
  lkp_c (P := OkP 124) ⟨(PuOK.ok (ok_aload_n dL_law_366 rfl)), m_aload⟩ (
  lkp_c (P := OkP 124) ⟨ok_cv (List.forall_mem_cons.mpr ⟨tg_V (ci := 30) (r := CLr 30) (y := 320) rfl ⟨rfl, by decide⟩ rfl q3339 q3340 q3341 q139 q3342 ⟨cn_34.1, cn_34.2, pd_13⟩ dL_law_367, (List.forall_mem_nil _)⟩) hd_no, m_cv⟩ (
  lkp_c (P := OkP 124) ⟨(PuOK.ok (ok_icmp_eq dL_law_370 rfl)), m_icmp⟩ (
  lkp_c (P := OkP 124) ⟨(PuOK.ok (ok_iconst dL_law_373 rfl)), m_push⟩ (
  lkp_c (P := OkP 124) ⟨ok_iret rfl rfl (by decide) dL_law_374, m_ret⟩ (
  lkp_c (P := OkP 124) ⟨(PuOK.ok (ok_aload_n dL_law_375 rfl)), m_aload⟩ (
  lkp_c (P := OkP 124) ⟨(PuOK.ok (ok_aload_n dL_law_376 rfl)), m_aload⟩ (
  lkp_c (P := OkP 124) ⟨(PuOK.ok (ok_iload dL_law_377)), m_iload⟩ (
  lkp_c (P := OkP 124) ⟨(PuOK.ok (ok_iconst dL_law_379 rfl)), m_push⟩ (
  lkp_c (P := OkP 124) ⟨(PuOK.ok (ok_iadd dL_law_380)), m_iop⟩ (
  lkp_c (P := OkP 124) ⟨ok_ialds dL_law_381, m_rdIs⟩ (
  lkp_c (P := OkP 124) ⟨(PuOK.ok (ok_aload_n dL_law_382 rfl)), m_aload⟩ (
  lkp_c (P := OkP 124) ⟨ok_cs (tg_SW ⟨rfl, by decide⟩ q1652 q1653 q114 q1654 ⟨cn_35.1, cn_35.2, pd_60⟩ dL_law_383) hd_no, m_cs⟩ (
  trivial)))))))))))))))))))))))))))))))))))))))
theorem c_124_6 : LkP (OkP 124) [(386, o_istore 6 2), (388, o_aload 2 1), (389, o_aload 0 1), (390, o_iload 5 2), (392, o_push 1 (.int 1)), (393, o_iop (fun x y => x + y)), (394, o_rdIs 0), (395, o_cv [(30, 321)] 1 3 false none), (398, o_istore 7 2), (400, o_aload 2 1), (401, o_cv [(30, 289)] 0 3 false none), (404, o_iload 6 2), (406, o_icmp (fun x y => decide (x = y)) 411), (409, o_push 1 (.int 0)), (410, o_ret 5), (411, o_iload 6 2), (413, o_if (fun x => decide (¬ x = 0)) 428), (416, o_aload 3 1), (417, o_push 1 (.int 0)), (418, o_rdJ), (419, o_iload 7 2), (421, o_i2l), (422, o_lcmp), (423, o_if (fun x => decide (x = 0)) 428), (426, o_push 1 (.int 0)), (427, o_ret 5), (428, o_goto 2693), (431, o_aload 1 1), (432, o_aload 0 1), (433, o_iload 5 2), (435, o_push 1 (.int 1)), (436, o_iop (fun x y => x + y)), (437, o_rdIs 0), (438, o_aload 0 1), (439, o_iload 5 2), (441, o_push 1 (.int 2)), (442, o_iop (fun x y => x + y)), (443, o_rdIs 0), (444, o_aload 0 1), (445, o_iload 5 2), (447, o_push 1 (.int 3))] := lkp_c (P := OkP 124) ⟨(PuOK.ok (ok_istore dL_law_386)), m_istore⟩ (
  lkp_c (P := OkP 124) ⟨(PuOK.ok (ok_aload_n dL_law_388 rfl)), m_aload⟩ (
  lkp_c (P := OkP 124) ⟨(PuOK.ok (ok_aload_n dL_law_389 rfl)), m_aload⟩ (
  lkp_c (P := OkP 124) ⟨(PuOK.ok (ok_iload dL_law_390)), m_iload⟩ (
  lkp_c (P := OkP 124) ⟨(PuOK.ok (ok_iconst dL_law_392 rfl)), m_push⟩ (
  lkp_c (P := OkP 124) ⟨(PuOK.ok (ok_iadd dL_law_393)), m_iop⟩ (
  lkp_c (P := OkP 124) ⟨ok_ialds dL_law_394, m_rdIs⟩ (
  lkp_c (P := OkP 124) ⟨ok_cv (List.forall_mem_cons.mpr ⟨tg_V (ci := 30) (r := CLr 30) (y := 321) rfl ⟨rfl, by decide⟩ rfl q3343 q3344 q3345 q139 q3346 ⟨cn_34.1, cn_34.2, pd_48⟩ dL_law_395, (List.forall_mem_nil _)⟩) hd_no, m_cv⟩ (
  lkp_c (P := OkP 124) ⟨(PuOK.ok (ok_istore dL_law_398)), m_istore⟩ (
  lkp_c (P := OkP 124) ⟨(PuOK.ok (ok_aload_n dL_law_400 rfl)), m_aload⟩ (
  lkp_c (P := OkP 124) ⟨ok_cv (List.forall_mem_cons.mpr ⟨tg_V (ci := 30) (r := CLr 30) (y := 289) rfl ⟨rfl, by decide⟩ rfl q3198 q3199 q3200 q139 q3201 ⟨cn_34.1, cn_34.2, pd_13⟩ dL_law_401, (List.forall_mem_nil _)⟩) hd_no, m_cv⟩ (
  lkp_c (P := OkP 124) ⟨(PuOK.ok (ok_iload dL_law_404)), m_iload⟩ (
  lkp_c (P := OkP 124) ⟨(PuOK.ok (ok_icmp_eq dL_law_406 rfl)), m_icmp⟩ (
  lkp_c (P := OkP 124) ⟨(PuOK.ok (ok_iconst dL_law_409 rfl)), m_push⟩ (
  lkp_c (P := OkP 124) ⟨ok_iret rfl rfl (by decide) dL_law_410, m_ret⟩ (
  lkp_c (P := OkP 124) ⟨(PuOK.ok (ok_iload dL_law_411)), m_iload⟩ (
  lkp_c (P := OkP 124) ⟨(PuOK.ok (ok_if_ne dL_law_413 rfl)), m_if⟩ (
  lkp_c (P := OkP 124) ⟨(PuOK.ok (ok_aload_n dL_law_416 rfl)), m_aload⟩ (
  lkp_c (P := OkP 124) ⟨(PuOK.ok (ok_iconst dL_law_417 rfl)), m_push⟩ (
  lkp_c (P := OkP 124) ⟨ok_lald dL_law_418, m_rdJ⟩ (
  lkp_c (P := OkP 124) ⟨(PuOK.ok (ok_iload dL_law_419)), m_iload⟩ (
  lkp_c (P := OkP 124) ⟨(PuOK.ok (ok_i2l dL_law_421)), m_i2l⟩ (
  lkp_c (P := OkP 124) ⟨(PuOK.ok (ok_lcmp dL_law_422)), m_lcmp⟩ (
  lkp_c (P := OkP 124) ⟨(PuOK.ok (ok_if_eq dL_law_423 rfl)), m_if⟩ (
  lkp_c (P := OkP 124) ⟨(PuOK.ok (ok_iconst dL_law_426 rfl)), m_push⟩ (
  lkp_c (P := OkP 124) ⟨ok_iret rfl rfl (by decide) dL_law_427, m_ret⟩ (
  lkp_c (P := OkP 124) ⟨(PuOK.ok (ok_goto dL_law_428 rfl)), m_goto⟩ (
  lkp_c (P := OkP 124) ⟨(PuOK.ok (ok_aload_n dL_law_431 rfl)), m_aload⟩ (
  lkp_c (P := OkP 124) ⟨(PuOK.ok (ok_aload_n dL_law_432 rfl)), m_aload⟩ (
  lkp_c (P := OkP 124) ⟨(PuOK.ok (ok_iload dL_law_433)), m_iload⟩ (
  lkp_c (P := OkP 124) ⟨(PuOK.ok (ok_iconst dL_law_435 rfl)), m_push⟩ (
  lkp_c (P := OkP 124) ⟨(PuOK.ok (ok_iadd dL_law_436)), m_iop⟩ (
  lkp_c (P := OkP 124) ⟨ok_ialds dL_law_437, m_rdIs⟩ (
  lkp_c (P := OkP 124) ⟨(PuOK.ok (ok_aload_n dL_law_438 rfl)), m_aload⟩ (
  lkp_c (P := OkP 124) ⟨(PuOK.ok (ok_iload dL_law_439)), m_iload⟩ (
  lkp_c (P := OkP 124) ⟨(PuOK.ok (ok_iconst dL_law_441 rfl)), m_push⟩ (
  lkp_c (P := OkP 124) ⟨(PuOK.ok (ok_iadd dL_law_442)), m_iop⟩ (
  lkp_c (P := OkP 124) ⟨ok_ialds dL_law_443, m_rdIs⟩ (
  lkp_c (P := OkP 124) ⟨(PuOK.ok (ok_aload_n dL_law_444 rfl)), m_aload⟩ (
  lkp_c (P := OkP 124) ⟨(PuOK.ok (ok_iload dL_law_445)), m_iload⟩ (
  lkp_c (P := OkP 124) ⟨(PuOK.ok (ok_iconst dL_law_447 rfl)), m_push⟩ (
  trivial)))))))))))))))))))))))))))))))))))))))))
theorem c_124_7 : LkP (OkP 124) [(448, o_iop (fun x y => x + y)), (449, o_rdIs 0), (450, o_aload 0 1), (451, o_iload 5 2), (453, o_push 1 (.int 4)), (454, o_iop (fun x y => x + y)), (455, o_rdIs 0), (456, o_aload 3 1), (457, o_cs 128 6 false none), (460, o_istore 6 2), (462, o_aload 2 1), (463, o_aload 0 1), (464, o_iload 5 2), (466, o_push 1 (.int 1)), (467, o_iop (fun x y => x + y)), (468, o_rdIs 0), (469, o_aload 0 1), (470, o_iload 5 2), (472, o_push 1 (.int 2)), (473, o_iop (fun x y => x + y)), (474, o_rdIs 0), (475, o_aload 0 1), (476, o_iload 5 2), (478, o_push 1 (.int 3)), (479, o_iop (fun x y => x + y)), (480, o_rdIs 0), (481, o_aload 0 1), (482, o_iload 5 2), (484, o_push 1 (.int 4)), (485, o_iop (fun x y => x + y)), (486, o_rdIs 0), (487, o_cv [(30, 322)] 4 3 false none), (490, o_istore 7 2), (492, o_aload 2 1), (493, o_cv [(30, 289)] 0 3 false none), (496, o_iload 6 2), (498, o_icmp (fun x y => decide (x = y)) 503), (501, o_push 1 (.int 0)), (502, o_ret 5), (503, o_iload 6 2), (505, o_if (fun x => decide (¬ x = 0)) 520), (508, o_aload 3 1), (509, o_push 1 (.int 0)), (510, o_rdJ), (511, o_iload 7 2)] := lkp_c (P := OkP 124) ⟨(PuOK.ok (ok_iadd dL_law_448)), m_iop⟩ (
  lkp_c (P := OkP 124) ⟨ok_ialds dL_law_449, m_rdIs⟩ (
  lkp_c (P := OkP 124) ⟨(PuOK.ok (ok_aload_n dL_law_450 rfl)), m_aload⟩ (
  lkp_c (P := OkP 124) ⟨(PuOK.ok (ok_iload dL_law_451)), m_iload⟩ (
  lkp_c (P := OkP 124) ⟨(PuOK.ok (ok_iconst dL_law_453 rfl)), m_push⟩ (
  lkp_c (P := OkP 124) ⟨(PuOK.ok (ok_iadd dL_law_454)), m_iop⟩ (
  lkp_c (P := OkP 124) ⟨ok_ialds dL_law_455, m_rdIs⟩ (
  lkp_c (P := OkP 124) ⟨(PuOK.ok (ok_aload_n dL_law_456 rfl)), m_aload⟩ (
  lkp_c (P := OkP 124) ⟨ok_cs (tg_SW ⟨rfl, by decide⟩ q1661 q1662 q114 q1663 ⟨cn_35.1, cn_35.2, pd_61⟩ dL_law_457) hd_no, m_cs⟩ (
  lkp_c (P := OkP 124) ⟨(PuOK.ok (ok_istore dL_law_460)), m_istore⟩ (
  lkp_c (P := OkP 124) ⟨(PuOK.ok (ok_aload_n dL_law_462 rfl)), m_aload⟩ (
  lkp_c (P := OkP 124) ⟨(PuOK.ok (ok_aload_n dL_law_463 rfl)), m_aload⟩ (
  lkp_c (P := OkP 124) ⟨(PuOK.ok (ok_iload dL_law_464)), m_iload⟩ (
  lkp_c (P := OkP 124) ⟨(PuOK.ok (ok_iconst dL_law_466 rfl)), m_push⟩ (
  lkp_c (P := OkP 124) ⟨(PuOK.ok (ok_iadd dL_law_467)), m_iop⟩ (
  lkp_c (P := OkP 124) ⟨ok_ialds dL_law_468, m_rdIs⟩ (
  lkp_c (P := OkP 124) ⟨(PuOK.ok (ok_aload_n dL_law_469 rfl)), m_aload⟩ (
  lkp_c (P := OkP 124) ⟨(PuOK.ok (ok_iload dL_law_470)), m_iload⟩ (
  lkp_c (P := OkP 124) ⟨(PuOK.ok (ok_iconst dL_law_472 rfl)), m_push⟩ (
  lkp_c (P := OkP 124) ⟨(PuOK.ok (ok_iadd dL_law_473)), m_iop⟩ (
  lkp_c (P := OkP 124) ⟨ok_ialds dL_law_474, m_rdIs⟩ (
  lkp_c (P := OkP 124) ⟨(PuOK.ok (ok_aload_n dL_law_475 rfl)), m_aload⟩ (
  lkp_c (P := OkP 124) ⟨(PuOK.ok (ok_iload dL_law_476)), m_iload⟩ (
  lkp_c (P := OkP 124) ⟨(PuOK.ok (ok_iconst dL_law_478 rfl)), m_push⟩ (
  lkp_c (P := OkP 124) ⟨(PuOK.ok (ok_iadd dL_law_479)), m_iop⟩ (
  lkp_c (P := OkP 124) ⟨ok_ialds dL_law_480, m_rdIs⟩ (
  lkp_c (P := OkP 124) ⟨(PuOK.ok (ok_aload_n dL_law_481 rfl)), m_aload⟩ (
  lkp_c (P := OkP 124) ⟨(PuOK.ok (ok_iload dL_law_482)), m_iload⟩ (
  lkp_c (P := OkP 124) ⟨(PuOK.ok (ok_iconst dL_law_484 rfl)), m_push⟩ (
  lkp_c (P := OkP 124) ⟨(PuOK.ok (ok_iadd dL_law_485)), m_iop⟩ (
  lkp_c (P := OkP 124) ⟨ok_ialds dL_law_486, m_rdIs⟩ (
  lkp_c (P := OkP 124) ⟨ok_cv (List.forall_mem_cons.mpr ⟨tg_V (ci := 30) (r := CLr 30) (y := 322) rfl ⟨rfl, by decide⟩ rfl q3347 q3348 q3349 q139 q3350 ⟨cn_34.1, cn_34.2, pd_62⟩ dL_law_487, (List.forall_mem_nil _)⟩) hd_no, m_cv⟩ (
  lkp_c (P := OkP 124) ⟨(PuOK.ok (ok_istore dL_law_490)), m_istore⟩ (
  lkp_c (P := OkP 124) ⟨(PuOK.ok (ok_aload_n dL_law_492 rfl)), m_aload⟩ (
  lkp_c (P := OkP 124) ⟨ok_cv (List.forall_mem_cons.mpr ⟨tg_V (ci := 30) (r := CLr 30) (y := 289) rfl ⟨rfl, by decide⟩ rfl q3198 q3199 q3200 q139 q3201 ⟨cn_34.1, cn_34.2, pd_13⟩ dL_law_493, (List.forall_mem_nil _)⟩) hd_no, m_cv⟩ (
  lkp_c (P := OkP 124) ⟨(PuOK.ok (ok_iload dL_law_496)), m_iload⟩ (
  lkp_c (P := OkP 124) ⟨(PuOK.ok (ok_icmp_eq dL_law_498 rfl)), m_icmp⟩ (
  lkp_c (P := OkP 124) ⟨(PuOK.ok (ok_iconst dL_law_501 rfl)), m_push⟩ (
  lkp_c (P := OkP 124) ⟨ok_iret rfl rfl (by decide) dL_law_502, m_ret⟩ (
  lkp_c (P := OkP 124) ⟨(PuOK.ok (ok_iload dL_law_503)), m_iload⟩ (
  lkp_c (P := OkP 124) ⟨(PuOK.ok (ok_if_ne dL_law_505 rfl)), m_if⟩ (
  lkp_c (P := OkP 124) ⟨(PuOK.ok (ok_aload_n dL_law_508 rfl)), m_aload⟩ (
  lkp_c (P := OkP 124) ⟨(PuOK.ok (ok_iconst dL_law_509 rfl)), m_push⟩ (
  lkp_c (P := OkP 124) ⟨ok_lald dL_law_510, m_rdJ⟩ (
  lkp_c (P := OkP 124) ⟨(PuOK.ok (ok_iload dL_law_511)), m_iload⟩ (
  trivial)))))))))))))))))))))))))))))))))))))))))))))
theorem c_124_8 : LkP (OkP 124) [(513, o_i2l), (514, o_lcmp), (515, o_if (fun x => decide (x = 0)) 520), (518, o_push 1 (.int 0)), (519, o_ret 5), (520, o_goto 2693), (523, o_aload 1 1), (524, o_aload 0 1), (525, o_iload 5 2), (527, o_push 1 (.int 1)), (528, o_iop (fun x y => x + y)), (529, o_rdIs 0), (530, o_aload 0 1), (531, o_iload 5 2), (533, o_push 1 (.int 2)), (534, o_iop (fun x y => x + y)), (535, o_rdIs 0), (536, o_aload 0 1), (537, o_iload 5 2), (539, o_push 1 (.int 3)), (540, o_iop (fun x y => x + y)), (541, o_rdIs 0), (542, o_aload 3 1), (543, o_cs 129 5 false none), (546, o_istore 6 2), (548, o_aload 2 1), (549, o_aload 0 1), (550, o_iload 5 2), (552, o_push 1 (.int 1)), (553, o_iop (fun x y => x + y)), (554, o_rdIs 0), (555, o_aload 0 1), (556, o_iload 5 2), (558, o_push 1 (.int 2)), (559, o_iop (fun x y => x + y)), (560, o_rdIs 0), (561, o_aload 0 1), (562, o_iload 5 2), (564, o_push 1 (.int 3)), (565, o_iop (fun x y => x + y)), (566, o_rdIs 0), (567, o_cv [(30, 324)] 3 3 false none), (570, o_istore 7 2), (572, o_aload 2 1), (573, o_cv [(30, 289)] 0 3 false none)] := lkp_c (P := OkP 124) ⟨(PuOK.ok (ok_i2l dL_law_513)), m_i2l⟩ (
  lkp_c (P := OkP 124) ⟨(PuOK.ok (ok_lcmp dL_law_514)), m_lcmp⟩ (
  lkp_c (P := OkP 124) ⟨(PuOK.ok (ok_if_eq dL_law_515 rfl)), m_if⟩ (
  lkp_c (P := OkP 124) ⟨(PuOK.ok (ok_iconst dL_law_518 rfl)), m_push⟩ (
  lkp_c (P := OkP 124) ⟨ok_iret rfl rfl (by decide) dL_law_519, m_ret⟩ (
  lkp_c (P := OkP 124) ⟨(PuOK.ok (ok_goto dL_law_520 rfl)), m_goto⟩ (
  lkp_c (P := OkP 124) ⟨(PuOK.ok (ok_aload_n dL_law_523 rfl)), m_aload⟩ (
  lkp_c (P := OkP 124) ⟨(PuOK.ok (ok_aload_n dL_law_524 rfl)), m_aload⟩ (
  lkp_c (P := OkP 124) ⟨(PuOK.ok (ok_iload dL_law_525)), m_iload⟩ (
  lkp_c (P := OkP 124) ⟨(PuOK.ok (ok_iconst dL_law_527 rfl)), m_push⟩ (
  lkp_c (P := OkP 124) ⟨(PuOK.ok (ok_iadd dL_law_528)), m_iop⟩ (
  lkp_c (P := OkP 124) ⟨ok_ialds dL_law_529, m_rdIs⟩ (
  lkp_c (P := OkP 124) ⟨(PuOK.ok (ok_aload_n dL_law_530 rfl)), m_aload⟩ (
  lkp_c (P := OkP 124) ⟨(PuOK.ok (ok_iload dL_law_531)), m_iload⟩ (
  lkp_c (P := OkP 124) ⟨(PuOK.ok (ok_iconst dL_law_533 rfl)), m_push⟩ (
  lkp_c (P := OkP 124) ⟨(PuOK.ok (ok_iadd dL_law_534)), m_iop⟩ (
  lkp_c (P := OkP 124) ⟨ok_ialds dL_law_535, m_rdIs⟩ (
  lkp_c (P := OkP 124) ⟨(PuOK.ok (ok_aload_n dL_law_536 rfl)), m_aload⟩ (
  lkp_c (P := OkP 124) ⟨(PuOK.ok (ok_iload dL_law_537)), m_iload⟩ (
  lkp_c (P := OkP 124) ⟨(PuOK.ok (ok_iconst dL_law_539 rfl)), m_push⟩ (
  lkp_c (P := OkP 124) ⟨(PuOK.ok (ok_iadd dL_law_540)), m_iop⟩ (
  lkp_c (P := OkP 124) ⟨ok_ialds dL_law_541, m_rdIs⟩ (
  lkp_c (P := OkP 124) ⟨(PuOK.ok (ok_aload_n dL_law_542 rfl)), m_aload⟩ (
  lkp_c (P := OkP 124) ⟨ok_cs (tg_SW ⟨rfl, by decide⟩ q1713 q1714 q114 q1715 ⟨cn_35.1, cn_35.2, pd_63⟩ dL_law_543) hd_no, m_cs⟩ (
  lkp_c (P := OkP 124) ⟨(PuOK.ok (ok_istore dL_law_546)), m_istore⟩ (
  lkp_c (P := OkP 124) ⟨(PuOK.ok (ok_aload_n dL_law_548 rfl)), m_aload⟩ (
  lkp_c (P := OkP 124) ⟨(PuOK.ok (ok_aload_n dL_law_549 rfl)), m_aload⟩ (
  lkp_c (P := OkP 124) ⟨(PuOK.ok (ok_iload dL_law_550)), m_iload⟩ (
  lkp_c (P := OkP 124) ⟨(PuOK.ok (ok_iconst dL_law_552 rfl)), m_push⟩ (
  lkp_c (P := OkP 124) ⟨(PuOK.ok (ok_iadd dL_law_553)), m_iop⟩ (
  lkp_c (P := OkP 124) ⟨ok_ialds dL_law_554, m_rdIs⟩ (
  lkp_c (P := OkP 124) ⟨(PuOK.ok (ok_aload_n dL_law_555 rfl)), m_aload⟩ (
  lkp_c (P := OkP 124) ⟨(PuOK.ok (ok_iload dL_law_556)), m_iload⟩ (
  lkp_c (P := OkP 124) ⟨(PuOK.ok (ok_iconst dL_law_558 rfl)), m_push⟩ (
  lkp_c (P := OkP 124) ⟨(PuOK.ok (ok_iadd dL_law_559)), m_iop⟩ (
  lkp_c (P := OkP 124) ⟨ok_ialds dL_law_560, m_rdIs⟩ (
  lkp_c (P := OkP 124) ⟨(PuOK.ok (ok_aload_n dL_law_561 rfl)), m_aload⟩ (
  lkp_c (P := OkP 124) ⟨(PuOK.ok (ok_iload dL_law_562)), m_iload⟩ (
  lkp_c (P := OkP 124) ⟨(PuOK.ok (ok_iconst dL_law_564 rfl)), m_push⟩ (
  lkp_c (P := OkP 124) ⟨(PuOK.ok (ok_iadd dL_law_565)), m_iop⟩ (
  lkp_c (P := OkP 124) ⟨ok_ialds dL_law_566, m_rdIs⟩ (
  lkp_c (P := OkP 124) ⟨ok_cv (List.forall_mem_cons.mpr ⟨tg_V (ci := 30) (r := CLr 30) (y := 324) rfl ⟨rfl, by decide⟩ rfl q3355 q3356 q3357 q139 q3358 ⟨cn_34.1, cn_34.2, pd_25⟩ dL_law_567, (List.forall_mem_nil _)⟩) hd_no, m_cv⟩ (
  lkp_c (P := OkP 124) ⟨(PuOK.ok (ok_istore dL_law_570)), m_istore⟩ (
  lkp_c (P := OkP 124) ⟨(PuOK.ok (ok_aload_n dL_law_572 rfl)), m_aload⟩ (
  lkp_c (P := OkP 124) ⟨ok_cv (List.forall_mem_cons.mpr ⟨tg_V (ci := 30) (r := CLr 30) (y := 289) rfl ⟨rfl, by decide⟩ rfl q3198 q3199 q3200 q139 q3201 ⟨cn_34.1, cn_34.2, pd_13⟩ dL_law_573, (List.forall_mem_nil _)⟩) hd_no, m_cv⟩ (
  trivial)))))))))))))))))))))))))))))))))))))))))))))
theorem c_124_9 : LkP (OkP 124) [(576, o_iload 6 2), (578, o_icmp (fun x y => decide (x = y)) 583), (581, o_push 1 (.int 0)), (582, o_ret 5), (583, o_iload 6 2), (585, o_if (fun x => decide (¬ x = 0)) 600), (588, o_aload 3 1), (589, o_push 1 (.int 0)), (590, o_rdJ), (591, o_iload 7 2), (593, o_i2l), (594, o_lcmp), (595, o_if (fun x => decide (x = 0)) 600), (598, o_push 1 (.int 0)), (599, o_ret 5), (600, o_goto 2693), (603, o_aload 1 1), (604, o_aload 0 1), (605, o_iload 5 2), (607, o_push 1 (.int 1)), (608, o_iop (fun x y => x + y)), (609, o_rdIs 0), (610, o_aload 0 1), (611, o_iload 5 2), (613, o_push 1 (.int 2)), (614, o_iop (fun x y => x + y)), (615, o_rdIs 0), (616, o_aload 3 1), (617, o_cs 130 4 false none), (620, o_istore 6 2), (622, o_aload 2 1), (623, o_aload 0 1), (624, o_iload 5 2), (626, o_push 1 (.int 1)), (627, o_iop (fun x y => x + y)), (628, o_rdIs 0), (629, o_aload 0 1), (630, o_iload 5 2), (632, o_push 1 (.int 2)), (633, o_iop (fun x y => x + y)), (634, o_rdIs 0), (635, o_cv [(30, 325)] 2 3 false none), (638, o_istore 7 2)] := lkp_c (P := OkP 124) ⟨(PuOK.ok (ok_iload dL_law_576)), m_iload⟩ (
  lkp_c (P := OkP 124) ⟨(PuOK.ok (ok_icmp_eq dL_law_578 rfl)), m_icmp⟩ (
  lkp_c (P := OkP 124) ⟨(PuOK.ok (ok_iconst dL_law_581 rfl)), m_push⟩ (
  lkp_c (P := OkP 124) ⟨ok_iret rfl rfl (by decide) dL_law_582, m_ret⟩ (
  lkp_c (P := OkP 124) ⟨(PuOK.ok (ok_iload dL_law_583)), m_iload⟩ (
  lkp_c (P := OkP 124) ⟨(PuOK.ok (ok_if_ne dL_law_585 rfl)), m_if⟩ (
  lkp_c (P := OkP 124) ⟨(PuOK.ok (ok_aload_n dL_law_588 rfl)), m_aload⟩ (
  lkp_c (P := OkP 124) ⟨(PuOK.ok (ok_iconst dL_law_589 rfl)), m_push⟩ (
  lkp_c (P := OkP 124) ⟨ok_lald dL_law_590, m_rdJ⟩ (
  lkp_c (P := OkP 124) ⟨(PuOK.ok (ok_iload dL_law_591)), m_iload⟩ (
  lkp_c (P := OkP 124) ⟨(PuOK.ok (ok_i2l dL_law_593)), m_i2l⟩ (
  lkp_c (P := OkP 124) ⟨(PuOK.ok (ok_lcmp dL_law_594)), m_lcmp⟩ (
  lkp_c (P := OkP 124) ⟨(PuOK.ok (ok_if_eq dL_law_595 rfl)), m_if⟩ (
  lkp_c (P := OkP 124) ⟨(PuOK.ok (ok_iconst dL_law_598 rfl)), m_push⟩ (
  lkp_c (P := OkP 124) ⟨ok_iret rfl rfl (by decide) dL_law_599, m_ret⟩ (
  lkp_c (P := OkP 124) ⟨(PuOK.ok (ok_goto dL_law_600 rfl)), m_goto⟩ (
  lkp_c (P := OkP 124) ⟨(PuOK.ok (ok_aload_n dL_law_603 rfl)), m_aload⟩ (
  lkp_c (P := OkP 124) ⟨(PuOK.ok (ok_aload_n dL_law_604 rfl)), m_aload⟩ (
  lkp_c (P := OkP 124) ⟨(PuOK.ok (ok_iload dL_law_605)), m_iload⟩ (
  lkp_c (P := OkP 124) ⟨(PuOK.ok (ok_iconst dL_law_607 rfl)), m_push⟩ (
  lkp_c (P := OkP 124) ⟨(PuOK.ok (ok_iadd dL_law_608)), m_iop⟩ (
  lkp_c (P := OkP 124) ⟨ok_ialds dL_law_609, m_rdIs⟩ (
  lkp_c (P := OkP 124) ⟨(PuOK.ok (ok_aload_n dL_law_610 rfl)), m_aload⟩ (
  lkp_c (P := OkP 124) ⟨(PuOK.ok (ok_iload dL_law_611)), m_iload⟩ (
  lkp_c (P := OkP 124) ⟨(PuOK.ok (ok_iconst dL_law_613 rfl)), m_push⟩ (
  lkp_c (P := OkP 124) ⟨(PuOK.ok (ok_iadd dL_law_614)), m_iop⟩ (
  lkp_c (P := OkP 124) ⟨ok_ialds dL_law_615, m_rdIs⟩ (
  lkp_c (P := OkP 124) ⟨(PuOK.ok (ok_aload_n dL_law_616 rfl)), m_aload⟩ (
  lkp_c (P := OkP 124) ⟨ok_cs (tg_SW ⟨rfl, by decide⟩ q1723 q1724 q114 q1725 ⟨cn_35.1, cn_35.2, pd_64⟩ dL_law_617) hd_no, m_cs⟩ (
  lkp_c (P := OkP 124) ⟨(PuOK.ok (ok_istore dL_law_620)), m_istore⟩ (
  lkp_c (P := OkP 124) ⟨(PuOK.ok (ok_aload_n dL_law_622 rfl)), m_aload⟩ (
  lkp_c (P := OkP 124) ⟨(PuOK.ok (ok_aload_n dL_law_623 rfl)), m_aload⟩ (
  lkp_c (P := OkP 124) ⟨(PuOK.ok (ok_iload dL_law_624)), m_iload⟩ (
  lkp_c (P := OkP 124) ⟨(PuOK.ok (ok_iconst dL_law_626 rfl)), m_push⟩ (
  lkp_c (P := OkP 124) ⟨(PuOK.ok (ok_iadd dL_law_627)), m_iop⟩ (
  lkp_c (P := OkP 124) ⟨ok_ialds dL_law_628, m_rdIs⟩ (
  lkp_c (P := OkP 124) ⟨(PuOK.ok (ok_aload_n dL_law_629 rfl)), m_aload⟩ (
  lkp_c (P := OkP 124) ⟨(PuOK.ok (ok_iload dL_law_630)), m_iload⟩ (
  lkp_c (P := OkP 124) ⟨(PuOK.ok (ok_iconst dL_law_632 rfl)), m_push⟩ (
  lkp_c (P := OkP 124) ⟨(PuOK.ok (ok_iadd dL_law_633)), m_iop⟩ (
  lkp_c (P := OkP 124) ⟨ok_ialds dL_law_634, m_rdIs⟩ (
  lkp_c (P := OkP 124) ⟨ok_cv (List.forall_mem_cons.mpr ⟨tg_V (ci := 30) (r := CLr 30) (y := 325) rfl ⟨rfl, by decide⟩ rfl q3359 q3360 q3361 q139 q3362 ⟨cn_34.1, cn_34.2, pd_1⟩ dL_law_635, (List.forall_mem_nil _)⟩) hd_no, m_cv⟩ (
  lkp_c (P := OkP 124) ⟨(PuOK.ok (ok_istore dL_law_638)), m_istore⟩ (
  trivial)))))))))))))))))))))))))))))))))))))))))))
theorem c_124_10 : LkP (OkP 124) [(640, o_aload 2 1), (641, o_cv [(30, 289)] 0 3 false none), (644, o_iload 6 2), (646, o_icmp (fun x y => decide (x = y)) 651), (649, o_push 1 (.int 0)), (650, o_ret 5), (651, o_iload 6 2), (653, o_if (fun x => decide (¬ x = 0)) 668), (656, o_aload 3 1), (657, o_push 1 (.int 0)), (658, o_rdJ), (659, o_iload 7 2), (661, o_i2l), (662, o_lcmp), (663, o_if (fun x => decide (x = 0)) 668), (666, o_push 1 (.int 0)), (667, o_ret 5), (668, o_goto 2693), (671, o_aload 1 1), (672, o_aload 0 1), (673, o_iload 5 2), (675, o_push 1 (.int 1)), (676, o_iop (fun x y => x + y)), (677, o_rdIs 0), (678, o_aload 0 1), (679, o_iload 5 2), (681, o_push 1 (.int 2)), (682, o_iop (fun x y => x + y)), (683, o_rdIs 0), (684, o_aload 3 1), (685, o_cs 131 4 false none), (688, o_istore 6 2), (690, o_aload 2 1), (691, o_aload 0 1), (692, o_iload 5 2), (694, o_push 1 (.int 1)), (695, o_iop (fun x y => x + y)), (696, o_rdIs 0), (697, o_aload 0 1), (698, o_iload 5 2), (700, o_push 1 (.int 2)), (701, o_iop (fun x y => x + y)), (702, o_rdIs 0), (703, o_cv [(30, 327)] 2 3 false none)] := lkp_c (P := OkP 124) ⟨(PuOK.ok (ok_aload_n dL_law_640 rfl)), m_aload⟩ (
  lkp_c (P := OkP 124) ⟨ok_cv (List.forall_mem_cons.mpr ⟨tg_V (ci := 30) (r := CLr 30) (y := 289) rfl ⟨rfl, by decide⟩ rfl q3198 q3199 q3200 q139 q3201 ⟨cn_34.1, cn_34.2, pd_13⟩ dL_law_641, (List.forall_mem_nil _)⟩) hd_no, m_cv⟩ (
  lkp_c (P := OkP 124) ⟨(PuOK.ok (ok_iload dL_law_644)), m_iload⟩ (
  lkp_c (P := OkP 124) ⟨(PuOK.ok (ok_icmp_eq dL_law_646 rfl)), m_icmp⟩ (
  lkp_c (P := OkP 124) ⟨(PuOK.ok (ok_iconst dL_law_649 rfl)), m_push⟩ (
  lkp_c (P := OkP 124) ⟨ok_iret rfl rfl (by decide) dL_law_650, m_ret⟩ (
  lkp_c (P := OkP 124) ⟨(PuOK.ok (ok_iload dL_law_651)), m_iload⟩ (
  lkp_c (P := OkP 124) ⟨(PuOK.ok (ok_if_ne dL_law_653 rfl)), m_if⟩ (
  lkp_c (P := OkP 124) ⟨(PuOK.ok (ok_aload_n dL_law_656 rfl)), m_aload⟩ (
  lkp_c (P := OkP 124) ⟨(PuOK.ok (ok_iconst dL_law_657 rfl)), m_push⟩ (
  lkp_c (P := OkP 124) ⟨ok_lald dL_law_658, m_rdJ⟩ (
  lkp_c (P := OkP 124) ⟨(PuOK.ok (ok_iload dL_law_659)), m_iload⟩ (
  lkp_c (P := OkP 124) ⟨(PuOK.ok (ok_i2l dL_law_661)), m_i2l⟩ (
  lkp_c (P := OkP 124) ⟨(PuOK.ok (ok_lcmp dL_law_662)), m_lcmp⟩ (
  lkp_c (P := OkP 124) ⟨(PuOK.ok (ok_if_eq dL_law_663 rfl)), m_if⟩ (
  lkp_c (P := OkP 124) ⟨(PuOK.ok (ok_iconst dL_law_666 rfl)), m_push⟩ (
  lkp_c (P := OkP 124) ⟨ok_iret rfl rfl (by decide) dL_law_667, m_ret⟩ (
  lkp_c (P := OkP 124) ⟨(PuOK.ok (ok_goto dL_law_668 rfl)), m_goto⟩ (
  lkp_c (P := OkP 124) ⟨(PuOK.ok (ok_aload_n dL_law_671 rfl)), m_aload⟩ (
  lkp_c (P := OkP 124) ⟨(PuOK.ok (ok_aload_n dL_law_672 rfl)), m_aload⟩ (
  lkp_c (P := OkP 124) ⟨(PuOK.ok (ok_iload dL_law_673)), m_iload⟩ (
  lkp_c (P := OkP 124) ⟨(PuOK.ok (ok_iconst dL_law_675 rfl)), m_push⟩ (
  lkp_c (P := OkP 124) ⟨(PuOK.ok (ok_iadd dL_law_676)), m_iop⟩ (
  lkp_c (P := OkP 124) ⟨ok_ialds dL_law_677, m_rdIs⟩ (
  lkp_c (P := OkP 124) ⟨(PuOK.ok (ok_aload_n dL_law_678 rfl)), m_aload⟩ (
  lkp_c (P := OkP 124) ⟨(PuOK.ok (ok_iload dL_law_679)), m_iload⟩ (
  lkp_c (P := OkP 124) ⟨(PuOK.ok (ok_iconst dL_law_681 rfl)), m_push⟩ (
  lkp_c (P := OkP 124) ⟨(PuOK.ok (ok_iadd dL_law_682)), m_iop⟩ (
  lkp_c (P := OkP 124) ⟨ok_ialds dL_law_683, m_rdIs⟩ (
  lkp_c (P := OkP 124) ⟨(PuOK.ok (ok_aload_n dL_law_684 rfl)), m_aload⟩ (
  lkp_c (P := OkP 124) ⟨ok_cs (tg_SW ⟨rfl, by decide⟩ q1737 q1738 q114 q1739 ⟨cn_35.1, cn_35.2, pd_64⟩ dL_law_685) hd_no, m_cs⟩ (
  lkp_c (P := OkP 124) ⟨(PuOK.ok (ok_istore dL_law_688)), m_istore⟩ (
  lkp_c (P := OkP 124) ⟨(PuOK.ok (ok_aload_n dL_law_690 rfl)), m_aload⟩ (
  lkp_c (P := OkP 124) ⟨(PuOK.ok (ok_aload_n dL_law_691 rfl)), m_aload⟩ (
  lkp_c (P := OkP 124) ⟨(PuOK.ok (ok_iload dL_law_692)), m_iload⟩ (
  lkp_c (P := OkP 124) ⟨(PuOK.ok (ok_iconst dL_law_694 rfl)), m_push⟩ (
  lkp_c (P := OkP 124) ⟨(PuOK.ok (ok_iadd dL_law_695)), m_iop⟩ (
  lkp_c (P := OkP 124) ⟨ok_ialds dL_law_696, m_rdIs⟩ (
  lkp_c (P := OkP 124) ⟨(PuOK.ok (ok_aload_n dL_law_697 rfl)), m_aload⟩ (
  lkp_c (P := OkP 124) ⟨(PuOK.ok (ok_iload dL_law_698)), m_iload⟩ (
  lkp_c (P := OkP 124) ⟨(PuOK.ok (ok_iconst dL_law_700 rfl)), m_push⟩ (
  lkp_c (P := OkP 124) ⟨(PuOK.ok (ok_iadd dL_law_701)), m_iop⟩ (
  lkp_c (P := OkP 124) ⟨ok_ialds dL_law_702, m_rdIs⟩ (
  lkp_c (P := OkP 124) ⟨ok_cv (List.forall_mem_cons.mpr ⟨tg_V (ci := 30) (r := CLr 30) (y := 327) rfl ⟨rfl, by decide⟩ rfl q3367 q3368 q3369 q139 q3370 ⟨cn_34.1, cn_34.2, pd_1⟩ dL_law_703, (List.forall_mem_nil _)⟩) hd_no, m_cv⟩ (
  trivial))))))))))))))))))))))))))))))))))))))))))))
theorem c_124_11 : LkP (OkP 124) [(706, o_istore 7 2), (708, o_aload 2 1), (709, o_cv [(30, 289)] 0 3 false none), (712, o_iload 6 2), (714, o_icmp (fun x y => decide (x = y)) 719), (717, o_push 1 (.int 0)), (718, o_ret 5), (719, o_iload 6 2), (721, o_if (fun x => decide (¬ x = 0)) 736), (724, o_aload 3 1), (725, o_push 1 (.int 0)), (726, o_rdJ), (727, o_iload 7 2), (729, o_i2l), (730, o_lcmp), (731, o_if (fun x => decide (x = 0)) 736), (734, o_push 1 (.int 0)), (735, o_ret 5), (736, o_goto 2693), (739, o_aload 1 1), (740, o_aload 0 1), (741, o_iload 5 2), (743, o_push 1 (.int 1)), (744, o_iop (fun x y => x + y)), (745, o_rdIs 0), (746, o_aload 3 1), (747, o_cs 132 3 false none), (750, o_istore 6 2), (752, o_aload 2 1), (753, o_aload 0 1), (754, o_iload 5 2), (756, o_push 1 (.int 1)), (757, o_iop (fun x y => x + y)), (758, o_rdIs 0), (759, o_cv [(30, 329)] 1 3 false none), (762, o_istore 7 2), (764, o_aload 2 1), (765, o_cv [(30, 289)] 0 3 false none)] := lkp_c (P := OkP 124) ⟨(PuOK.ok (ok_istore dL_law_706)), m_istore⟩ (
  lkp_c (P := OkP 124) ⟨(PuOK.ok (ok_aload_n dL_law_708 rfl)), m_aload⟩ (
  lkp_c (P := OkP 124) ⟨ok_cv (List.forall_mem_cons.mpr ⟨tg_V (ci := 30) (r := CLr 30) (y := 289) rfl ⟨rfl, by decide⟩ rfl q3198 q3199 q3200 q139 q3201 ⟨cn_34.1, cn_34.2, pd_13⟩ dL_law_709, (List.forall_mem_nil _)⟩) hd_no, m_cv⟩ (
  lkp_c (P := OkP 124) ⟨(PuOK.ok (ok_iload dL_law_712)), m_iload⟩ (
  lkp_c (P := OkP 124) ⟨(PuOK.ok (ok_icmp_eq dL_law_714 rfl)), m_icmp⟩ (
  lkp_c (P := OkP 124) ⟨(PuOK.ok (ok_iconst dL_law_717 rfl)), m_push⟩ (
  lkp_c (P := OkP 124) ⟨ok_iret rfl rfl (by decide) dL_law_718, m_ret⟩ (
  lkp_c (P := OkP 124) ⟨(PuOK.ok (ok_iload dL_law_719)), m_iload⟩ (
  lkp_c (P := OkP 124) ⟨(PuOK.ok (ok_if_ne dL_law_721 rfl)), m_if⟩ (
  lkp_c (P := OkP 124) ⟨(PuOK.ok (ok_aload_n dL_law_724 rfl)), m_aload⟩ (
  lkp_c (P := OkP 124) ⟨(PuOK.ok (ok_iconst dL_law_725 rfl)), m_push⟩ (
  lkp_c (P := OkP 124) ⟨ok_lald dL_law_726, m_rdJ⟩ (
  lkp_c (P := OkP 124) ⟨(PuOK.ok (ok_iload dL_law_727)), m_iload⟩ (
  lkp_c (P := OkP 124) ⟨(PuOK.ok (ok_i2l dL_law_729)), m_i2l⟩ (
  lkp_c (P := OkP 124) ⟨(PuOK.ok (ok_lcmp dL_law_730)), m_lcmp⟩ (
  lkp_c (P := OkP 124) ⟨(PuOK.ok (ok_if_eq dL_law_731 rfl)), m_if⟩ (
  lkp_c (P := OkP 124) ⟨(PuOK.ok (ok_iconst dL_law_734 rfl)), m_push⟩ (
  lkp_c (P := OkP 124) ⟨ok_iret rfl rfl (by decide) dL_law_735, m_ret⟩ (
  lkp_c (P := OkP 124) ⟨(PuOK.ok (ok_goto dL_law_736 rfl)), m_goto⟩ (
  lkp_c (P := OkP 124) ⟨(PuOK.ok (ok_aload_n dL_law_739 rfl)), m_aload⟩ (
  lkp_c (P := OkP 124) ⟨(PuOK.ok (ok_aload_n dL_law_740 rfl)), m_aload⟩ (
  lkp_c (P := OkP 124) ⟨(PuOK.ok (ok_iload dL_law_741)), m_iload⟩ (
  lkp_c (P := OkP 124) ⟨(PuOK.ok (ok_iconst dL_law_743 rfl)), m_push⟩ (
  lkp_c (P := OkP 124) ⟨(PuOK.ok (ok_iadd dL_law_744)), m_iop⟩ (
  lkp_c (P := OkP 124) ⟨ok_ialds dL_law_745, m_rdIs⟩ (
  lkp_c (P := OkP 124) ⟨(PuOK.ok (ok_aload_n dL_law_746 rfl)), m_aload⟩ (
  lkp_c (P := OkP 124) ⟨ok_cs (tg_SW ⟨rfl, by decide⟩ q1759 q1760 q114 q1761 ⟨cn_35.1, cn_35.2, pd_60⟩ dL_law_747) hd_no, m_cs⟩ (
  lkp_c (P := OkP 124) ⟨(PuOK.ok (ok_istore dL_law_750)), m_istore⟩ (
  lkp_c (P := OkP 124) ⟨(PuOK.ok (ok_aload_n dL_law_752 rfl)), m_aload⟩ (
  lkp_c (P := OkP 124) ⟨(PuOK.ok (ok_aload_n dL_law_753 rfl)), m_aload⟩ (
  lkp_c (P := OkP 124) ⟨(PuOK.ok (ok_iload dL_law_754)), m_iload⟩ (
  lkp_c (P := OkP 124) ⟨(PuOK.ok (ok_iconst dL_law_756 rfl)), m_push⟩ (
  lkp_c (P := OkP 124) ⟨(PuOK.ok (ok_iadd dL_law_757)), m_iop⟩ (
  lkp_c (P := OkP 124) ⟨ok_ialds dL_law_758, m_rdIs⟩ (
  lkp_c (P := OkP 124) ⟨ok_cv (List.forall_mem_cons.mpr ⟨tg_V (ci := 30) (r := CLr 30) (y := 329) rfl ⟨rfl, by decide⟩ rfl q3375 q3376 q3377 q139 q3378 ⟨cn_34.1, cn_34.2, pd_48⟩ dL_law_759, (List.forall_mem_nil _)⟩) hd_no, m_cv⟩ (
  lkp_c (P := OkP 124) ⟨(PuOK.ok (ok_istore dL_law_762)), m_istore⟩ (
  lkp_c (P := OkP 124) ⟨(PuOK.ok (ok_aload_n dL_law_764 rfl)), m_aload⟩ (
  lkp_c (P := OkP 124) ⟨ok_cv (List.forall_mem_cons.mpr ⟨tg_V (ci := 30) (r := CLr 30) (y := 289) rfl ⟨rfl, by decide⟩ rfl q3198 q3199 q3200 q139 q3201 ⟨cn_34.1, cn_34.2, pd_13⟩ dL_law_765, (List.forall_mem_nil _)⟩) hd_no, m_cv⟩ (
  trivial))))))))))))))))))))))))))))))))))))))
theorem c_124_12 : LkP (OkP 124) [(768, o_iload 6 2), (770, o_icmp (fun x y => decide (x = y)) 775), (773, o_push 1 (.int 0)), (774, o_ret 5), (775, o_iload 6 2), (777, o_if (fun x => decide (¬ x = 0)) 792), (780, o_aload 3 1), (781, o_push 1 (.int 0)), (782, o_rdJ), (783, o_iload 7 2), (785, o_i2l), (786, o_lcmp), (787, o_if (fun x => decide (x = 0)) 792), (790, o_push 1 (.int 0)), (791, o_ret 5), (792, o_goto 2693), (795, o_aload 1 1), (796, o_aload 0 1), (797, o_iload 5 2), (799, o_push 1 (.int 1)), (800, o_iop (fun x y => x + y)), (801, o_rdIs 0), (802, o_aload 0 1), (803, o_iload 5 2), (805, o_push 1 (.int 2)), (806, o_iop (fun x y => x + y)), (807, o_rdIs 0), (808, o_aload 3 1), (809, o_cs 133 4 false none), (812, o_istore 6 2), (814, o_aload 2 1), (815, o_aload 0 1), (816, o_iload 5 2), (818, o_push 1 (.int 1)), (819, o_iop (fun x y => x + y)), (820, o_rdIs 0), (821, o_aload 0 1), (822, o_iload 5 2), (824, o_push 1 (.int 2)), (825, o_iop (fun x y => x + y)), (826, o_rdIs 0), (827, o_cv [(30, 334)] 2 3 false none), (830, o_istore 7 2)] := lkp_c (P := OkP 124) ⟨(PuOK.ok (ok_iload dL_law_768)), m_iload⟩ (
  lkp_c (P := OkP 124) ⟨(PuOK.ok (ok_icmp_eq dL_law_770 rfl)), m_icmp⟩ (
  lkp_c (P := OkP 124) ⟨(PuOK.ok (ok_iconst dL_law_773 rfl)), m_push⟩ (
  lkp_c (P := OkP 124) ⟨ok_iret rfl rfl (by decide) dL_law_774, m_ret⟩ (
  lkp_c (P := OkP 124) ⟨(PuOK.ok (ok_iload dL_law_775)), m_iload⟩ (
  lkp_c (P := OkP 124) ⟨(PuOK.ok (ok_if_ne dL_law_777 rfl)), m_if⟩ (
  lkp_c (P := OkP 124) ⟨(PuOK.ok (ok_aload_n dL_law_780 rfl)), m_aload⟩ (
  lkp_c (P := OkP 124) ⟨(PuOK.ok (ok_iconst dL_law_781 rfl)), m_push⟩ (
  lkp_c (P := OkP 124) ⟨ok_lald dL_law_782, m_rdJ⟩ (
  lkp_c (P := OkP 124) ⟨(PuOK.ok (ok_iload dL_law_783)), m_iload⟩ (
  lkp_c (P := OkP 124) ⟨(PuOK.ok (ok_i2l dL_law_785)), m_i2l⟩ (
  lkp_c (P := OkP 124) ⟨(PuOK.ok (ok_lcmp dL_law_786)), m_lcmp⟩ (
  lkp_c (P := OkP 124) ⟨(PuOK.ok (ok_if_eq dL_law_787 rfl)), m_if⟩ (
  lkp_c (P := OkP 124) ⟨(PuOK.ok (ok_iconst dL_law_790 rfl)), m_push⟩ (
  lkp_c (P := OkP 124) ⟨ok_iret rfl rfl (by decide) dL_law_791, m_ret⟩ (
  lkp_c (P := OkP 124) ⟨(PuOK.ok (ok_goto dL_law_792 rfl)), m_goto⟩ (
  lkp_c (P := OkP 124) ⟨(PuOK.ok (ok_aload_n dL_law_795 rfl)), m_aload⟩ (
  lkp_c (P := OkP 124) ⟨(PuOK.ok (ok_aload_n dL_law_796 rfl)), m_aload⟩ (
  lkp_c (P := OkP 124) ⟨(PuOK.ok (ok_iload dL_law_797)), m_iload⟩ (
  lkp_c (P := OkP 124) ⟨(PuOK.ok (ok_iconst dL_law_799 rfl)), m_push⟩ (
  lkp_c (P := OkP 124) ⟨(PuOK.ok (ok_iadd dL_law_800)), m_iop⟩ (
  lkp_c (P := OkP 124) ⟨ok_ialds dL_law_801, m_rdIs⟩ (
  lkp_c (P := OkP 124) ⟨(PuOK.ok (ok_aload_n dL_law_802 rfl)), m_aload⟩ (
  lkp_c (P := OkP 124) ⟨(PuOK.ok (ok_iload dL_law_803)), m_iload⟩ (
  lkp_c (P := OkP 124) ⟨(PuOK.ok (ok_iconst dL_law_805 rfl)), m_push⟩ (
  lkp_c (P := OkP 124) ⟨(PuOK.ok (ok_iadd dL_law_806)), m_iop⟩ (
  lkp_c (P := OkP 124) ⟨ok_ialds dL_law_807, m_rdIs⟩ (
  lkp_c (P := OkP 124) ⟨(PuOK.ok (ok_aload_n dL_law_808 rfl)), m_aload⟩ (
  lkp_c (P := OkP 124) ⟨ok_cs (tg_SW ⟨rfl, by decide⟩ q1776 q1777 q114 q1778 ⟨cn_35.1, cn_35.2, pd_64⟩ dL_law_809) hd_no, m_cs⟩ (
  lkp_c (P := OkP 124) ⟨(PuOK.ok (ok_istore dL_law_812)), m_istore⟩ (
  lkp_c (P := OkP 124) ⟨(PuOK.ok (ok_aload_n dL_law_814 rfl)), m_aload⟩ (
  lkp_c (P := OkP 124) ⟨(PuOK.ok (ok_aload_n dL_law_815 rfl)), m_aload⟩ (
  lkp_c (P := OkP 124) ⟨(PuOK.ok (ok_iload dL_law_816)), m_iload⟩ (
  lkp_c (P := OkP 124) ⟨(PuOK.ok (ok_iconst dL_law_818 rfl)), m_push⟩ (
  lkp_c (P := OkP 124) ⟨(PuOK.ok (ok_iadd dL_law_819)), m_iop⟩ (
  lkp_c (P := OkP 124) ⟨ok_ialds dL_law_820, m_rdIs⟩ (
  lkp_c (P := OkP 124) ⟨(PuOK.ok (ok_aload_n dL_law_821 rfl)), m_aload⟩ (
  lkp_c (P := OkP 124) ⟨(PuOK.ok (ok_iload dL_law_822)), m_iload⟩ (
  lkp_c (P := OkP 124) ⟨(PuOK.ok (ok_iconst dL_law_824 rfl)), m_push⟩ (
  lkp_c (P := OkP 124) ⟨(PuOK.ok (ok_iadd dL_law_825)), m_iop⟩ (
  lkp_c (P := OkP 124) ⟨ok_ialds dL_law_826, m_rdIs⟩ (
  lkp_c (P := OkP 124) ⟨ok_cv (List.forall_mem_cons.mpr ⟨tg_V (ci := 30) (r := CLr 30) (y := 334) rfl ⟨rfl, by decide⟩ rfl q3395 q3396 q3397 q139 q3398 ⟨cn_34.1, cn_34.2, pd_1⟩ dL_law_827, (List.forall_mem_nil _)⟩) hd_no, m_cv⟩ (
  lkp_c (P := OkP 124) ⟨(PuOK.ok (ok_istore dL_law_830)), m_istore⟩ (
  trivial)))))))))))))))))))))))))))))))))))))))))))
theorem c_124_13 : LkP (OkP 124) [(832, o_aload 2 1), (833, o_cv [(30, 289)] 0 3 false none), (836, o_iload 6 2), (838, o_icmp (fun x y => decide (x = y)) 843), (841, o_push 1 (.int 0)), (842, o_ret 5), (843, o_iload 6 2), (845, o_if (fun x => decide (¬ x = 0)) 860), (848, o_aload 3 1), (849, o_push 1 (.int 0)), (850, o_rdJ), (851, o_iload 7 2), (853, o_i2l), (854, o_lcmp), (855, o_if (fun x => decide (x = 0)) 860), (858, o_push 1 (.int 0)), (859, o_ret 5), (860, o_goto 2693), (863, o_aload 1 1), (864, o_aload 0 1), (865, o_iload 5 2), (867, o_push 1 (.int 1)), (868, o_iop (fun x y => x + y)), (869, o_rdIs 0), (870, o_aload 0 1), (871, o_iload 5 2), (873, o_push 1 (.int 2)), (874, o_iop (fun x y => x + y)), (875, o_rdIs 0), (876, o_aload 3 1), (877, o_cs 134 4 false none), (880, o_istore 6 2), (882, o_aload 2 1), (883, o_aload 0 1), (884, o_iload 5 2), (886, o_push 1 (.int 1)), (887, o_iop (fun x y => x + y)), (888, o_rdIs 0), (889, o_aload 0 1), (890, o_iload 5 2), (892, o_push 1 (.int 2)), (893, o_iop (fun x y => x + y)), (894, o_rdIs 0), (895, o_cv [(30, 336)] 2 3 false none)] := lkp_c (P := OkP 124) ⟨(PuOK.ok (ok_aload_n dL_law_832 rfl)), m_aload⟩ (
  lkp_c (P := OkP 124) ⟨ok_cv (List.forall_mem_cons.mpr ⟨tg_V (ci := 30) (r := CLr 30) (y := 289) rfl ⟨rfl, by decide⟩ rfl q3198 q3199 q3200 q139 q3201 ⟨cn_34.1, cn_34.2, pd_13⟩ dL_law_833, (List.forall_mem_nil _)⟩) hd_no, m_cv⟩ (
  lkp_c (P := OkP 124) ⟨(PuOK.ok (ok_iload dL_law_836)), m_iload⟩ (
  lkp_c (P := OkP 124) ⟨(PuOK.ok (ok_icmp_eq dL_law_838 rfl)), m_icmp⟩ (
  lkp_c (P := OkP 124) ⟨(PuOK.ok (ok_iconst dL_law_841 rfl)), m_push⟩ (
  lkp_c (P := OkP 124) ⟨ok_iret rfl rfl (by decide) dL_law_842, m_ret⟩ (
  lkp_c (P := OkP 124) ⟨(PuOK.ok (ok_iload dL_law_843)), m_iload⟩ (
  lkp_c (P := OkP 124) ⟨(PuOK.ok (ok_if_ne dL_law_845 rfl)), m_if⟩ (
  lkp_c (P := OkP 124) ⟨(PuOK.ok (ok_aload_n dL_law_848 rfl)), m_aload⟩ (
  lkp_c (P := OkP 124) ⟨(PuOK.ok (ok_iconst dL_law_849 rfl)), m_push⟩ (
  lkp_c (P := OkP 124) ⟨ok_lald dL_law_850, m_rdJ⟩ (
  lkp_c (P := OkP 124) ⟨(PuOK.ok (ok_iload dL_law_851)), m_iload⟩ (
  lkp_c (P := OkP 124) ⟨(PuOK.ok (ok_i2l dL_law_853)), m_i2l⟩ (
  lkp_c (P := OkP 124) ⟨(PuOK.ok (ok_lcmp dL_law_854)), m_lcmp⟩ (
  lkp_c (P := OkP 124) ⟨(PuOK.ok (ok_if_eq dL_law_855 rfl)), m_if⟩ (
  lkp_c (P := OkP 124) ⟨(PuOK.ok (ok_iconst dL_law_858 rfl)), m_push⟩ (
  lkp_c (P := OkP 124) ⟨ok_iret rfl rfl (by decide) dL_law_859, m_ret⟩ (
  lkp_c (P := OkP 124) ⟨(PuOK.ok (ok_goto dL_law_860 rfl)), m_goto⟩ (
  lkp_c (P := OkP 124) ⟨(PuOK.ok (ok_aload_n dL_law_863 rfl)), m_aload⟩ (
  lkp_c (P := OkP 124) ⟨(PuOK.ok (ok_aload_n dL_law_864 rfl)), m_aload⟩ (
  lkp_c (P := OkP 124) ⟨(PuOK.ok (ok_iload dL_law_865)), m_iload⟩ (
  lkp_c (P := OkP 124) ⟨(PuOK.ok (ok_iconst dL_law_867 rfl)), m_push⟩ (
  lkp_c (P := OkP 124) ⟨(PuOK.ok (ok_iadd dL_law_868)), m_iop⟩ (
  lkp_c (P := OkP 124) ⟨ok_ialds dL_law_869, m_rdIs⟩ (
  lkp_c (P := OkP 124) ⟨(PuOK.ok (ok_aload_n dL_law_870 rfl)), m_aload⟩ (
  lkp_c (P := OkP 124) ⟨(PuOK.ok (ok_iload dL_law_871)), m_iload⟩ (
  lkp_c (P := OkP 124) ⟨(PuOK.ok (ok_iconst dL_law_873 rfl)), m_push⟩ (
  lkp_c (P := OkP 124) ⟨(PuOK.ok (ok_iadd dL_law_874)), m_iop⟩ (
  lkp_c (P := OkP 124) ⟨ok_ialds dL_law_875, m_rdIs⟩ (
  lkp_c (P := OkP 124) ⟨(PuOK.ok (ok_aload_n dL_law_876 rfl)), m_aload⟩ (
  lkp_c (P := OkP 124) ⟨ok_cs (tg_SW ⟨rfl, by decide⟩ q1788 q1789 q114 q1790 ⟨cn_35.1, cn_35.2, pd_64⟩ dL_law_877) hd_no, m_cs⟩ (
  lkp_c (P := OkP 124) ⟨(PuOK.ok (ok_istore dL_law_880)), m_istore⟩ (
  lkp_c (P := OkP 124) ⟨(PuOK.ok (ok_aload_n dL_law_882 rfl)), m_aload⟩ (
  lkp_c (P := OkP 124) ⟨(PuOK.ok (ok_aload_n dL_law_883 rfl)), m_aload⟩ (
  lkp_c (P := OkP 124) ⟨(PuOK.ok (ok_iload dL_law_884)), m_iload⟩ (
  lkp_c (P := OkP 124) ⟨(PuOK.ok (ok_iconst dL_law_886 rfl)), m_push⟩ (
  lkp_c (P := OkP 124) ⟨(PuOK.ok (ok_iadd dL_law_887)), m_iop⟩ (
  lkp_c (P := OkP 124) ⟨ok_ialds dL_law_888, m_rdIs⟩ (
  lkp_c (P := OkP 124) ⟨(PuOK.ok (ok_aload_n dL_law_889 rfl)), m_aload⟩ (
  lkp_c (P := OkP 124) ⟨(PuOK.ok (ok_iload dL_law_890)), m_iload⟩ (
  lkp_c (P := OkP 124) ⟨(PuOK.ok (ok_iconst dL_law_892 rfl)), m_push⟩ (
  lkp_c (P := OkP 124) ⟨(PuOK.ok (ok_iadd dL_law_893)), m_iop⟩ (
  lkp_c (P := OkP 124) ⟨ok_ialds dL_law_894, m_rdIs⟩ (
  lkp_c (P := OkP 124) ⟨ok_cv (List.forall_mem_cons.mpr ⟨tg_V (ci := 30) (r := CLr 30) (y := 336) rfl ⟨rfl, by decide⟩ rfl q3403 q3404 q3405 q139 q3406 ⟨cn_34.1, cn_34.2, pd_1⟩ dL_law_895, (List.forall_mem_nil _)⟩) hd_no, m_cv⟩ (
  trivial))))))))))))))))))))))))))))))))))))))))))))
theorem c_124_14 : LkP (OkP 124) [(898, o_istore 7 2), (900, o_aload 2 1), (901, o_cv [(30, 289)] 0 3 false none), (904, o_iload 6 2), (906, o_icmp (fun x y => decide (x = y)) 911), (909, o_push 1 (.int 0)), (910, o_ret 5), (911, o_iload 6 2), (913, o_if (fun x => decide (¬ x = 0)) 928), (916, o_aload 3 1), (917, o_push 1 (.int 0)), (918, o_rdJ), (919, o_iload 7 2), (921, o_i2l), (922, o_lcmp), (923, o_if (fun x => decide (x = 0)) 928), (926, o_push 1 (.int 0)), (927, o_ret 5), (928, o_goto 2693), (931, o_aload 1 1), (932, o_aload 0 1), (933, o_iload 5 2), (935, o_push 1 (.int 1)), (936, o_iop (fun x y => x + y)), (937, o_rdIs 0), (938, o_aload 0 1), (939, o_iload 5 2), (941, o_push 1 (.int 2)), (942, o_iop (fun x y => x + y)), (943, o_rdIs 0), (944, o_aload 3 1), (945, o_cs 135 4 false none), (948, o_istore 6 2), (950, o_aload 2 1), (951, o_aload 0 1), (952, o_iload 5 2), (954, o_push 1 (.int 1)), (955, o_iop (fun x y => x + y)), (956, o_rdIs 0), (957, o_aload 0 1), (958, o_iload 5 2)] := lkp_c (P := OkP 124) ⟨(PuOK.ok (ok_istore dL_law_898)), m_istore⟩ (
  lkp_c (P := OkP 124) ⟨(PuOK.ok (ok_aload_n dL_law_900 rfl)), m_aload⟩ (
  lkp_c (P := OkP 124) ⟨ok_cv (List.forall_mem_cons.mpr ⟨tg_V (ci := 30) (r := CLr 30) (y := 289) rfl ⟨rfl, by decide⟩ rfl q3198 q3199 q3200 q139 q3201 ⟨cn_34.1, cn_34.2, pd_13⟩ dL_law_901, (List.forall_mem_nil _)⟩) hd_no, m_cv⟩ (
  lkp_c (P := OkP 124) ⟨(PuOK.ok (ok_iload dL_law_904)), m_iload⟩ (
  lkp_c (P := OkP 124) ⟨(PuOK.ok (ok_icmp_eq dL_law_906 rfl)), m_icmp⟩ (
  lkp_c (P := OkP 124) ⟨(PuOK.ok (ok_iconst dL_law_909 rfl)), m_push⟩ (
  lkp_c (P := OkP 124) ⟨ok_iret rfl rfl (by decide) dL_law_910, m_ret⟩ (
  lkp_c (P := OkP 124) ⟨(PuOK.ok (ok_iload dL_law_911)), m_iload⟩ (
  lkp_c (P := OkP 124) ⟨(PuOK.ok (ok_if_ne dL_law_913 rfl)), m_if⟩ (
  lkp_c (P := OkP 124) ⟨(PuOK.ok (ok_aload_n dL_law_916 rfl)), m_aload⟩ (
  lkp_c (P := OkP 124) ⟨(PuOK.ok (ok_iconst dL_law_917 rfl)), m_push⟩ (
  lkp_c (P := OkP 124) ⟨ok_lald dL_law_918, m_rdJ⟩ (
  lkp_c (P := OkP 124) ⟨(PuOK.ok (ok_iload dL_law_919)), m_iload⟩ (
  lkp_c (P := OkP 124) ⟨(PuOK.ok (ok_i2l dL_law_921)), m_i2l⟩ (
  lkp_c (P := OkP 124) ⟨(PuOK.ok (ok_lcmp dL_law_922)), m_lcmp⟩ (
  lkp_c (P := OkP 124) ⟨(PuOK.ok (ok_if_eq dL_law_923 rfl)), m_if⟩ (
  lkp_c (P := OkP 124) ⟨(PuOK.ok (ok_iconst dL_law_926 rfl)), m_push⟩ (
  lkp_c (P := OkP 124) ⟨ok_iret rfl rfl (by decide) dL_law_927, m_ret⟩ (
  lkp_c (P := OkP 124) ⟨(PuOK.ok (ok_goto dL_law_928 rfl)), m_goto⟩ (
  lkp_c (P := OkP 124) ⟨(PuOK.ok (ok_aload_n dL_law_931 rfl)), m_aload⟩ (
  lkp_c (P := OkP 124) ⟨(PuOK.ok (ok_aload_n dL_law_932 rfl)), m_aload⟩ (
  lkp_c (P := OkP 124) ⟨(PuOK.ok (ok_iload dL_law_933)), m_iload⟩ (
  lkp_c (P := OkP 124) ⟨(PuOK.ok (ok_iconst dL_law_935 rfl)), m_push⟩ (
  lkp_c (P := OkP 124) ⟨(PuOK.ok (ok_iadd dL_law_936)), m_iop⟩ (
  lkp_c (P := OkP 124) ⟨ok_ialds dL_law_937, m_rdIs⟩ (
  lkp_c (P := OkP 124) ⟨(PuOK.ok (ok_aload_n dL_law_938 rfl)), m_aload⟩ (
  lkp_c (P := OkP 124) ⟨(PuOK.ok (ok_iload dL_law_939)), m_iload⟩ (
  lkp_c (P := OkP 124) ⟨(PuOK.ok (ok_iconst dL_law_941 rfl)), m_push⟩ (
  lkp_c (P := OkP 124) ⟨(PuOK.ok (ok_iadd dL_law_942)), m_iop⟩ (
  lkp_c (P := OkP 124) ⟨ok_ialds dL_law_943, m_rdIs⟩ (
  lkp_c (P := OkP 124) ⟨(PuOK.ok (ok_aload_n dL_law_944 rfl)), m_aload⟩ (
  lkp_c (P := OkP 124) ⟨ok_cs (tg_SW ⟨rfl, by decide⟩ q1795 q1796 q114 q1797 ⟨cn_35.1, cn_35.2, pd_64⟩ dL_law_945) hd_no, m_cs⟩ (
  lkp_c (P := OkP 124) ⟨(PuOK.ok (ok_istore dL_law_948)), m_istore⟩ (
  lkp_c (P := OkP 124) ⟨(PuOK.ok (ok_aload_n dL_law_950 rfl)), m_aload⟩ (
  lkp_c (P := OkP 124) ⟨(PuOK.ok (ok_aload_n dL_law_951 rfl)), m_aload⟩ (
  lkp_c (P := OkP 124) ⟨(PuOK.ok (ok_iload dL_law_952)), m_iload⟩ (
  lkp_c (P := OkP 124) ⟨(PuOK.ok (ok_iconst dL_law_954 rfl)), m_push⟩ (
  lkp_c (P := OkP 124) ⟨(PuOK.ok (ok_iadd dL_law_955)), m_iop⟩ (
  lkp_c (P := OkP 124) ⟨ok_ialds dL_law_956, m_rdIs⟩ (
  lkp_c (P := OkP 124) ⟨(PuOK.ok (ok_aload_n dL_law_957 rfl)), m_aload⟩ (
  lkp_c (P := OkP 124) ⟨(PuOK.ok (ok_iload dL_law_958)), m_iload⟩ (
  trivial)))))))))))))))))))))))))))))))))))))))))
theorem c_124_15 : LkP (OkP 124) [(960, o_push 1 (.int 2)), (961, o_iop (fun x y => x + y)), (962, o_rdIs 0), (963, o_cv [(30, 337)] 2 3 false none), (966, o_istore 7 2), (968, o_aload 2 1), (969, o_cv [(30, 289)] 0 3 false none), (972, o_iload 6 2), (974, o_icmp (fun x y => decide (x = y)) 979), (977, o_push 1 (.int 0)), (978, o_ret 5), (979, o_iload 6 2), (981, o_if (fun x => decide (¬ x = 0)) 996), (984, o_aload 3 1), (985, o_push 1 (.int 0)), (986, o_rdJ), (987, o_iload 7 2), (989, o_i2l), (990, o_lcmp), (991, o_if (fun x => decide (x = 0)) 996), (994, o_push 1 (.int 0)), (995, o_ret 5), (996, o_goto 2693), (999, o_aload 1 1), (1000, o_aload 0 1), (1001, o_iload 5 2), (1003, o_push 1 (.int 1)), (1004, o_iop (fun x y => x + y)), (1005, o_rdIs 0), (1006, o_aload 0 1), (1007, o_iload 5 2), (1009, o_push 1 (.int 2)), (1010, o_iop (fun x y => x + y)), (1011, o_rdIs 0), (1012, o_aload 3 1), (1013, o_cs 136 4 false none), (1016, o_istore 6 2), (1018, o_aload 2 1), (1019, o_aload 0 1), (1020, o_iload 5 2), (1022, o_push 1 (.int 1)), (1023, o_iop (fun x y => x + y))] := lkp_c (P := OkP 124) ⟨(PuOK.ok (ok_iconst dL_law_960 rfl)), m_push⟩ (
  lkp_c (P := OkP 124) ⟨(PuOK.ok (ok_iadd dL_law_961)), m_iop⟩ (
  lkp_c (P := OkP 124) ⟨ok_ialds dL_law_962, m_rdIs⟩ (
  lkp_c (P := OkP 124) ⟨ok_cv (List.forall_mem_cons.mpr ⟨tg_V (ci := 30) (r := CLr 30) (y := 337) rfl ⟨rfl, by decide⟩ rfl q3407 q3408 q3409 q139 q3410 ⟨cn_34.1, cn_34.2, pd_1⟩ dL_law_963, (List.forall_mem_nil _)⟩) hd_no, m_cv⟩ (
  lkp_c (P := OkP 124) ⟨(PuOK.ok (ok_istore dL_law_966)), m_istore⟩ (
  lkp_c (P := OkP 124) ⟨(PuOK.ok (ok_aload_n dL_law_968 rfl)), m_aload⟩ (
  lkp_c (P := OkP 124) ⟨ok_cv (List.forall_mem_cons.mpr ⟨tg_V (ci := 30) (r := CLr 30) (y := 289) rfl ⟨rfl, by decide⟩ rfl q3198 q3199 q3200 q139 q3201 ⟨cn_34.1, cn_34.2, pd_13⟩ dL_law_969, (List.forall_mem_nil _)⟩) hd_no, m_cv⟩ (
  lkp_c (P := OkP 124) ⟨(PuOK.ok (ok_iload dL_law_972)), m_iload⟩ (
  lkp_c (P := OkP 124) ⟨(PuOK.ok (ok_icmp_eq dL_law_974 rfl)), m_icmp⟩ (
  lkp_c (P := OkP 124) ⟨(PuOK.ok (ok_iconst dL_law_977 rfl)), m_push⟩ (
  lkp_c (P := OkP 124) ⟨ok_iret rfl rfl (by decide) dL_law_978, m_ret⟩ (
  lkp_c (P := OkP 124) ⟨(PuOK.ok (ok_iload dL_law_979)), m_iload⟩ (
  lkp_c (P := OkP 124) ⟨(PuOK.ok (ok_if_ne dL_law_981 rfl)), m_if⟩ (
  lkp_c (P := OkP 124) ⟨(PuOK.ok (ok_aload_n dL_law_984 rfl)), m_aload⟩ (
  lkp_c (P := OkP 124) ⟨(PuOK.ok (ok_iconst dL_law_985 rfl)), m_push⟩ (
  lkp_c (P := OkP 124) ⟨ok_lald dL_law_986, m_rdJ⟩ (
  lkp_c (P := OkP 124) ⟨(PuOK.ok (ok_iload dL_law_987)), m_iload⟩ (
  lkp_c (P := OkP 124) ⟨(PuOK.ok (ok_i2l dL_law_989)), m_i2l⟩ (
  lkp_c (P := OkP 124) ⟨(PuOK.ok (ok_lcmp dL_law_990)), m_lcmp⟩ (
  lkp_c (P := OkP 124) ⟨(PuOK.ok (ok_if_eq dL_law_991 rfl)), m_if⟩ (
  lkp_c (P := OkP 124) ⟨(PuOK.ok (ok_iconst dL_law_994 rfl)), m_push⟩ (
  lkp_c (P := OkP 124) ⟨ok_iret rfl rfl (by decide) dL_law_995, m_ret⟩ (
  lkp_c (P := OkP 124) ⟨(PuOK.ok (ok_goto dL_law_996 rfl)), m_goto⟩ (
  lkp_c (P := OkP 124) ⟨(PuOK.ok (ok_aload_n dL_law_999 rfl)), m_aload⟩ (
  lkp_c (P := OkP 124) ⟨(PuOK.ok (ok_aload_n dL_law_1000 rfl)), m_aload⟩ (
  lkp_c (P := OkP 124) ⟨(PuOK.ok (ok_iload dL_law_1001)), m_iload⟩ (
  lkp_c (P := OkP 124) ⟨(PuOK.ok (ok_iconst dL_law_1003 rfl)), m_push⟩ (
  lkp_c (P := OkP 124) ⟨(PuOK.ok (ok_iadd dL_law_1004)), m_iop⟩ (
  lkp_c (P := OkP 124) ⟨ok_ialds dL_law_1005, m_rdIs⟩ (
  lkp_c (P := OkP 124) ⟨(PuOK.ok (ok_aload_n dL_law_1006 rfl)), m_aload⟩ (
  lkp_c (P := OkP 124) ⟨(PuOK.ok (ok_iload dL_law_1007)), m_iload⟩ (
  lkp_c (P := OkP 124) ⟨(PuOK.ok (ok_iconst dL_law_1009 rfl)), m_push⟩ (
  lkp_c (P := OkP 124) ⟨(PuOK.ok (ok_iadd dL_law_1010)), m_iop⟩ (
  lkp_c (P := OkP 124) ⟨ok_ialds dL_law_1011, m_rdIs⟩ (
  lkp_c (P := OkP 124) ⟨(PuOK.ok (ok_aload_n dL_law_1012 rfl)), m_aload⟩ (
  lkp_c (P := OkP 124) ⟨ok_cs (tg_SW ⟨rfl, by decide⟩ q1830 q1831 q114 q1832 ⟨cn_35.1, cn_35.2, pd_64⟩ dL_law_1013) hd_no, m_cs⟩ (
  lkp_c (P := OkP 124) ⟨(PuOK.ok (ok_istore dL_law_1016)), m_istore⟩ (
  lkp_c (P := OkP 124) ⟨(PuOK.ok (ok_aload_n dL_law_1018 rfl)), m_aload⟩ (
  lkp_c (P := OkP 124) ⟨(PuOK.ok (ok_aload_n dL_law_1019 rfl)), m_aload⟩ (
  lkp_c (P := OkP 124) ⟨(PuOK.ok (ok_iload dL_law_1020)), m_iload⟩ (
  lkp_c (P := OkP 124) ⟨(PuOK.ok (ok_iconst dL_law_1022 rfl)), m_push⟩ (
  lkp_c (P := OkP 124) ⟨(PuOK.ok (ok_iadd dL_law_1023)), m_iop⟩ (
  trivial))))))))))))))))))))))))))))))))))))))))))
theorem c_124_16 : LkP (OkP 124) [(1024, o_rdIs 0), (1025, o_aload 0 1), (1026, o_iload 5 2), (1028, o_push 1 (.int 2)), (1029, o_iop (fun x y => x + y)), (1030, o_rdIs 0), (1031, o_cv [(30, 343)] 2 3 false none), (1034, o_istore 7 2), (1036, o_aload 2 1), (1037, o_cv [(30, 289)] 0 3 false none), (1040, o_iload 6 2), (1042, o_icmp (fun x y => decide (x = y)) 1047), (1045, o_push 1 (.int 0)), (1046, o_ret 5), (1047, o_iload 6 2), (1049, o_if (fun x => decide (¬ x = 0)) 1064), (1052, o_aload 3 1), (1053, o_push 1 (.int 0)), (1054, o_rdJ), (1055, o_iload 7 2), (1057, o_i2l), (1058, o_lcmp), (1059, o_if (fun x => decide (x = 0)) 1064), (1062, o_push 1 (.int 0)), (1063, o_ret 5), (1064, o_goto 2693), (1067, o_aload 1 1), (1068, o_aload 0 1), (1069, o_iload 5 2), (1071, o_push 1 (.int 1)), (1072, o_iop (fun x y => x + y)), (1073, o_rdIs 0), (1074, o_aload 0 1), (1075, o_iload 5 2), (1077, o_push 1 (.int 2)), (1078, o_iop (fun x y => x + y)), (1079, o_rdIs 0), (1080, o_aload 0 1), (1081, o_iload 5 2), (1083, o_push 1 (.int 3)), (1084, o_iop (fun x y => x + y)), (1085, o_rdIs 0), (1086, o_aload 0 1), (1087, o_iload 5 2)] := lkp_c (P := OkP 124) ⟨ok_ialds dL_law_1024, m_rdIs⟩ (
  lkp_c (P := OkP 124) ⟨(PuOK.ok (ok_aload_n dL_law_1025 rfl)), m_aload⟩ (
  lkp_c (P := OkP 124) ⟨(PuOK.ok (ok_iload dL_law_1026)), m_iload⟩ (
  lkp_c (P := OkP 124) ⟨(PuOK.ok (ok_iconst dL_law_1028 rfl)), m_push⟩ (
  lkp_c (P := OkP 124) ⟨(PuOK.ok (ok_iadd dL_law_1029)), m_iop⟩ (
  lkp_c (P := OkP 124) ⟨ok_ialds dL_law_1030, m_rdIs⟩ (
  lkp_c (P := OkP 124) ⟨ok_cv (List.forall_mem_cons.mpr ⟨tg_V (ci := 30) (r := CLr 30) (y := 343) rfl ⟨rfl, by decide⟩ rfl q3432 q3433 q3434 q139 q3435 ⟨cn_34.1, cn_34.2, pd_1⟩ dL_law_1031, (List.forall_mem_nil _)⟩) hd_no, m_cv⟩ (
  lkp_c (P := OkP 124) ⟨(PuOK.ok (ok_istore dL_law_1034)), m_istore⟩ (
  lkp_c (P := OkP 124) ⟨(PuOK.ok (ok_aload_n dL_law_1036 rfl)), m_aload⟩ (
  lkp_c (P := OkP 124) ⟨ok_cv (List.forall_mem_cons.mpr ⟨tg_V (ci := 30) (r := CLr 30) (y := 289) rfl ⟨rfl, by decide⟩ rfl q3198 q3199 q3200 q139 q3201 ⟨cn_34.1, cn_34.2, pd_13⟩ dL_law_1037, (List.forall_mem_nil _)⟩) hd_no, m_cv⟩ (
  lkp_c (P := OkP 124) ⟨(PuOK.ok (ok_iload dL_law_1040)), m_iload⟩ (
  lkp_c (P := OkP 124) ⟨(PuOK.ok (ok_icmp_eq dL_law_1042 rfl)), m_icmp⟩ (
  lkp_c (P := OkP 124) ⟨(PuOK.ok (ok_iconst dL_law_1045 rfl)), m_push⟩ (
  lkp_c (P := OkP 124) ⟨ok_iret rfl rfl (by decide) dL_law_1046, m_ret⟩ (
  lkp_c (P := OkP 124) ⟨(PuOK.ok (ok_iload dL_law_1047)), m_iload⟩ (
  lkp_c (P := OkP 124) ⟨(PuOK.ok (ok_if_ne dL_law_1049 rfl)), m_if⟩ (
  lkp_c (P := OkP 124) ⟨(PuOK.ok (ok_aload_n dL_law_1052 rfl)), m_aload⟩ (
  lkp_c (P := OkP 124) ⟨(PuOK.ok (ok_iconst dL_law_1053 rfl)), m_push⟩ (
  lkp_c (P := OkP 124) ⟨ok_lald dL_law_1054, m_rdJ⟩ (
  lkp_c (P := OkP 124) ⟨(PuOK.ok (ok_iload dL_law_1055)), m_iload⟩ (
  lkp_c (P := OkP 124) ⟨(PuOK.ok (ok_i2l dL_law_1057)), m_i2l⟩ (
  lkp_c (P := OkP 124) ⟨(PuOK.ok (ok_lcmp dL_law_1058)), m_lcmp⟩ (
  lkp_c (P := OkP 124) ⟨(PuOK.ok (ok_if_eq dL_law_1059 rfl)), m_if⟩ (
  lkp_c (P := OkP 124) ⟨(PuOK.ok (ok_iconst dL_law_1062 rfl)), m_push⟩ (
  lkp_c (P := OkP 124) ⟨ok_iret rfl rfl (by decide) dL_law_1063, m_ret⟩ (
  lkp_c (P := OkP 124) ⟨(PuOK.ok (ok_goto dL_law_1064 rfl)), m_goto⟩ (
  lkp_c (P := OkP 124) ⟨(PuOK.ok (ok_aload_n dL_law_1067 rfl)), m_aload⟩ (
  lkp_c (P := OkP 124) ⟨(PuOK.ok (ok_aload_n dL_law_1068 rfl)), m_aload⟩ (
  lkp_c (P := OkP 124) ⟨(PuOK.ok (ok_iload dL_law_1069)), m_iload⟩ (
  lkp_c (P := OkP 124) ⟨(PuOK.ok (ok_iconst dL_law_1071 rfl)), m_push⟩ (
  lkp_c (P := OkP 124) ⟨(PuOK.ok (ok_iadd dL_law_1072)), m_iop⟩ (
  lkp_c (P := OkP 124) ⟨ok_ialds dL_law_1073, m_rdIs⟩ (
  lkp_c (P := OkP 124) ⟨(PuOK.ok (ok_aload_n dL_law_1074 rfl)), m_aload⟩ (
  lkp_c (P := OkP 124) ⟨(PuOK.ok (ok_iload dL_law_1075)), m_iload⟩ (
  lkp_c (P := OkP 124) ⟨(PuOK.ok (ok_iconst dL_law_1077 rfl)), m_push⟩ (
  lkp_c (P := OkP 124) ⟨(PuOK.ok (ok_iadd dL_law_1078)), m_iop⟩ (
  lkp_c (P := OkP 124) ⟨ok_ialds dL_law_1079, m_rdIs⟩ (
  lkp_c (P := OkP 124) ⟨(PuOK.ok (ok_aload_n dL_law_1080 rfl)), m_aload⟩ (
  lkp_c (P := OkP 124) ⟨(PuOK.ok (ok_iload dL_law_1081)), m_iload⟩ (
  lkp_c (P := OkP 124) ⟨(PuOK.ok (ok_iconst dL_law_1083 rfl)), m_push⟩ (
  lkp_c (P := OkP 124) ⟨(PuOK.ok (ok_iadd dL_law_1084)), m_iop⟩ (
  lkp_c (P := OkP 124) ⟨ok_ialds dL_law_1085, m_rdIs⟩ (
  lkp_c (P := OkP 124) ⟨(PuOK.ok (ok_aload_n dL_law_1086 rfl)), m_aload⟩ (
  lkp_c (P := OkP 124) ⟨(PuOK.ok (ok_iload dL_law_1087)), m_iload⟩ (
  trivial))))))))))))))))))))))))))))))))))))))))))))
theorem c_124_17 : LkP (OkP 124) [(1089, o_push 1 (.int 4)), (1090, o_iop (fun x y => x + y)), (1091, o_rdIs 0), (1092, o_aload 3 1), (1093, o_cs 137 6 false none), (1096, o_istore 6 2), (1098, o_aload 2 1), (1099, o_aload 0 1), (1100, o_iload 5 2), (1102, o_push 1 (.int 1)), (1103, o_iop (fun x y => x + y)), (1104, o_rdIs 0), (1105, o_aload 0 1), (1106, o_iload 5 2), (1108, o_push 1 (.int 2)), (1109, o_iop (fun x y => x + y)), (1110, o_rdIs 0), (1111, o_aload 0 1), (1112, o_iload 5 2), (1114, o_push 1 (.int 3)), (1115, o_iop (fun x y => x + y)), (1116, o_rdIs 0), (1117, o_aload 0 1), (1118, o_iload 5 2), (1120, o_push 1 (.int 4)), (1121, o_iop (fun x y => x + y)), (1122, o_rdIs 0), (1123, o_cv [(30, 344)] 4 3 false none), (1126, o_istore 7 2), (1128, o_aload 2 1), (1129, o_cv [(30, 289)] 0 3 false none), (1132, o_iload 6 2), (1134, o_icmp (fun x y => decide (x = y)) 1139), (1137, o_push 1 (.int 0)), (1138, o_ret 5), (1139, o_iload 6 2), (1141, o_if (fun x => decide (¬ x = 0)) 1156), (1144, o_aload 3 1), (1145, o_push 1 (.int 0)), (1146, o_rdJ), (1147, o_iload 7 2), (1149, o_i2l), (1150, o_lcmp), (1151, o_if (fun x => decide (x = 0)) 1156)] := lkp_c (P := OkP 124) ⟨(PuOK.ok (ok_iconst dL_law_1089 rfl)), m_push⟩ (
  lkp_c (P := OkP 124) ⟨(PuOK.ok (ok_iadd dL_law_1090)), m_iop⟩ (
  lkp_c (P := OkP 124) ⟨ok_ialds dL_law_1091, m_rdIs⟩ (
  lkp_c (P := OkP 124) ⟨(PuOK.ok (ok_aload_n dL_law_1092 rfl)), m_aload⟩ (
  lkp_c (P := OkP 124) ⟨ok_cs (tg_SW ⟨rfl, by decide⟩ q1837 q1838 q114 q1839 ⟨cn_35.1, cn_35.2, pd_61⟩ dL_law_1093) hd_no, m_cs⟩ (
  lkp_c (P := OkP 124) ⟨(PuOK.ok (ok_istore dL_law_1096)), m_istore⟩ (
  lkp_c (P := OkP 124) ⟨(PuOK.ok (ok_aload_n dL_law_1098 rfl)), m_aload⟩ (
  lkp_c (P := OkP 124) ⟨(PuOK.ok (ok_aload_n dL_law_1099 rfl)), m_aload⟩ (
  lkp_c (P := OkP 124) ⟨(PuOK.ok (ok_iload dL_law_1100)), m_iload⟩ (
  lkp_c (P := OkP 124) ⟨(PuOK.ok (ok_iconst dL_law_1102 rfl)), m_push⟩ (
  lkp_c (P := OkP 124) ⟨(PuOK.ok (ok_iadd dL_law_1103)), m_iop⟩ (
  lkp_c (P := OkP 124) ⟨ok_ialds dL_law_1104, m_rdIs⟩ (
  lkp_c (P := OkP 124) ⟨(PuOK.ok (ok_aload_n dL_law_1105 rfl)), m_aload⟩ (
  lkp_c (P := OkP 124) ⟨(PuOK.ok (ok_iload dL_law_1106)), m_iload⟩ (
  lkp_c (P := OkP 124) ⟨(PuOK.ok (ok_iconst dL_law_1108 rfl)), m_push⟩ (
  lkp_c (P := OkP 124) ⟨(PuOK.ok (ok_iadd dL_law_1109)), m_iop⟩ (
  lkp_c (P := OkP 124) ⟨ok_ialds dL_law_1110, m_rdIs⟩ (
  lkp_c (P := OkP 124) ⟨(PuOK.ok (ok_aload_n dL_law_1111 rfl)), m_aload⟩ (
  lkp_c (P := OkP 124) ⟨(PuOK.ok (ok_iload dL_law_1112)), m_iload⟩ (
  lkp_c (P := OkP 124) ⟨(PuOK.ok (ok_iconst dL_law_1114 rfl)), m_push⟩ (
  lkp_c (P := OkP 124) ⟨(PuOK.ok (ok_iadd dL_law_1115)), m_iop⟩ (
  lkp_c (P := OkP 124) ⟨ok_ialds dL_law_1116, m_rdIs⟩ (
  lkp_c (P := OkP 124) ⟨(PuOK.ok (ok_aload_n dL_law_1117 rfl)), m_aload⟩ (
  lkp_c (P := OkP 124) ⟨(PuOK.ok (ok_iload dL_law_1118)), m_iload⟩ (
  lkp_c (P := OkP 124) ⟨(PuOK.ok (ok_iconst dL_law_1120 rfl)), m_push⟩ (
  lkp_c (P := OkP 124) ⟨(PuOK.ok (ok_iadd dL_law_1121)), m_iop⟩ (
  lkp_c (P := OkP 124) ⟨ok_ialds dL_law_1122, m_rdIs⟩ (
  lkp_c (P := OkP 124) ⟨ok_cv (List.forall_mem_cons.mpr ⟨tg_V (ci := 30) (r := CLr 30) (y := 344) rfl ⟨rfl, by decide⟩ rfl q3436 q3437 q3438 q139 q3439 ⟨cn_34.1, cn_34.2, pd_62⟩ dL_law_1123, (List.forall_mem_nil _)⟩) hd_no, m_cv⟩ (
  lkp_c (P := OkP 124) ⟨(PuOK.ok (ok_istore dL_law_1126)), m_istore⟩ (
  lkp_c (P := OkP 124) ⟨(PuOK.ok (ok_aload_n dL_law_1128 rfl)), m_aload⟩ (
  lkp_c (P := OkP 124) ⟨ok_cv (List.forall_mem_cons.mpr ⟨tg_V (ci := 30) (r := CLr 30) (y := 289) rfl ⟨rfl, by decide⟩ rfl q3198 q3199 q3200 q139 q3201 ⟨cn_34.1, cn_34.2, pd_13⟩ dL_law_1129, (List.forall_mem_nil _)⟩) hd_no, m_cv⟩ (
  lkp_c (P := OkP 124) ⟨(PuOK.ok (ok_iload dL_law_1132)), m_iload⟩ (
  lkp_c (P := OkP 124) ⟨(PuOK.ok (ok_icmp_eq dL_law_1134 rfl)), m_icmp⟩ (
  lkp_c (P := OkP 124) ⟨(PuOK.ok (ok_iconst dL_law_1137 rfl)), m_push⟩ (
  lkp_c (P := OkP 124) ⟨ok_iret rfl rfl (by decide) dL_law_1138, m_ret⟩ (
  lkp_c (P := OkP 124) ⟨(PuOK.ok (ok_iload dL_law_1139)), m_iload⟩ (
  lkp_c (P := OkP 124) ⟨(PuOK.ok (ok_if_ne dL_law_1141 rfl)), m_if⟩ (
  lkp_c (P := OkP 124) ⟨(PuOK.ok (ok_aload_n dL_law_1144 rfl)), m_aload⟩ (
  lkp_c (P := OkP 124) ⟨(PuOK.ok (ok_iconst dL_law_1145 rfl)), m_push⟩ (
  lkp_c (P := OkP 124) ⟨ok_lald dL_law_1146, m_rdJ⟩ (
  lkp_c (P := OkP 124) ⟨(PuOK.ok (ok_iload dL_law_1147)), m_iload⟩ (
  lkp_c (P := OkP 124) ⟨(PuOK.ok (ok_i2l dL_law_1149)), m_i2l⟩ (
  lkp_c (P := OkP 124) ⟨(PuOK.ok (ok_lcmp dL_law_1150)), m_lcmp⟩ (
  lkp_c (P := OkP 124) ⟨(PuOK.ok (ok_if_eq dL_law_1151 rfl)), m_if⟩ (
  trivial))))))))))))))))))))))))))))))))))))))))))))
theorem c_124_18 : LkP (OkP 124) [(1154, o_push 1 (.int 0)), (1155, o_ret 5), (1156, o_goto 2693), (1159, o_aload 1 1), (1160, o_aload 0 1), (1161, o_iload 5 2), (1163, o_push 1 (.int 1)), (1164, o_iop (fun x y => x + y)), (1165, o_rdIs 0), (1166, o_aload 0 1), (1167, o_iload 5 2), (1169, o_push 1 (.int 2)), (1170, o_iop (fun x y => x + y)), (1171, o_rdIs 0), (1172, o_aload 0 1), (1173, o_iload 5 2), (1175, o_push 1 (.int 3)), (1176, o_iop (fun x y => x + y)), (1177, o_rdIs 0), (1178, o_aload 0 1), (1179, o_iload 5 2), (1181, o_push 1 (.int 4)), (1182, o_iop (fun x y => x + y)), (1183, o_rdIs 0), (1184, o_aload 3 1), (1185, o_cs 138 6 false none), (1188, o_istore 6 2), (1190, o_aload 2 1), (1191, o_aload 0 1), (1192, o_iload 5 2), (1194, o_push 1 (.int 1)), (1195, o_iop (fun x y => x + y)), (1196, o_rdIs 0), (1197, o_aload 0 1), (1198, o_iload 5 2), (1200, o_push 1 (.int 2)), (1201, o_iop (fun x y => x + y)), (1202, o_rdIs 0), (1203, o_aload 0 1), (1204, o_iload 5 2), (1206, o_push 1 (.int 3)), (1207, o_iop (fun x y => x + y)), (1208, o_rdIs 0), (1209, o_aload 0 1), (1210, o_iload 5 2), (1212, o_push 1 (.int 4)), (1213, o_iop (fun x y => x + y)), (1214, o_rdIs 0), (1215, o_cv [(30, 348)] 4 3 false none)] := lkp_c (P := OkP 124) ⟨(PuOK.ok (ok_iconst dL_law_1154 rfl)), m_push⟩ (
  lkp_c (P := OkP 124) ⟨ok_iret rfl rfl (by decide) dL_law_1155, m_ret⟩ (
  lkp_c (P := OkP 124) ⟨(PuOK.ok (ok_goto dL_law_1156 rfl)), m_goto⟩ (
  lkp_c (P := OkP 124) ⟨(PuOK.ok (ok_aload_n dL_law_1159 rfl)), m_aload⟩ (
  lkp_c (P := OkP 124) ⟨(PuOK.ok (ok_aload_n dL_law_1160 rfl)), m_aload⟩ (
  lkp_c (P := OkP 124) ⟨(PuOK.ok (ok_iload dL_law_1161)), m_iload⟩ (
  lkp_c (P := OkP 124) ⟨(PuOK.ok (ok_iconst dL_law_1163 rfl)), m_push⟩ (
  lkp_c (P := OkP 124) ⟨(PuOK.ok (ok_iadd dL_law_1164)), m_iop⟩ (
  lkp_c (P := OkP 124) ⟨ok_ialds dL_law_1165, m_rdIs⟩ (
  lkp_c (P := OkP 124) ⟨(PuOK.ok (ok_aload_n dL_law_1166 rfl)), m_aload⟩ (
  lkp_c (P := OkP 124) ⟨(PuOK.ok (ok_iload dL_law_1167)), m_iload⟩ (
  lkp_c (P := OkP 124) ⟨(PuOK.ok (ok_iconst dL_law_1169 rfl)), m_push⟩ (
  lkp_c (P := OkP 124) ⟨(PuOK.ok (ok_iadd dL_law_1170)), m_iop⟩ (
  lkp_c (P := OkP 124) ⟨ok_ialds dL_law_1171, m_rdIs⟩ (
  lkp_c (P := OkP 124) ⟨(PuOK.ok (ok_aload_n dL_law_1172 rfl)), m_aload⟩ (
  lkp_c (P := OkP 124) ⟨(PuOK.ok (ok_iload dL_law_1173)), m_iload⟩ (
  lkp_c (P := OkP 124) ⟨(PuOK.ok (ok_iconst dL_law_1175 rfl)), m_push⟩ (
  lkp_c (P := OkP 124) ⟨(PuOK.ok (ok_iadd dL_law_1176)), m_iop⟩ (
  lkp_c (P := OkP 124) ⟨ok_ialds dL_law_1177, m_rdIs⟩ (
  lkp_c (P := OkP 124) ⟨(PuOK.ok (ok_aload_n dL_law_1178 rfl)), m_aload⟩ (
  lkp_c (P := OkP 124) ⟨(PuOK.ok (ok_iload dL_law_1179)), m_iload⟩ (
  lkp_c (P := OkP 124) ⟨(PuOK.ok (ok_iconst dL_law_1181 rfl)), m_push⟩ (
  lkp_c (P := OkP 124) ⟨(PuOK.ok (ok_iadd dL_law_1182)), m_iop⟩ (
  lkp_c (P := OkP 124) ⟨ok_ialds dL_law_1183, m_rdIs⟩ (
  lkp_c (P := OkP 124) ⟨(PuOK.ok (ok_aload_n dL_law_1184 rfl)), m_aload⟩ (
  lkp_c (P := OkP 124) ⟨ok_cs (tg_SW ⟨rfl, by decide⟩ q1943 q1944 q114 q1945 ⟨cn_35.1, cn_35.2, pd_61⟩ dL_law_1185) hd_no, m_cs⟩ (
  lkp_c (P := OkP 124) ⟨(PuOK.ok (ok_istore dL_law_1188)), m_istore⟩ (
  lkp_c (P := OkP 124) ⟨(PuOK.ok (ok_aload_n dL_law_1190 rfl)), m_aload⟩ (
  lkp_c (P := OkP 124) ⟨(PuOK.ok (ok_aload_n dL_law_1191 rfl)), m_aload⟩ (
  lkp_c (P := OkP 124) ⟨(PuOK.ok (ok_iload dL_law_1192)), m_iload⟩ (
  lkp_c (P := OkP 124) ⟨(PuOK.ok (ok_iconst dL_law_1194 rfl)), m_push⟩ (
  lkp_c (P := OkP 124) ⟨(PuOK.ok (ok_iadd dL_law_1195)), m_iop⟩ (
  lkp_c (P := OkP 124) ⟨ok_ialds dL_law_1196, m_rdIs⟩ (
  lkp_c (P := OkP 124) ⟨(PuOK.ok (ok_aload_n dL_law_1197 rfl)), m_aload⟩ (
  lkp_c (P := OkP 124) ⟨(PuOK.ok (ok_iload dL_law_1198)), m_iload⟩ (
  lkp_c (P := OkP 124) ⟨(PuOK.ok (ok_iconst dL_law_1200 rfl)), m_push⟩ (
  lkp_c (P := OkP 124) ⟨(PuOK.ok (ok_iadd dL_law_1201)), m_iop⟩ (
  lkp_c (P := OkP 124) ⟨ok_ialds dL_law_1202, m_rdIs⟩ (
  lkp_c (P := OkP 124) ⟨(PuOK.ok (ok_aload_n dL_law_1203 rfl)), m_aload⟩ (
  lkp_c (P := OkP 124) ⟨(PuOK.ok (ok_iload dL_law_1204)), m_iload⟩ (
  lkp_c (P := OkP 124) ⟨(PuOK.ok (ok_iconst dL_law_1206 rfl)), m_push⟩ (
  lkp_c (P := OkP 124) ⟨(PuOK.ok (ok_iadd dL_law_1207)), m_iop⟩ (
  lkp_c (P := OkP 124) ⟨ok_ialds dL_law_1208, m_rdIs⟩ (
  lkp_c (P := OkP 124) ⟨(PuOK.ok (ok_aload_n dL_law_1209 rfl)), m_aload⟩ (
  lkp_c (P := OkP 124) ⟨(PuOK.ok (ok_iload dL_law_1210)), m_iload⟩ (
  lkp_c (P := OkP 124) ⟨(PuOK.ok (ok_iconst dL_law_1212 rfl)), m_push⟩ (
  lkp_c (P := OkP 124) ⟨(PuOK.ok (ok_iadd dL_law_1213)), m_iop⟩ (
  lkp_c (P := OkP 124) ⟨ok_ialds dL_law_1214, m_rdIs⟩ (
  lkp_c (P := OkP 124) ⟨ok_cv (List.forall_mem_cons.mpr ⟨tg_V (ci := 30) (r := CLr 30) (y := 348) rfl ⟨rfl, by decide⟩ rfl q3455 q3456 q3457 q139 q3458 ⟨cn_34.1, cn_34.2, pd_62⟩ dL_law_1215, (List.forall_mem_nil _)⟩) hd_no, m_cv⟩ (
  trivial)))))))))))))))))))))))))))))))))))))))))))))))))
theorem c_124_19 : LkP (OkP 124) [(1218, o_istore 7 2), (1220, o_aload 2 1), (1221, o_cv [(30, 289)] 0 3 false none), (1224, o_iload 6 2), (1226, o_icmp (fun x y => decide (x = y)) 1231), (1229, o_push 1 (.int 0)), (1230, o_ret 5), (1231, o_iload 6 2), (1233, o_if (fun x => decide (¬ x = 0)) 1248), (1236, o_aload 3 1), (1237, o_push 1 (.int 0)), (1238, o_rdJ), (1239, o_iload 7 2), (1241, o_i2l), (1242, o_lcmp), (1243, o_if (fun x => decide (x = 0)) 1248), (1246, o_push 1 (.int 0)), (1247, o_ret 5), (1248, o_goto 2693), (1251, o_aload 1 1), (1252, o_aload 0 1), (1253, o_iload 5 2), (1255, o_push 1 (.int 1)), (1256, o_iop (fun x y => x + y)), (1257, o_rdIs 0), (1258, o_aload 0 1), (1259, o_iload 5 2), (1261, o_push 1 (.int 2)), (1262, o_iop (fun x y => x + y)), (1263, o_rdIs 0), (1264, o_aload 3 1), (1265, o_cs 139 4 false none), (1268, o_istore 6 2), (1270, o_aload 2 1), (1271, o_aload 0 1), (1272, o_iload 5 2), (1274, o_push 1 (.int 1)), (1275, o_iop (fun x y => x + y)), (1276, o_rdIs 0), (1277, o_aload 0 1), (1278, o_iload 5 2)] := lkp_c (P := OkP 124) ⟨(PuOK.ok (ok_istore dL_law_1218)), m_istore⟩ (
  lkp_c (P := OkP 124) ⟨(PuOK.ok (ok_aload_n dL_law_1220 rfl)), m_aload⟩ (
  lkp_c (P := OkP 124) ⟨ok_cv (List.forall_mem_cons.mpr ⟨tg_V (ci := 30) (r := CLr 30) (y := 289) rfl ⟨rfl, by decide⟩ rfl q3198 q3199 q3200 q139 q3201 ⟨cn_34.1, cn_34.2, pd_13⟩ dL_law_1221, (List.forall_mem_nil _)⟩) hd_no, m_cv⟩ (
  lkp_c (P := OkP 124) ⟨(PuOK.ok (ok_iload dL_law_1224)), m_iload⟩ (
  lkp_c (P := OkP 124) ⟨(PuOK.ok (ok_icmp_eq dL_law_1226 rfl)), m_icmp⟩ (
  lkp_c (P := OkP 124) ⟨(PuOK.ok (ok_iconst dL_law_1229 rfl)), m_push⟩ (
  lkp_c (P := OkP 124) ⟨ok_iret rfl rfl (by decide) dL_law_1230, m_ret⟩ (
  lkp_c (P := OkP 124) ⟨(PuOK.ok (ok_iload dL_law_1231)), m_iload⟩ (
  lkp_c (P := OkP 124) ⟨(PuOK.ok (ok_if_ne dL_law_1233 rfl)), m_if⟩ (
  lkp_c (P := OkP 124) ⟨(PuOK.ok (ok_aload_n dL_law_1236 rfl)), m_aload⟩ (
  lkp_c (P := OkP 124) ⟨(PuOK.ok (ok_iconst dL_law_1237 rfl)), m_push⟩ (
  lkp_c (P := OkP 124) ⟨ok_lald dL_law_1238, m_rdJ⟩ (
  lkp_c (P := OkP 124) ⟨(PuOK.ok (ok_iload dL_law_1239)), m_iload⟩ (
  lkp_c (P := OkP 124) ⟨(PuOK.ok (ok_i2l dL_law_1241)), m_i2l⟩ (
  lkp_c (P := OkP 124) ⟨(PuOK.ok (ok_lcmp dL_law_1242)), m_lcmp⟩ (
  lkp_c (P := OkP 124) ⟨(PuOK.ok (ok_if_eq dL_law_1243 rfl)), m_if⟩ (
  lkp_c (P := OkP 124) ⟨(PuOK.ok (ok_iconst dL_law_1246 rfl)), m_push⟩ (
  lkp_c (P := OkP 124) ⟨ok_iret rfl rfl (by decide) dL_law_1247, m_ret⟩ (
  lkp_c (P := OkP 124) ⟨(PuOK.ok (ok_goto dL_law_1248 rfl)), m_goto⟩ (
  lkp_c (P := OkP 124) ⟨(PuOK.ok (ok_aload_n dL_law_1251 rfl)), m_aload⟩ (
  lkp_c (P := OkP 124) ⟨(PuOK.ok (ok_aload_n dL_law_1252 rfl)), m_aload⟩ (
  lkp_c (P := OkP 124) ⟨(PuOK.ok (ok_iload dL_law_1253)), m_iload⟩ (
  lkp_c (P := OkP 124) ⟨(PuOK.ok (ok_iconst dL_law_1255 rfl)), m_push⟩ (
  lkp_c (P := OkP 124) ⟨(PuOK.ok (ok_iadd dL_law_1256)), m_iop⟩ (
  lkp_c (P := OkP 124) ⟨ok_ialds dL_law_1257, m_rdIs⟩ (
  lkp_c (P := OkP 124) ⟨(PuOK.ok (ok_aload_n dL_law_1258 rfl)), m_aload⟩ (
  lkp_c (P := OkP 124) ⟨(PuOK.ok (ok_iload dL_law_1259)), m_iload⟩ (
  lkp_c (P := OkP 124) ⟨(PuOK.ok (ok_iconst dL_law_1261 rfl)), m_push⟩ (
  lkp_c (P := OkP 124) ⟨(PuOK.ok (ok_iadd dL_law_1262)), m_iop⟩ (
  lkp_c (P := OkP 124) ⟨ok_ialds dL_law_1263, m_rdIs⟩ (
  lkp_c (P := OkP 124) ⟨(PuOK.ok (ok_aload_n dL_law_1264 rfl)), m_aload⟩ (
  lkp_c (P := OkP 124) ⟨ok_cs (tg_SW ⟨rfl, by decide⟩ q1950 q1951 q114 q1952 ⟨cn_35.1, cn_35.2, pd_64⟩ dL_law_1265) hd_no, m_cs⟩ (
  lkp_c (P := OkP 124) ⟨(PuOK.ok (ok_istore dL_law_1268)), m_istore⟩ (
  lkp_c (P := OkP 124) ⟨(PuOK.ok (ok_aload_n dL_law_1270 rfl)), m_aload⟩ (
  lkp_c (P := OkP 124) ⟨(PuOK.ok (ok_aload_n dL_law_1271 rfl)), m_aload⟩ (
  lkp_c (P := OkP 124) ⟨(PuOK.ok (ok_iload dL_law_1272)), m_iload⟩ (
  lkp_c (P := OkP 124) ⟨(PuOK.ok (ok_iconst dL_law_1274 rfl)), m_push⟩ (
  lkp_c (P := OkP 124) ⟨(PuOK.ok (ok_iadd dL_law_1275)), m_iop⟩ (
  lkp_c (P := OkP 124) ⟨ok_ialds dL_law_1276, m_rdIs⟩ (
  lkp_c (P := OkP 124) ⟨(PuOK.ok (ok_aload_n dL_law_1277 rfl)), m_aload⟩ (
  lkp_c (P := OkP 124) ⟨(PuOK.ok (ok_iload dL_law_1278)), m_iload⟩ (
  trivial)))))))))))))))))))))))))))))))))))))))))
theorem c_124_20 : LkP (OkP 124) [(1280, o_push 1 (.int 2)), (1281, o_iop (fun x y => x + y)), (1282, o_rdIs 0), (1283, o_cv [(30, 349)] 2 3 false none), (1286, o_istore 7 2), (1288, o_aload 2 1), (1289, o_cv [(30, 289)] 0 3 false none), (1292, o_iload 6 2), (1294, o_icmp (fun x y => decide (x = y)) 1299), (1297, o_push 1 (.int 0)), (1298, o_ret 5), (1299, o_iload 6 2), (1301, o_if (fun x => decide (¬ x = 0)) 1316), (1304, o_aload 3 1), (1305, o_push 1 (.int 0)), (1306, o_rdJ), (1307, o_iload 7 2), (1309, o_i2l), (1310, o_lcmp), (1311, o_if (fun x => decide (x = 0)) 1316), (1314, o_push 1 (.int 0)), (1315, o_ret 5), (1316, o_goto 2693), (1319, o_aload 1 1), (1320, o_aload 0 1), (1321, o_iload 5 2), (1323, o_push 1 (.int 1)), (1324, o_iop (fun x y => x + y)), (1325, o_rdIs 0), (1326, o_aload 0 1), (1327, o_iload 5 2), (1329, o_push 1 (.int 2)), (1330, o_iop (fun x y => x + y)), (1331, o_rdIs 0), (1332, o_aload 0 1), (1333, o_iload 5 2), (1335, o_push 1 (.int 3)), (1336, o_iop (fun x y => x + y)), (1337, o_rdIs 0), (1338, o_aload 3 1), (1339, o_cs 140 5 false none), (1342, o_istore 6 2)] := lkp_c (P := OkP 124) ⟨(PuOK.ok (ok_iconst dL_law_1280 rfl)), m_push⟩ (
  lkp_c (P := OkP 124) ⟨(PuOK.ok (ok_iadd dL_law_1281)), m_iop⟩ (
  lkp_c (P := OkP 124) ⟨ok_ialds dL_law_1282, m_rdIs⟩ (
  lkp_c (P := OkP 124) ⟨ok_cv (List.forall_mem_cons.mpr ⟨tg_V (ci := 30) (r := CLr 30) (y := 349) rfl ⟨rfl, by decide⟩ rfl q3459 q3460 q3461 q139 q3462 ⟨cn_34.1, cn_34.2, pd_1⟩ dL_law_1283, (List.forall_mem_nil _)⟩) hd_no, m_cv⟩ (
  lkp_c (P := OkP 124) ⟨(PuOK.ok (ok_istore dL_law_1286)), m_istore⟩ (
  lkp_c (P := OkP 124) ⟨(PuOK.ok (ok_aload_n dL_law_1288 rfl)), m_aload⟩ (
  lkp_c (P := OkP 124) ⟨ok_cv (List.forall_mem_cons.mpr ⟨tg_V (ci := 30) (r := CLr 30) (y := 289) rfl ⟨rfl, by decide⟩ rfl q3198 q3199 q3200 q139 q3201 ⟨cn_34.1, cn_34.2, pd_13⟩ dL_law_1289, (List.forall_mem_nil _)⟩) hd_no, m_cv⟩ (
  lkp_c (P := OkP 124) ⟨(PuOK.ok (ok_iload dL_law_1292)), m_iload⟩ (
  lkp_c (P := OkP 124) ⟨(PuOK.ok (ok_icmp_eq dL_law_1294 rfl)), m_icmp⟩ (
  lkp_c (P := OkP 124) ⟨(PuOK.ok (ok_iconst dL_law_1297 rfl)), m_push⟩ (
  lkp_c (P := OkP 124) ⟨ok_iret rfl rfl (by decide) dL_law_1298, m_ret⟩ (
  lkp_c (P := OkP 124) ⟨(PuOK.ok (ok_iload dL_law_1299)), m_iload⟩ (
  lkp_c (P := OkP 124) ⟨(PuOK.ok (ok_if_ne dL_law_1301 rfl)), m_if⟩ (
  lkp_c (P := OkP 124) ⟨(PuOK.ok (ok_aload_n dL_law_1304 rfl)), m_aload⟩ (
  lkp_c (P := OkP 124) ⟨(PuOK.ok (ok_iconst dL_law_1305 rfl)), m_push⟩ (
  lkp_c (P := OkP 124) ⟨ok_lald dL_law_1306, m_rdJ⟩ (
  lkp_c (P := OkP 124) ⟨(PuOK.ok (ok_iload dL_law_1307)), m_iload⟩ (
  lkp_c (P := OkP 124) ⟨(PuOK.ok (ok_i2l dL_law_1309)), m_i2l⟩ (
  lkp_c (P := OkP 124) ⟨(PuOK.ok (ok_lcmp dL_law_1310)), m_lcmp⟩ (
  lkp_c (P := OkP 124) ⟨(PuOK.ok (ok_if_eq dL_law_1311 rfl)), m_if⟩ (
  lkp_c (P := OkP 124) ⟨(PuOK.ok (ok_iconst dL_law_1314 rfl)), m_push⟩ (
  lkp_c (P := OkP 124) ⟨ok_iret rfl rfl (by decide) dL_law_1315, m_ret⟩ (
  lkp_c (P := OkP 124) ⟨(PuOK.ok (ok_goto dL_law_1316 rfl)), m_goto⟩ (
  lkp_c (P := OkP 124) ⟨(PuOK.ok (ok_aload_n dL_law_1319 rfl)), m_aload⟩ (
  lkp_c (P := OkP 124) ⟨(PuOK.ok (ok_aload_n dL_law_1320 rfl)), m_aload⟩ (
  lkp_c (P := OkP 124) ⟨(PuOK.ok (ok_iload dL_law_1321)), m_iload⟩ (
  lkp_c (P := OkP 124) ⟨(PuOK.ok (ok_iconst dL_law_1323 rfl)), m_push⟩ (
  lkp_c (P := OkP 124) ⟨(PuOK.ok (ok_iadd dL_law_1324)), m_iop⟩ (
  lkp_c (P := OkP 124) ⟨ok_ialds dL_law_1325, m_rdIs⟩ (
  lkp_c (P := OkP 124) ⟨(PuOK.ok (ok_aload_n dL_law_1326 rfl)), m_aload⟩ (
  lkp_c (P := OkP 124) ⟨(PuOK.ok (ok_iload dL_law_1327)), m_iload⟩ (
  lkp_c (P := OkP 124) ⟨(PuOK.ok (ok_iconst dL_law_1329 rfl)), m_push⟩ (
  lkp_c (P := OkP 124) ⟨(PuOK.ok (ok_iadd dL_law_1330)), m_iop⟩ (
  lkp_c (P := OkP 124) ⟨ok_ialds dL_law_1331, m_rdIs⟩ (
  lkp_c (P := OkP 124) ⟨(PuOK.ok (ok_aload_n dL_law_1332 rfl)), m_aload⟩ (
  lkp_c (P := OkP 124) ⟨(PuOK.ok (ok_iload dL_law_1333)), m_iload⟩ (
  lkp_c (P := OkP 124) ⟨(PuOK.ok (ok_iconst dL_law_1335 rfl)), m_push⟩ (
  lkp_c (P := OkP 124) ⟨(PuOK.ok (ok_iadd dL_law_1336)), m_iop⟩ (
  lkp_c (P := OkP 124) ⟨ok_ialds dL_law_1337, m_rdIs⟩ (
  lkp_c (P := OkP 124) ⟨(PuOK.ok (ok_aload_n dL_law_1338 rfl)), m_aload⟩ (
  lkp_c (P := OkP 124) ⟨ok_cs (tg_SW ⟨rfl, by decide⟩ q1981 q1982 q114 q1983 ⟨cn_35.1, cn_35.2, pd_63⟩ dL_law_1339) hd_no, m_cs⟩ (
  lkp_c (P := OkP 124) ⟨(PuOK.ok (ok_istore dL_law_1342)), m_istore⟩ (
  trivial))))))))))))))))))))))))))))))))))))))))))
theorem c_124_21 : LkP (OkP 124) [(1344, o_aload 2 1), (1345, o_aload 0 1), (1346, o_iload 5 2), (1348, o_push 1 (.int 1)), (1349, o_iop (fun x y => x + y)), (1350, o_rdIs 0), (1351, o_aload 0 1), (1352, o_iload 5 2), (1354, o_push 1 (.int 2)), (1355, o_iop (fun x y => x + y)), (1356, o_rdIs 0), (1357, o_aload 0 1), (1358, o_iload 5 2), (1360, o_push 1 (.int 3)), (1361, o_iop (fun x y => x + y)), (1362, o_rdIs 0), (1363, o_cv [(30, 351)] 3 3 false none), (1366, o_istore 7 2), (1368, o_aload 2 1), (1369, o_cv [(30, 289)] 0 3 false none), (1372, o_iload 6 2), (1374, o_icmp (fun x y => decide (x = y)) 1379), (1377, o_push 1 (.int 0)), (1378, o_ret 5), (1379, o_iload 6 2), (1381, o_if (fun x => decide (¬ x = 0)) 1396), (1384, o_aload 3 1), (1385, o_push 1 (.int 0)), (1386, o_rdJ), (1387, o_iload 7 2), (1389, o_i2l), (1390, o_lcmp), (1391, o_if (fun x => decide (x = 0)) 1396), (1394, o_push 1 (.int 0)), (1395, o_ret 5), (1396, o_goto 2693), (1399, o_aload 1 1), (1400, o_aload 0 1), (1401, o_iload 5 2), (1403, o_push 1 (.int 1)), (1404, o_iop (fun x y => x + y)), (1405, o_rdIs 0), (1406, o_aload 0 1), (1407, o_iload 5 2)] := lkp_c (P := OkP 124) ⟨(PuOK.ok (ok_aload_n dL_law_1344 rfl)), m_aload⟩ (
  lkp_c (P := OkP 124) ⟨(PuOK.ok (ok_aload_n dL_law_1345 rfl)), m_aload⟩ (
  lkp_c (P := OkP 124) ⟨(PuOK.ok (ok_iload dL_law_1346)), m_iload⟩ (
  lkp_c (P := OkP 124) ⟨(PuOK.ok (ok_iconst dL_law_1348 rfl)), m_push⟩ (
  lkp_c (P := OkP 124) ⟨(PuOK.ok (ok_iadd dL_law_1349)), m_iop⟩ (
  lkp_c (P := OkP 124) ⟨ok_ialds dL_law_1350, m_rdIs⟩ (
  lkp_c (P := OkP 124) ⟨(PuOK.ok (ok_aload_n dL_law_1351 rfl)), m_aload⟩ (
  lkp_c (P := OkP 124) ⟨(PuOK.ok (ok_iload dL_law_1352)), m_iload⟩ (
  lkp_c (P := OkP 124) ⟨(PuOK.ok (ok_iconst dL_law_1354 rfl)), m_push⟩ (
  lkp_c (P := OkP 124) ⟨(PuOK.ok (ok_iadd dL_law_1355)), m_iop⟩ (
  lkp_c (P := OkP 124) ⟨ok_ialds dL_law_1356, m_rdIs⟩ (
  lkp_c (P := OkP 124) ⟨(PuOK.ok (ok_aload_n dL_law_1357 rfl)), m_aload⟩ (
  lkp_c (P := OkP 124) ⟨(PuOK.ok (ok_iload dL_law_1358)), m_iload⟩ (
  lkp_c (P := OkP 124) ⟨(PuOK.ok (ok_iconst dL_law_1360 rfl)), m_push⟩ (
  lkp_c (P := OkP 124) ⟨(PuOK.ok (ok_iadd dL_law_1361)), m_iop⟩ (
  lkp_c (P := OkP 124) ⟨ok_ialds dL_law_1362, m_rdIs⟩ (
  lkp_c (P := OkP 124) ⟨ok_cv (List.forall_mem_cons.mpr ⟨tg_V (ci := 30) (r := CLr 30) (y := 351) rfl ⟨rfl, by decide⟩ rfl q3467 q3468 q3469 q139 q3470 ⟨cn_34.1, cn_34.2, pd_25⟩ dL_law_1363, (List.forall_mem_nil _)⟩) hd_no, m_cv⟩ (
  lkp_c (P := OkP 124) ⟨(PuOK.ok (ok_istore dL_law_1366)), m_istore⟩ (
  lkp_c (P := OkP 124) ⟨(PuOK.ok (ok_aload_n dL_law_1368 rfl)), m_aload⟩ (
  lkp_c (P := OkP 124) ⟨ok_cv (List.forall_mem_cons.mpr ⟨tg_V (ci := 30) (r := CLr 30) (y := 289) rfl ⟨rfl, by decide⟩ rfl q3198 q3199 q3200 q139 q3201 ⟨cn_34.1, cn_34.2, pd_13⟩ dL_law_1369, (List.forall_mem_nil _)⟩) hd_no, m_cv⟩ (
  lkp_c (P := OkP 124) ⟨(PuOK.ok (ok_iload dL_law_1372)), m_iload⟩ (
  lkp_c (P := OkP 124) ⟨(PuOK.ok (ok_icmp_eq dL_law_1374 rfl)), m_icmp⟩ (
  lkp_c (P := OkP 124) ⟨(PuOK.ok (ok_iconst dL_law_1377 rfl)), m_push⟩ (
  lkp_c (P := OkP 124) ⟨ok_iret rfl rfl (by decide) dL_law_1378, m_ret⟩ (
  lkp_c (P := OkP 124) ⟨(PuOK.ok (ok_iload dL_law_1379)), m_iload⟩ (
  lkp_c (P := OkP 124) ⟨(PuOK.ok (ok_if_ne dL_law_1381 rfl)), m_if⟩ (
  lkp_c (P := OkP 124) ⟨(PuOK.ok (ok_aload_n dL_law_1384 rfl)), m_aload⟩ (
  lkp_c (P := OkP 124) ⟨(PuOK.ok (ok_iconst dL_law_1385 rfl)), m_push⟩ (
  lkp_c (P := OkP 124) ⟨ok_lald dL_law_1386, m_rdJ⟩ (
  lkp_c (P := OkP 124) ⟨(PuOK.ok (ok_iload dL_law_1387)), m_iload⟩ (
  lkp_c (P := OkP 124) ⟨(PuOK.ok (ok_i2l dL_law_1389)), m_i2l⟩ (
  lkp_c (P := OkP 124) ⟨(PuOK.ok (ok_lcmp dL_law_1390)), m_lcmp⟩ (
  lkp_c (P := OkP 124) ⟨(PuOK.ok (ok_if_eq dL_law_1391 rfl)), m_if⟩ (
  lkp_c (P := OkP 124) ⟨(PuOK.ok (ok_iconst dL_law_1394 rfl)), m_push⟩ (
  lkp_c (P := OkP 124) ⟨ok_iret rfl rfl (by decide) dL_law_1395, m_ret⟩ (
  lkp_c (P := OkP 124) ⟨(PuOK.ok (ok_goto dL_law_1396 rfl)), m_goto⟩ (
  lkp_c (P := OkP 124) ⟨(PuOK.ok (ok_aload_n dL_law_1399 rfl)), m_aload⟩ (
  lkp_c (P := OkP 124) ⟨(PuOK.ok (ok_aload_n dL_law_1400 rfl)), m_aload⟩ (
  lkp_c (P := OkP 124) ⟨(PuOK.ok (ok_iload dL_law_1401)), m_iload⟩ (
  lkp_c (P := OkP 124) ⟨(PuOK.ok (ok_iconst dL_law_1403 rfl)), m_push⟩ (
  lkp_c (P := OkP 124) ⟨(PuOK.ok (ok_iadd dL_law_1404)), m_iop⟩ (
  lkp_c (P := OkP 124) ⟨ok_ialds dL_law_1405, m_rdIs⟩ (
  lkp_c (P := OkP 124) ⟨(PuOK.ok (ok_aload_n dL_law_1406 rfl)), m_aload⟩ (
  lkp_c (P := OkP 124) ⟨(PuOK.ok (ok_iload dL_law_1407)), m_iload⟩ (
  trivial))))))))))))))))))))))))))))))))))))))))))))
theorem c_124_22 : LkP (OkP 124) [(1409, o_push 1 (.int 2)), (1410, o_iop (fun x y => x + y)), (1411, o_rdIs 0), (1412, o_aload 0 1), (1413, o_iload 5 2), (1415, o_push 1 (.int 3)), (1416, o_iop (fun x y => x + y)), (1417, o_rdIs 0), (1418, o_aload 0 1), (1419, o_iload 5 2), (1421, o_push 1 (.int 4)), (1422, o_iop (fun x y => x + y)), (1423, o_rdIs 0), (1424, o_aload 3 1), (1425, o_cs 141 6 false none), (1428, o_istore 6 2), (1430, o_aload 2 1), (1431, o_aload 0 1), (1432, o_iload 5 2), (1434, o_push 1 (.int 1)), (1435, o_iop (fun x y => x + y)), (1436, o_rdIs 0), (1437, o_aload 0 1), (1438, o_iload 5 2), (1440, o_push 1 (.int 2)), (1441, o_iop (fun x y => x + y)), (1442, o_rdIs 0), (1443, o_aload 0 1), (1444, o_iload 5 2), (1446, o_push 1 (.int 3)), (1447, o_iop (fun x y => x + y)), (1448, o_rdIs 0), (1449, o_aload 0 1), (1450, o_iload 5 2), (1452, o_push 1 (.int 4)), (1453, o_iop (fun x y => x + y)), (1454, o_rdIs 0), (1455, o_cv [(30, 355)] 4 3 false none), (1458, o_istore 7 2), (1460, o_aload 2 1), (1461, o_cv [(30, 289)] 0 3 false none), (1464, o_iload 6 2), (1466, o_icmp (fun x y => decide (x = y)) 1471), (1469, o_push 1 (.int 0)), (1470, o_ret 5), (1471, o_iload 6 2)] := lkp_c (P := OkP 124) ⟨(PuOK.ok (ok_iconst dL_law_1409 rfl)), m_push⟩ (
  lkp_c (P := OkP 124) ⟨(PuOK.ok (ok_iadd dL_law_1410)), m_iop⟩ (
  lkp_c (P := OkP 124) ⟨ok_ialds dL_law_1411, m_rdIs⟩ (
  lkp_c (P := OkP 124) ⟨(PuOK.ok (ok_aload_n dL_law_1412 rfl)), m_aload⟩ (
  lkp_c (P := OkP 124) ⟨(PuOK.ok (ok_iload dL_law_1413)), m_iload⟩ (
  lkp_c (P := OkP 124) ⟨(PuOK.ok (ok_iconst dL_law_1415 rfl)), m_push⟩ (
  lkp_c (P := OkP 124) ⟨(PuOK.ok (ok_iadd dL_law_1416)), m_iop⟩ (
  lkp_c (P := OkP 124) ⟨ok_ialds dL_law_1417, m_rdIs⟩ (
  lkp_c (P := OkP 124) ⟨(PuOK.ok (ok_aload_n dL_law_1418 rfl)), m_aload⟩ (
  lkp_c (P := OkP 124) ⟨(PuOK.ok (ok_iload dL_law_1419)), m_iload⟩ (
  lkp_c (P := OkP 124) ⟨(PuOK.ok (ok_iconst dL_law_1421 rfl)), m_push⟩ (
  lkp_c (P := OkP 124) ⟨(PuOK.ok (ok_iadd dL_law_1422)), m_iop⟩ (
  lkp_c (P := OkP 124) ⟨ok_ialds dL_law_1423, m_rdIs⟩ (
  lkp_c (P := OkP 124) ⟨(PuOK.ok (ok_aload_n dL_law_1424 rfl)), m_aload⟩ (
  lkp_c (P := OkP 124) ⟨ok_cs (tg_SW ⟨rfl, by decide⟩ q2045 q2046 q114 q2047 ⟨cn_35.1, cn_35.2, pd_61⟩ dL_law_1425) hd_no, m_cs⟩ (
  lkp_c (P := OkP 124) ⟨(PuOK.ok (ok_istore dL_law_1428)), m_istore⟩ (
  lkp_c (P := OkP 124) ⟨(PuOK.ok (ok_aload_n dL_law_1430 rfl)), m_aload⟩ (
  lkp_c (P := OkP 124) ⟨(PuOK.ok (ok_aload_n dL_law_1431 rfl)), m_aload⟩ (
  lkp_c (P := OkP 124) ⟨(PuOK.ok (ok_iload dL_law_1432)), m_iload⟩ (
  lkp_c (P := OkP 124) ⟨(PuOK.ok (ok_iconst dL_law_1434 rfl)), m_push⟩ (
  lkp_c (P := OkP 124) ⟨(PuOK.ok (ok_iadd dL_law_1435)), m_iop⟩ (
  lkp_c (P := OkP 124) ⟨ok_ialds dL_law_1436, m_rdIs⟩ (
  lkp_c (P := OkP 124) ⟨(PuOK.ok (ok_aload_n dL_law_1437 rfl)), m_aload⟩ (
  lkp_c (P := OkP 124) ⟨(PuOK.ok (ok_iload dL_law_1438)), m_iload⟩ (
  lkp_c (P := OkP 124) ⟨(PuOK.ok (ok_iconst dL_law_1440 rfl)), m_push⟩ (
  lkp_c (P := OkP 124) ⟨(PuOK.ok (ok_iadd dL_law_1441)), m_iop⟩ (
  lkp_c (P := OkP 124) ⟨ok_ialds dL_law_1442, m_rdIs⟩ (
  lkp_c (P := OkP 124) ⟨(PuOK.ok (ok_aload_n dL_law_1443 rfl)), m_aload⟩ (
  lkp_c (P := OkP 124) ⟨(PuOK.ok (ok_iload dL_law_1444)), m_iload⟩ (
  lkp_c (P := OkP 124) ⟨(PuOK.ok (ok_iconst dL_law_1446 rfl)), m_push⟩ (
  lkp_c (P := OkP 124) ⟨(PuOK.ok (ok_iadd dL_law_1447)), m_iop⟩ (
  lkp_c (P := OkP 124) ⟨ok_ialds dL_law_1448, m_rdIs⟩ (
  lkp_c (P := OkP 124) ⟨(PuOK.ok (ok_aload_n dL_law_1449 rfl)), m_aload⟩ (
  lkp_c (P := OkP 124) ⟨(PuOK.ok (ok_iload dL_law_1450)), m_iload⟩ (
  lkp_c (P := OkP 124) ⟨(PuOK.ok (ok_iconst dL_law_1452 rfl)), m_push⟩ (
  lkp_c (P := OkP 124) ⟨(PuOK.ok (ok_iadd dL_law_1453)), m_iop⟩ (
  lkp_c (P := OkP 124) ⟨ok_ialds dL_law_1454, m_rdIs⟩ (
  lkp_c (P := OkP 124) ⟨ok_cv (List.forall_mem_cons.mpr ⟨tg_V (ci := 30) (r := CLr 30) (y := 355) rfl ⟨rfl, by decide⟩ rfl q3483 q3484 q3485 q139 q3486 ⟨cn_34.1, cn_34.2, pd_62⟩ dL_law_1455, (List.forall_mem_nil _)⟩) hd_no, m_cv⟩ (
  lkp_c (P := OkP 124) ⟨(PuOK.ok (ok_istore dL_law_1458)), m_istore⟩ (
  lkp_c (P := OkP 124) ⟨(PuOK.ok (ok_aload_n dL_law_1460 rfl)), m_aload⟩ (
  lkp_c (P := OkP 124) ⟨ok_cv (List.forall_mem_cons.mpr ⟨tg_V (ci := 30) (r := CLr 30) (y := 289) rfl ⟨rfl, by decide⟩ rfl q3198 q3199 q3200 q139 q3201 ⟨cn_34.1, cn_34.2, pd_13⟩ dL_law_1461, (List.forall_mem_nil _)⟩) hd_no, m_cv⟩ (
  lkp_c (P := OkP 124) ⟨(PuOK.ok (ok_iload dL_law_1464)), m_iload⟩ (
  lkp_c (P := OkP 124) ⟨(PuOK.ok (ok_icmp_eq dL_law_1466 rfl)), m_icmp⟩ (
  lkp_c (P := OkP 124) ⟨(PuOK.ok (ok_iconst dL_law_1469 rfl)), m_push⟩ (
  lkp_c (P := OkP 124) ⟨ok_iret rfl rfl (by decide) dL_law_1470, m_ret⟩ (
  lkp_c (P := OkP 124) ⟨(PuOK.ok (ok_iload dL_law_1471)), m_iload⟩ (
  trivial))))))))))))))))))))))))))))))))))))))))))))))
theorem c_124_23 : LkP (OkP 124) [(1473, o_if (fun x => decide (¬ x = 0)) 1488), (1476, o_aload 3 1), (1477, o_push 1 (.int 0)), (1478, o_rdJ), (1479, o_iload 7 2), (1481, o_i2l), (1482, o_lcmp), (1483, o_if (fun x => decide (x = 0)) 1488), (1486, o_push 1 (.int 0)), (1487, o_ret 5), (1488, o_goto 2693), (1491, o_aload 1 1), (1492, o_aload 0 1), (1493, o_iload 5 2), (1495, o_push 1 (.int 1)), (1496, o_iop (fun x y => x + y)), (1497, o_rdIs 0), (1498, o_aload 0 1), (1499, o_iload 5 2), (1501, o_push 1 (.int 2)), (1502, o_iop (fun x y => x + y)), (1503, o_rdIs 0), (1504, o_aload 3 1), (1505, o_cs 142 4 false none), (1508, o_istore 6 2), (1510, o_aload 2 1), (1511, o_aload 0 1), (1512, o_iload 5 2), (1514, o_push 1 (.int 1)), (1515, o_iop (fun x y => x + y)), (1516, o_rdIs 0), (1517, o_aload 0 1), (1518, o_iload 5 2), (1520, o_push 1 (.int 2)), (1521, o_iop (fun x y => x + y)), (1522, o_rdIs 0), (1523, o_cv [(30, 356)] 2 3 false none), (1526, o_istore 7 2), (1528, o_aload 2 1), (1529, o_cv [(30, 289)] 0 3 false none), (1532, o_iload 6 2), (1534, o_icmp (fun x y => decide (x = y)) 1539)] := lkp_c (P := OkP 124) ⟨(PuOK.ok (ok_if_ne dL_law_1473 rfl)), m_if⟩ (
  lkp_c (P := OkP 124) ⟨(PuOK.ok (ok_aload_n dL_law_1476 rfl)), m_aload⟩ (
  lkp_c (P := OkP 124) ⟨(PuOK.ok (ok_iconst dL_law_1477 rfl)), m_push⟩ (
  lkp_c (P := OkP 124) ⟨ok_lald dL_law_1478, m_rdJ⟩ (
  lkp_c (P := OkP 124) ⟨(PuOK.ok (ok_iload dL_law_1479)), m_iload⟩ (
  lkp_c (P := OkP 124) ⟨(PuOK.ok (ok_i2l dL_law_1481)), m_i2l⟩ (
  lkp_c (P := OkP 124) ⟨(PuOK.ok (ok_lcmp dL_law_1482)), m_lcmp⟩ (
  lkp_c (P := OkP 124) ⟨(PuOK.ok (ok_if_eq dL_law_1483 rfl)), m_if⟩ (
  lkp_c (P := OkP 124) ⟨(PuOK.ok (ok_iconst dL_law_1486 rfl)), m_push⟩ (
  lkp_c (P := OkP 124) ⟨ok_iret rfl rfl (by decide) dL_law_1487, m_ret⟩ (
  lkp_c (P := OkP 124) ⟨(PuOK.ok (ok_goto dL_law_1488 rfl)), m_goto⟩ (
  lkp_c (P := OkP 124) ⟨(PuOK.ok (ok_aload_n dL_law_1491 rfl)), m_aload⟩ (
  lkp_c (P := OkP 124) ⟨(PuOK.ok (ok_aload_n dL_law_1492 rfl)), m_aload⟩ (
  lkp_c (P := OkP 124) ⟨(PuOK.ok (ok_iload dL_law_1493)), m_iload⟩ (
  lkp_c (P := OkP 124) ⟨(PuOK.ok (ok_iconst dL_law_1495 rfl)), m_push⟩ (
  lkp_c (P := OkP 124) ⟨(PuOK.ok (ok_iadd dL_law_1496)), m_iop⟩ (
  lkp_c (P := OkP 124) ⟨ok_ialds dL_law_1497, m_rdIs⟩ (
  lkp_c (P := OkP 124) ⟨(PuOK.ok (ok_aload_n dL_law_1498 rfl)), m_aload⟩ (
  lkp_c (P := OkP 124) ⟨(PuOK.ok (ok_iload dL_law_1499)), m_iload⟩ (
  lkp_c (P := OkP 124) ⟨(PuOK.ok (ok_iconst dL_law_1501 rfl)), m_push⟩ (
  lkp_c (P := OkP 124) ⟨(PuOK.ok (ok_iadd dL_law_1502)), m_iop⟩ (
  lkp_c (P := OkP 124) ⟨ok_ialds dL_law_1503, m_rdIs⟩ (
  lkp_c (P := OkP 124) ⟨(PuOK.ok (ok_aload_n dL_law_1504 rfl)), m_aload⟩ (
  lkp_c (P := OkP 124) ⟨ok_cs (tg_SW ⟨rfl, by decide⟩ q2053 q2054 q114 q2055 ⟨cn_35.1, cn_35.2, pd_64⟩ dL_law_1505) hd_no, m_cs⟩ (
  lkp_c (P := OkP 124) ⟨(PuOK.ok (ok_istore dL_law_1508)), m_istore⟩ (
  lkp_c (P := OkP 124) ⟨(PuOK.ok (ok_aload_n dL_law_1510 rfl)), m_aload⟩ (
  lkp_c (P := OkP 124) ⟨(PuOK.ok (ok_aload_n dL_law_1511 rfl)), m_aload⟩ (
  lkp_c (P := OkP 124) ⟨(PuOK.ok (ok_iload dL_law_1512)), m_iload⟩ (
  lkp_c (P := OkP 124) ⟨(PuOK.ok (ok_iconst dL_law_1514 rfl)), m_push⟩ (
  lkp_c (P := OkP 124) ⟨(PuOK.ok (ok_iadd dL_law_1515)), m_iop⟩ (
  lkp_c (P := OkP 124) ⟨ok_ialds dL_law_1516, m_rdIs⟩ (
  lkp_c (P := OkP 124) ⟨(PuOK.ok (ok_aload_n dL_law_1517 rfl)), m_aload⟩ (
  lkp_c (P := OkP 124) ⟨(PuOK.ok (ok_iload dL_law_1518)), m_iload⟩ (
  lkp_c (P := OkP 124) ⟨(PuOK.ok (ok_iconst dL_law_1520 rfl)), m_push⟩ (
  lkp_c (P := OkP 124) ⟨(PuOK.ok (ok_iadd dL_law_1521)), m_iop⟩ (
  lkp_c (P := OkP 124) ⟨ok_ialds dL_law_1522, m_rdIs⟩ (
  lkp_c (P := OkP 124) ⟨ok_cv (List.forall_mem_cons.mpr ⟨tg_V (ci := 30) (r := CLr 30) (y := 356) rfl ⟨rfl, by decide⟩ rfl q3487 q3488 q3489 q139 q3490 ⟨cn_34.1, cn_34.2, pd_1⟩ dL_law_1523, (List.forall_mem_nil _)⟩) hd_no, m_cv⟩ (
  lkp_c (P := OkP 124) ⟨(PuOK.ok (ok_istore dL_law_1526)), m_istore⟩ (
  lkp_c (P := OkP 124) ⟨(PuOK.ok (ok_aload_n dL_law_1528 rfl)), m_aload⟩ (
  lkp_c (P := OkP 124) ⟨ok_cv (List.forall_mem_cons.mpr ⟨tg_V (ci := 30) (r := CLr 30) (y := 289) rfl ⟨rfl, by decide⟩ rfl q3198 q3199 q3200 q139 q3201 ⟨cn_34.1, cn_34.2, pd_13⟩ dL_law_1529, (List.forall_mem_nil _)⟩) hd_no, m_cv⟩ (
  lkp_c (P := OkP 124) ⟨(PuOK.ok (ok_iload dL_law_1532)), m_iload⟩ (
  lkp_c (P := OkP 124) ⟨(PuOK.ok (ok_icmp_eq dL_law_1534 rfl)), m_icmp⟩ (
  trivial))))))))))))))))))))))))))))))))))))))))))
theorem c_124_24 : LkP (OkP 124) [(1537, o_push 1 (.int 0)), (1538, o_ret 5), (1539, o_iload 6 2), (1541, o_if (fun x => decide (¬ x = 0)) 1556), (1544, o_aload 3 1), (1545, o_push 1 (.int 0)), (1546, o_rdJ), (1547, o_iload 7 2), (1549, o_i2l), (1550, o_lcmp), (1551, o_if (fun x => decide (x = 0)) 1556), (1554, o_push 1 (.int 0)), (1555, o_ret 5), (1556, o_goto 2693), (1559, o_aload 1 1), (1560, o_aload 0 1), (1561, o_iload 5 2), (1563, o_push 1 (.int 1)), (1564, o_iop (fun x y => x + y)), (1565, o_rdIs 0), (1566, o_aload 3 1), (1567, o_cs 143 3 false none), (1570, o_istore 6 2), (1572, o_aload 2 1), (1573, o_aload 0 1), (1574, o_iload 5 2), (1576, o_push 1 (.int 1)), (1577, o_iop (fun x y => x + y)), (1578, o_rdIs 0), (1579, o_cv [(30, 358)] 1 3 false none), (1582, o_istore 7 2), (1584, o_aload 2 1), (1585, o_cv [(30, 289)] 0 3 false none), (1588, o_iload 6 2), (1590, o_icmp (fun x y => decide (x = y)) 1595), (1593, o_push 1 (.int 0)), (1594, o_ret 5), (1595, o_iload 6 2), (1597, o_if (fun x => decide (¬ x = 0)) 1612)] := lkp_c (P := OkP 124) ⟨(PuOK.ok (ok_iconst dL_law_1537 rfl)), m_push⟩ (
  lkp_c (P := OkP 124) ⟨ok_iret rfl rfl (by decide) dL_law_1538, m_ret⟩ (
  lkp_c (P := OkP 124) ⟨(PuOK.ok (ok_iload dL_law_1539)), m_iload⟩ (
  lkp_c (P := OkP 124) ⟨(PuOK.ok (ok_if_ne dL_law_1541 rfl)), m_if⟩ (
  lkp_c (P := OkP 124) ⟨(PuOK.ok (ok_aload_n dL_law_1544 rfl)), m_aload⟩ (
  lkp_c (P := OkP 124) ⟨(PuOK.ok (ok_iconst dL_law_1545 rfl)), m_push⟩ (
  lkp_c (P := OkP 124) ⟨ok_lald dL_law_1546, m_rdJ⟩ (
  lkp_c (P := OkP 124) ⟨(PuOK.ok (ok_iload dL_law_1547)), m_iload⟩ (
  lkp_c (P := OkP 124) ⟨(PuOK.ok (ok_i2l dL_law_1549)), m_i2l⟩ (
  lkp_c (P := OkP 124) ⟨(PuOK.ok (ok_lcmp dL_law_1550)), m_lcmp⟩ (
  lkp_c (P := OkP 124) ⟨(PuOK.ok (ok_if_eq dL_law_1551 rfl)), m_if⟩ (
  lkp_c (P := OkP 124) ⟨(PuOK.ok (ok_iconst dL_law_1554 rfl)), m_push⟩ (
  lkp_c (P := OkP 124) ⟨ok_iret rfl rfl (by decide) dL_law_1555, m_ret⟩ (
  lkp_c (P := OkP 124) ⟨(PuOK.ok (ok_goto dL_law_1556 rfl)), m_goto⟩ (
  lkp_c (P := OkP 124) ⟨(PuOK.ok (ok_aload_n dL_law_1559 rfl)), m_aload⟩ (
  lkp_c (P := OkP 124) ⟨(PuOK.ok (ok_aload_n dL_law_1560 rfl)), m_aload⟩ (
  lkp_c (P := OkP 124) ⟨(PuOK.ok (ok_iload dL_law_1561)), m_iload⟩ (
  lkp_c (P := OkP 124) ⟨(PuOK.ok (ok_iconst dL_law_1563 rfl)), m_push⟩ (
  lkp_c (P := OkP 124) ⟨(PuOK.ok (ok_iadd dL_law_1564)), m_iop⟩ (
  lkp_c (P := OkP 124) ⟨ok_ialds dL_law_1565, m_rdIs⟩ (
  lkp_c (P := OkP 124) ⟨(PuOK.ok (ok_aload_n dL_law_1566 rfl)), m_aload⟩ (
  lkp_c (P := OkP 124) ⟨ok_cs (tg_SW ⟨rfl, by decide⟩ q2068 q2069 q114 q2070 ⟨cn_35.1, cn_35.2, pd_60⟩ dL_law_1567) hd_no, m_cs⟩ (
  lkp_c (P := OkP 124) ⟨(PuOK.ok (ok_istore dL_law_1570)), m_istore⟩ (
  lkp_c (P := OkP 124) ⟨(PuOK.ok (ok_aload_n dL_law_1572 rfl)), m_aload⟩ (
  lkp_c (P := OkP 124) ⟨(PuOK.ok (ok_aload_n dL_law_1573 rfl)), m_aload⟩ (
  lkp_c (P := OkP 124) ⟨(PuOK.ok (ok_iload dL_law_1574)), m_iload⟩ (
  lkp_c (P := OkP 124) ⟨(PuOK.ok (ok_iconst dL_law_1576 rfl)), m_push⟩ (
  lkp_c (P := OkP 124) ⟨(PuOK.ok (ok_iadd dL_law_1577)), m_iop⟩ (
  lkp_c (P := OkP 124) ⟨ok_ialds dL_law_1578, m_rdIs⟩ (
  lkp_c (P := OkP 124) ⟨ok_cv (List.forall_mem_cons.mpr ⟨tg_V (ci := 30) (r := CLr 30) (y := 358) rfl ⟨rfl, by decide⟩ rfl q3495 q3496 q3497 q139 q3498 ⟨cn_34.1, cn_34.2, pd_48⟩ dL_law_1579, (List.forall_mem_nil _)⟩) hd_no, m_cv⟩ (
  lkp_c (P := OkP 124) ⟨(PuOK.ok (ok_istore dL_law_1582)), m_istore⟩ (
  lkp_c (P := OkP 124) ⟨(PuOK.ok (ok_aload_n dL_law_1584 rfl)), m_aload⟩ (
  lkp_c (P := OkP 124) ⟨ok_cv (List.forall_mem_cons.mpr ⟨tg_V (ci := 30) (r := CLr 30) (y := 289) rfl ⟨rfl, by decide⟩ rfl q3198 q3199 q3200 q139 q3201 ⟨cn_34.1, cn_34.2, pd_13⟩ dL_law_1585, (List.forall_mem_nil _)⟩) hd_no, m_cv⟩ (
  lkp_c (P := OkP 124) ⟨(PuOK.ok (ok_iload dL_law_1588)), m_iload⟩ (
  lkp_c (P := OkP 124) ⟨(PuOK.ok (ok_icmp_eq dL_law_1590 rfl)), m_icmp⟩ (
  lkp_c (P := OkP 124) ⟨(PuOK.ok (ok_iconst dL_law_1593 rfl)), m_push⟩ (
  lkp_c (P := OkP 124) ⟨ok_iret rfl rfl (by decide) dL_law_1594, m_ret⟩ (
  lkp_c (P := OkP 124) ⟨(PuOK.ok (ok_iload dL_law_1595)), m_iload⟩ (
  lkp_c (P := OkP 124) ⟨(PuOK.ok (ok_if_ne dL_law_1597 rfl)), m_if⟩ (
  trivial)))))))))))))))))))))))))))))))))))))))
theorem c_124_25 : LkP (OkP 124) [(1600, o_aload 3 1), (1601, o_push 1 (.int 0)), (1602, o_rdJ), (1603, o_iload 7 2), (1605, o_i2l), (1606, o_lcmp), (1607, o_if (fun x => decide (x = 0)) 1612), (1610, o_push 1 (.int 0)), (1611, o_ret 5), (1612, o_goto 2693), (1615, o_aload 1 1), (1616, o_aload 0 1), (1617, o_iload 5 2), (1619, o_push 1 (.int 1)), (1620, o_iop (fun x y => x + y)), (1621, o_rdIs 0), (1622, o_aload 3 1), (1623, o_cs 144 3 false none), (1626, o_istore 6 2), (1628, o_aload 2 1), (1629, o_aload 0 1), (1630, o_iload 5 2), (1632, o_push 1 (.int 1)), (1633, o_iop (fun x y => x + y)), (1634, o_rdIs 0), (1635, o_cv [(30, 361)] 1 3 false none), (1638, o_istore 7 2), (1640, o_aload 2 1), (1641, o_cv [(30, 289)] 0 3 false none), (1644, o_iload 6 2), (1646, o_icmp (fun x y => decide (x = y)) 1651), (1649, o_push 1 (.int 0)), (1650, o_ret 5), (1651, o_iload 6 2), (1653, o_if (fun x => decide (¬ x = 0)) 1668), (1656, o_aload 3 1), (1657, o_push 1 (.int 0)), (1658, o_rdJ), (1659, o_iload 7 2), (1661, o_i2l), (1662, o_lcmp), (1663, o_if (fun x => decide (x = 0)) 1668)] := lkp_c (P := OkP 124) ⟨(PuOK.ok (ok_aload_n dL_law_1600 rfl)), m_aload⟩ (
  lkp_c (P := OkP 124) ⟨(PuOK.ok (ok_iconst dL_law_1601 rfl)), m_push⟩ (
  lkp_c (P := OkP 124) ⟨ok_lald dL_law_1602, m_rdJ⟩ (
  lkp_c (P := OkP 124) ⟨(PuOK.ok (ok_iload dL_law_1603)), m_iload⟩ (
  lkp_c (P := OkP 124) ⟨(PuOK.ok (ok_i2l dL_law_1605)), m_i2l⟩ (
  lkp_c (P := OkP 124) ⟨(PuOK.ok (ok_lcmp dL_law_1606)), m_lcmp⟩ (
  lkp_c (P := OkP 124) ⟨(PuOK.ok (ok_if_eq dL_law_1607 rfl)), m_if⟩ (
  lkp_c (P := OkP 124) ⟨(PuOK.ok (ok_iconst dL_law_1610 rfl)), m_push⟩ (
  lkp_c (P := OkP 124) ⟨ok_iret rfl rfl (by decide) dL_law_1611, m_ret⟩ (
  lkp_c (P := OkP 124) ⟨(PuOK.ok (ok_goto dL_law_1612 rfl)), m_goto⟩ (
  lkp_c (P := OkP 124) ⟨(PuOK.ok (ok_aload_n dL_law_1615 rfl)), m_aload⟩ (
  lkp_c (P := OkP 124) ⟨(PuOK.ok (ok_aload_n dL_law_1616 rfl)), m_aload⟩ (
  lkp_c (P := OkP 124) ⟨(PuOK.ok (ok_iload dL_law_1617)), m_iload⟩ (
  lkp_c (P := OkP 124) ⟨(PuOK.ok (ok_iconst dL_law_1619 rfl)), m_push⟩ (
  lkp_c (P := OkP 124) ⟨(PuOK.ok (ok_iadd dL_law_1620)), m_iop⟩ (
  lkp_c (P := OkP 124) ⟨ok_ialds dL_law_1621, m_rdIs⟩ (
  lkp_c (P := OkP 124) ⟨(PuOK.ok (ok_aload_n dL_law_1622 rfl)), m_aload⟩ (
  lkp_c (P := OkP 124) ⟨ok_cs (tg_SW ⟨rfl, by decide⟩ q2198 q2199 q114 q2200 ⟨cn_35.1, cn_35.2, pd_60⟩ dL_law_1623) hd_no, m_cs⟩ (
  lkp_c (P := OkP 124) ⟨(PuOK.ok (ok_istore dL_law_1626)), m_istore⟩ (
  lkp_c (P := OkP 124) ⟨(PuOK.ok (ok_aload_n dL_law_1628 rfl)), m_aload⟩ (
  lkp_c (P := OkP 124) ⟨(PuOK.ok (ok_aload_n dL_law_1629 rfl)), m_aload⟩ (
  lkp_c (P := OkP 124) ⟨(PuOK.ok (ok_iload dL_law_1630)), m_iload⟩ (
  lkp_c (P := OkP 124) ⟨(PuOK.ok (ok_iconst dL_law_1632 rfl)), m_push⟩ (
  lkp_c (P := OkP 124) ⟨(PuOK.ok (ok_iadd dL_law_1633)), m_iop⟩ (
  lkp_c (P := OkP 124) ⟨ok_ialds dL_law_1634, m_rdIs⟩ (
  lkp_c (P := OkP 124) ⟨ok_cv (List.forall_mem_cons.mpr ⟨tg_V (ci := 30) (r := CLr 30) (y := 361) rfl ⟨rfl, by decide⟩ rfl q3507 q3508 q3509 q139 q3510 ⟨cn_34.1, cn_34.2, pd_48⟩ dL_law_1635, (List.forall_mem_nil _)⟩) hd_no, m_cv⟩ (
  lkp_c (P := OkP 124) ⟨(PuOK.ok (ok_istore dL_law_1638)), m_istore⟩ (
  lkp_c (P := OkP 124) ⟨(PuOK.ok (ok_aload_n dL_law_1640 rfl)), m_aload⟩ (
  lkp_c (P := OkP 124) ⟨ok_cv (List.forall_mem_cons.mpr ⟨tg_V (ci := 30) (r := CLr 30) (y := 289) rfl ⟨rfl, by decide⟩ rfl q3198 q3199 q3200 q139 q3201 ⟨cn_34.1, cn_34.2, pd_13⟩ dL_law_1641, (List.forall_mem_nil _)⟩) hd_no, m_cv⟩ (
  lkp_c (P := OkP 124) ⟨(PuOK.ok (ok_iload dL_law_1644)), m_iload⟩ (
  lkp_c (P := OkP 124) ⟨(PuOK.ok (ok_icmp_eq dL_law_1646 rfl)), m_icmp⟩ (
  lkp_c (P := OkP 124) ⟨(PuOK.ok (ok_iconst dL_law_1649 rfl)), m_push⟩ (
  lkp_c (P := OkP 124) ⟨ok_iret rfl rfl (by decide) dL_law_1650, m_ret⟩ (
  lkp_c (P := OkP 124) ⟨(PuOK.ok (ok_iload dL_law_1651)), m_iload⟩ (
  lkp_c (P := OkP 124) ⟨(PuOK.ok (ok_if_ne dL_law_1653 rfl)), m_if⟩ (
  lkp_c (P := OkP 124) ⟨(PuOK.ok (ok_aload_n dL_law_1656 rfl)), m_aload⟩ (
  lkp_c (P := OkP 124) ⟨(PuOK.ok (ok_iconst dL_law_1657 rfl)), m_push⟩ (
  lkp_c (P := OkP 124) ⟨ok_lald dL_law_1658, m_rdJ⟩ (
  lkp_c (P := OkP 124) ⟨(PuOK.ok (ok_iload dL_law_1659)), m_iload⟩ (
  lkp_c (P := OkP 124) ⟨(PuOK.ok (ok_i2l dL_law_1661)), m_i2l⟩ (
  lkp_c (P := OkP 124) ⟨(PuOK.ok (ok_lcmp dL_law_1662)), m_lcmp⟩ (
  lkp_c (P := OkP 124) ⟨(PuOK.ok (ok_if_eq dL_law_1663 rfl)), m_if⟩ (
  trivial))))))))))))))))))))))))))))))))))))))))))
theorem c_124_26 : LkP (OkP 124) [(1666, o_push 1 (.int 0)), (1667, o_ret 5), (1668, o_goto 2693), (1671, o_aload 1 1), (1672, o_aload 0 1), (1673, o_iload 5 2), (1675, o_push 1 (.int 1)), (1676, o_iop (fun x y => x + y)), (1677, o_rdIs 0), (1678, o_aload 0 1), (1679, o_iload 5 2), (1681, o_push 1 (.int 2)), (1682, o_iop (fun x y => x + y)), (1683, o_rdIs 0), (1684, o_aload 3 1), (1685, o_cs 145 4 false none), (1688, o_istore 6 2), (1690, o_aload 2 1), (1691, o_aload 0 1), (1692, o_iload 5 2), (1694, o_push 1 (.int 1)), (1695, o_iop (fun x y => x + y)), (1696, o_rdIs 0), (1697, o_aload 0 1), (1698, o_iload 5 2), (1700, o_push 1 (.int 2)), (1701, o_iop (fun x y => x + y)), (1702, o_rdIs 0), (1703, o_cv [(30, 362)] 2 3 false none), (1706, o_istore 7 2), (1708, o_aload 2 1), (1709, o_cv [(30, 289)] 0 3 false none), (1712, o_iload 6 2), (1714, o_icmp (fun x y => decide (x = y)) 1719), (1717, o_push 1 (.int 0)), (1718, o_ret 5), (1719, o_iload 6 2), (1721, o_if (fun x => decide (¬ x = 0)) 1736), (1724, o_aload 3 1), (1725, o_push 1 (.int 0)), (1726, o_rdJ), (1727, o_iload 7 2)] := lkp_c (P := OkP 124) ⟨(PuOK.ok (ok_iconst dL_law_1666 rfl)), m_push⟩ (
  lkp_c (P := OkP 124) ⟨ok_iret rfl rfl (by decide) dL_law_1667, m_ret⟩ (
  lkp_c (P := OkP 124) ⟨(PuOK.ok (ok_goto dL_law_1668 rfl)), m_goto⟩ (
  lkp_c (P := OkP 124) ⟨(PuOK.ok (ok_aload_n dL_law_1671 rfl)), m_aload⟩ (
  lkp_c (P := OkP 124) ⟨(PuOK.ok (ok_aload_n dL_law_1672 rfl)), m_aload⟩ (
  lkp_c (P := OkP 124) ⟨(PuOK.ok (ok_iload dL_law_1673)), m_iload⟩ (
  lkp_c (P := OkP 124) ⟨(PuOK.ok (ok_iconst dL_law_1675 rfl)), m_push⟩ (
  lkp_c (P := OkP 124) ⟨(PuOK.ok (ok_iadd dL_law_1676)), m_iop⟩ (
  lkp_c (P := OkP 124) ⟨ok_ialds dL_law_1677, m_rdIs⟩ (
  lkp_c (P := OkP 124) ⟨(PuOK.ok (ok_aload_n dL_law_1678 rfl)), m_aload⟩ (
  lkp_c (P := OkP 124) ⟨(PuOK.ok (ok_iload dL_law_1679)), m_iload⟩ (
  lkp_c (P := OkP 124) ⟨(PuOK.ok (ok_iconst dL_law_1681 rfl)), m_push⟩ (
  lkp_c (P := OkP 124) ⟨(PuOK.ok (ok_iadd dL_law_1682)), m_iop⟩ (
  lkp_c (P := OkP 124) ⟨ok_ialds dL_law_1683, m_rdIs⟩ (
  lkp_c (P := OkP 124) ⟨(PuOK.ok (ok_aload_n dL_law_1684 rfl)), m_aload⟩ (
  lkp_c (P := OkP 124) ⟨ok_cs (tg_SW ⟨rfl, by decide⟩ q2206 q2207 q114 q2208 ⟨cn_35.1, cn_35.2, pd_64⟩ dL_law_1685) hd_no, m_cs⟩ (
  lkp_c (P := OkP 124) ⟨(PuOK.ok (ok_istore dL_law_1688)), m_istore⟩ (
  lkp_c (P := OkP 124) ⟨(PuOK.ok (ok_aload_n dL_law_1690 rfl)), m_aload⟩ (
  lkp_c (P := OkP 124) ⟨(PuOK.ok (ok_aload_n dL_law_1691 rfl)), m_aload⟩ (
  lkp_c (P := OkP 124) ⟨(PuOK.ok (ok_iload dL_law_1692)), m_iload⟩ (
  lkp_c (P := OkP 124) ⟨(PuOK.ok (ok_iconst dL_law_1694 rfl)), m_push⟩ (
  lkp_c (P := OkP 124) ⟨(PuOK.ok (ok_iadd dL_law_1695)), m_iop⟩ (
  lkp_c (P := OkP 124) ⟨ok_ialds dL_law_1696, m_rdIs⟩ (
  lkp_c (P := OkP 124) ⟨(PuOK.ok (ok_aload_n dL_law_1697 rfl)), m_aload⟩ (
  lkp_c (P := OkP 124) ⟨(PuOK.ok (ok_iload dL_law_1698)), m_iload⟩ (
  lkp_c (P := OkP 124) ⟨(PuOK.ok (ok_iconst dL_law_1700 rfl)), m_push⟩ (
  lkp_c (P := OkP 124) ⟨(PuOK.ok (ok_iadd dL_law_1701)), m_iop⟩ (
  lkp_c (P := OkP 124) ⟨ok_ialds dL_law_1702, m_rdIs⟩ (
  lkp_c (P := OkP 124) ⟨ok_cv (List.forall_mem_cons.mpr ⟨tg_V (ci := 30) (r := CLr 30) (y := 362) rfl ⟨rfl, by decide⟩ rfl q3511 q3512 q3513 q139 q3514 ⟨cn_34.1, cn_34.2, pd_1⟩ dL_law_1703, (List.forall_mem_nil _)⟩) hd_no, m_cv⟩ (
  lkp_c (P := OkP 124) ⟨(PuOK.ok (ok_istore dL_law_1706)), m_istore⟩ (
  lkp_c (P := OkP 124) ⟨(PuOK.ok (ok_aload_n dL_law_1708 rfl)), m_aload⟩ (
  lkp_c (P := OkP 124) ⟨ok_cv (List.forall_mem_cons.mpr ⟨tg_V (ci := 30) (r := CLr 30) (y := 289) rfl ⟨rfl, by decide⟩ rfl q3198 q3199 q3200 q139 q3201 ⟨cn_34.1, cn_34.2, pd_13⟩ dL_law_1709, (List.forall_mem_nil _)⟩) hd_no, m_cv⟩ (
  lkp_c (P := OkP 124) ⟨(PuOK.ok (ok_iload dL_law_1712)), m_iload⟩ (
  lkp_c (P := OkP 124) ⟨(PuOK.ok (ok_icmp_eq dL_law_1714 rfl)), m_icmp⟩ (
  lkp_c (P := OkP 124) ⟨(PuOK.ok (ok_iconst dL_law_1717 rfl)), m_push⟩ (
  lkp_c (P := OkP 124) ⟨ok_iret rfl rfl (by decide) dL_law_1718, m_ret⟩ (
  lkp_c (P := OkP 124) ⟨(PuOK.ok (ok_iload dL_law_1719)), m_iload⟩ (
  lkp_c (P := OkP 124) ⟨(PuOK.ok (ok_if_ne dL_law_1721 rfl)), m_if⟩ (
  lkp_c (P := OkP 124) ⟨(PuOK.ok (ok_aload_n dL_law_1724 rfl)), m_aload⟩ (
  lkp_c (P := OkP 124) ⟨(PuOK.ok (ok_iconst dL_law_1725 rfl)), m_push⟩ (
  lkp_c (P := OkP 124) ⟨ok_lald dL_law_1726, m_rdJ⟩ (
  lkp_c (P := OkP 124) ⟨(PuOK.ok (ok_iload dL_law_1727)), m_iload⟩ (
  trivial))))))))))))))))))))))))))))))))))))))))))
theorem c_124_27 : LkP (OkP 124) [(1729, o_i2l), (1730, o_lcmp), (1731, o_if (fun x => decide (x = 0)) 1736), (1734, o_push 1 (.int 0)), (1735, o_ret 5), (1736, o_goto 2693), (1739, o_aload 1 1), (1740, o_aload 0 1), (1741, o_iload 5 2), (1743, o_push 1 (.int 1)), (1744, o_iop (fun x y => x + y)), (1745, o_rdIs 0), (1746, o_aload 3 1), (1747, o_cs 146 3 false none), (1750, o_istore 6 2), (1752, o_aload 2 1), (1753, o_aload 0 1), (1754, o_iload 5 2), (1756, o_push 1 (.int 1)), (1757, o_iop (fun x y => x + y)), (1758, o_rdIs 0), (1759, o_cv [(30, 363)] 1 3 false none), (1762, o_istore 7 2), (1764, o_aload 2 1), (1765, o_cv [(30, 289)] 0 3 false none), (1768, o_iload 6 2), (1770, o_icmp (fun x y => decide (x = y)) 1775), (1773, o_push 1 (.int 0)), (1774, o_ret 5), (1775, o_iload 6 2), (1777, o_if (fun x => decide (¬ x = 0)) 1792), (1780, o_aload 3 1), (1781, o_push 1 (.int 0)), (1782, o_rdJ), (1783, o_iload 7 2), (1785, o_i2l), (1786, o_lcmp), (1787, o_if (fun x => decide (x = 0)) 1792), (1790, o_push 1 (.int 0)), (1791, o_ret 5)] := lkp_c (P := OkP 124) ⟨(PuOK.ok (ok_i2l dL_law_1729)), m_i2l⟩ (
  lkp_c (P := OkP 124) ⟨(PuOK.ok (ok_lcmp dL_law_1730)), m_lcmp⟩ (
  lkp_c (P := OkP 124) ⟨(PuOK.ok (ok_if_eq dL_law_1731 rfl)), m_if⟩ (
  lkp_c (P := OkP 124) ⟨(PuOK.ok (ok_iconst dL_law_1734 rfl)), m_push⟩ (
  lkp_c (P := OkP 124) ⟨ok_iret rfl rfl (by decide) dL_law_1735, m_ret⟩ (
  lkp_c (P := OkP 124) ⟨(PuOK.ok (ok_goto dL_law_1736 rfl)), m_goto⟩ (
  lkp_c (P := OkP 124) ⟨(PuOK.ok (ok_aload_n dL_law_1739 rfl)), m_aload⟩ (
  lkp_c (P := OkP 124) ⟨(PuOK.ok (ok_aload_n dL_law_1740 rfl)), m_aload⟩ (
  lkp_c (P := OkP 124) ⟨(PuOK.ok (ok_iload dL_law_1741)), m_iload⟩ (
  lkp_c (P := OkP 124) ⟨(PuOK.ok (ok_iconst dL_law_1743 rfl)), m_push⟩ (
  lkp_c (P := OkP 124) ⟨(PuOK.ok (ok_iadd dL_law_1744)), m_iop⟩ (
  lkp_c (P := OkP 124) ⟨ok_ialds dL_law_1745, m_rdIs⟩ (
  lkp_c (P := OkP 124) ⟨(PuOK.ok (ok_aload_n dL_law_1746 rfl)), m_aload⟩ (
  lkp_c (P := OkP 124) ⟨ok_cs (tg_SW ⟨rfl, by decide⟩ q2213 q2214 q114 q2215 ⟨cn_35.1, cn_35.2, pd_60⟩ dL_law_1747) hd_no, m_cs⟩ (
  lkp_c (P := OkP 124) ⟨(PuOK.ok (ok_istore dL_law_1750)), m_istore⟩ (
  lkp_c (P := OkP 124) ⟨(PuOK.ok (ok_aload_n dL_law_1752 rfl)), m_aload⟩ (
  lkp_c (P := OkP 124) ⟨(PuOK.ok (ok_aload_n dL_law_1753 rfl)), m_aload⟩ (
  lkp_c (P := OkP 124) ⟨(PuOK.ok (ok_iload dL_law_1754)), m_iload⟩ (
  lkp_c (P := OkP 124) ⟨(PuOK.ok (ok_iconst dL_law_1756 rfl)), m_push⟩ (
  lkp_c (P := OkP 124) ⟨(PuOK.ok (ok_iadd dL_law_1757)), m_iop⟩ (
  lkp_c (P := OkP 124) ⟨ok_ialds dL_law_1758, m_rdIs⟩ (
  lkp_c (P := OkP 124) ⟨ok_cv (List.forall_mem_cons.mpr ⟨tg_V (ci := 30) (r := CLr 30) (y := 363) rfl ⟨rfl, by decide⟩ rfl q3515 q3516 q3517 q139 q3518 ⟨cn_34.1, cn_34.2, pd_48⟩ dL_law_1759, (List.forall_mem_nil _)⟩) hd_no, m_cv⟩ (
  lkp_c (P := OkP 124) ⟨(PuOK.ok (ok_istore dL_law_1762)), m_istore⟩ (
  lkp_c (P := OkP 124) ⟨(PuOK.ok (ok_aload_n dL_law_1764 rfl)), m_aload⟩ (
  lkp_c (P := OkP 124) ⟨ok_cv (List.forall_mem_cons.mpr ⟨tg_V (ci := 30) (r := CLr 30) (y := 289) rfl ⟨rfl, by decide⟩ rfl q3198 q3199 q3200 q139 q3201 ⟨cn_34.1, cn_34.2, pd_13⟩ dL_law_1765, (List.forall_mem_nil _)⟩) hd_no, m_cv⟩ (
  lkp_c (P := OkP 124) ⟨(PuOK.ok (ok_iload dL_law_1768)), m_iload⟩ (
  lkp_c (P := OkP 124) ⟨(PuOK.ok (ok_icmp_eq dL_law_1770 rfl)), m_icmp⟩ (
  lkp_c (P := OkP 124) ⟨(PuOK.ok (ok_iconst dL_law_1773 rfl)), m_push⟩ (
  lkp_c (P := OkP 124) ⟨ok_iret rfl rfl (by decide) dL_law_1774, m_ret⟩ (
  lkp_c (P := OkP 124) ⟨(PuOK.ok (ok_iload dL_law_1775)), m_iload⟩ (
  lkp_c (P := OkP 124) ⟨(PuOK.ok (ok_if_ne dL_law_1777 rfl)), m_if⟩ (
  lkp_c (P := OkP 124) ⟨(PuOK.ok (ok_aload_n dL_law_1780 rfl)), m_aload⟩ (
  lkp_c (P := OkP 124) ⟨(PuOK.ok (ok_iconst dL_law_1781 rfl)), m_push⟩ (
  lkp_c (P := OkP 124) ⟨ok_lald dL_law_1782, m_rdJ⟩ (
  lkp_c (P := OkP 124) ⟨(PuOK.ok (ok_iload dL_law_1783)), m_iload⟩ (
  lkp_c (P := OkP 124) ⟨(PuOK.ok (ok_i2l dL_law_1785)), m_i2l⟩ (
  lkp_c (P := OkP 124) ⟨(PuOK.ok (ok_lcmp dL_law_1786)), m_lcmp⟩ (
  lkp_c (P := OkP 124) ⟨(PuOK.ok (ok_if_eq dL_law_1787 rfl)), m_if⟩ (
  lkp_c (P := OkP 124) ⟨(PuOK.ok (ok_iconst dL_law_1790 rfl)), m_push⟩ (
  lkp_c (P := OkP 124) ⟨ok_iret rfl rfl (by decide) dL_law_1791, m_ret⟩ (
  trivial))))))))))))))))))))))))))))))))))))))))
theorem c_124_28 : LkP (OkP 124) [(1792, o_goto 2693), (1795, o_aload 1 1), (1796, o_aload 0 1), (1797, o_iload 5 2), (1799, o_push 1 (.int 1)), (1800, o_iop (fun x y => x + y)), (1801, o_rdIs 0), (1802, o_aload 0 1), (1803, o_iload 5 2), (1805, o_push 1 (.int 2)), (1806, o_iop (fun x y => x + y)), (1807, o_rdIs 0), (1808, o_aload 0 1), (1809, o_iload 5 2), (1811, o_push 1 (.int 3)), (1812, o_iop (fun x y => x + y)), (1813, o_rdIs 0), (1814, o_aload 3 1), (1815, o_cs 147 5 false none), (1818, o_istore 6 2), (1820, o_aload 2 1), (1821, o_aload 0 1), (1822, o_iload 5 2), (1824, o_push 1 (.int 1)), (1825, o_iop (fun x y => x + y)), (1826, o_rdIs 0), (1827, o_aload 0 1), (1828, o_iload 5 2), (1830, o_push 1 (.int 2)), (1831, o_iop (fun x y => x + y)), (1832, o_rdIs 0), (1833, o_aload 0 1), (1834, o_iload 5 2), (1836, o_push 1 (.int 3)), (1837, o_iop (fun x y => x + y)), (1838, o_rdIs 0), (1839, o_cv [(30, 369)] 3 3 false none), (1842, o_istore 7 2), (1844, o_aload 2 1), (1845, o_cv [(30, 289)] 0 3 false none), (1848, o_iload 6 2), (1850, o_icmp (fun x y => decide (x = y)) 1855), (1853, o_push 1 (.int 0)), (1854, o_ret 5), (1855, o_iload 6 2)] := lkp_c (P := OkP 124) ⟨(PuOK.ok (ok_goto dL_law_1792 rfl)), m_goto⟩ (
  lkp_c (P := OkP 124) ⟨(PuOK.ok (ok_aload_n dL_law_1795 rfl)), m_aload⟩ (
  lkp_c (P := OkP 124) ⟨(PuOK.ok (ok_aload_n dL_law_1796 rfl)), m_aload⟩ (
  lkp_c (P := OkP 124) ⟨(PuOK.ok (ok_iload dL_law_1797)), m_iload⟩ (
  lkp_c (P := OkP 124) ⟨(PuOK.ok (ok_iconst dL_law_1799 rfl)), m_push⟩ (
  lkp_c (P := OkP 124) ⟨(PuOK.ok (ok_iadd dL_law_1800)), m_iop⟩ (
  lkp_c (P := OkP 124) ⟨ok_ialds dL_law_1801, m_rdIs⟩ (
  lkp_c (P := OkP 124) ⟨(PuOK.ok (ok_aload_n dL_law_1802 rfl)), m_aload⟩ (
  lkp_c (P := OkP 124) ⟨(PuOK.ok (ok_iload dL_law_1803)), m_iload⟩ (
  lkp_c (P := OkP 124) ⟨(PuOK.ok (ok_iconst dL_law_1805 rfl)), m_push⟩ (
  lkp_c (P := OkP 124) ⟨(PuOK.ok (ok_iadd dL_law_1806)), m_iop⟩ (
  lkp_c (P := OkP 124) ⟨ok_ialds dL_law_1807, m_rdIs⟩ (
  lkp_c (P := OkP 124) ⟨(PuOK.ok (ok_aload_n dL_law_1808 rfl)), m_aload⟩ (
  lkp_c (P := OkP 124) ⟨(PuOK.ok (ok_iload dL_law_1809)), m_iload⟩ (
  lkp_c (P := OkP 124) ⟨(PuOK.ok (ok_iconst dL_law_1811 rfl)), m_push⟩ (
  lkp_c (P := OkP 124) ⟨(PuOK.ok (ok_iadd dL_law_1812)), m_iop⟩ (
  lkp_c (P := OkP 124) ⟨ok_ialds dL_law_1813, m_rdIs⟩ (
  lkp_c (P := OkP 124) ⟨(PuOK.ok (ok_aload_n dL_law_1814 rfl)), m_aload⟩ (
  lkp_c (P := OkP 124) ⟨ok_cs (tg_SW ⟨rfl, by decide⟩ q2522 q2523 q114 q2524 ⟨cn_35.1, cn_35.2, pd_63⟩ dL_law_1815) hd_no, m_cs⟩ (
  lkp_c (P := OkP 124) ⟨(PuOK.ok (ok_istore dL_law_1818)), m_istore⟩ (
  lkp_c (P := OkP 124) ⟨(PuOK.ok (ok_aload_n dL_law_1820 rfl)), m_aload⟩ (
  lkp_c (P := OkP 124) ⟨(PuOK.ok (ok_aload_n dL_law_1821 rfl)), m_aload⟩ (
  lkp_c (P := OkP 124) ⟨(PuOK.ok (ok_iload dL_law_1822)), m_iload⟩ (
  lkp_c (P := OkP 124) ⟨(PuOK.ok (ok_iconst dL_law_1824 rfl)), m_push⟩ (
  lkp_c (P := OkP 124) ⟨(PuOK.ok (ok_iadd dL_law_1825)), m_iop⟩ (
  lkp_c (P := OkP 124) ⟨ok_ialds dL_law_1826, m_rdIs⟩ (
  lkp_c (P := OkP 124) ⟨(PuOK.ok (ok_aload_n dL_law_1827 rfl)), m_aload⟩ (
  lkp_c (P := OkP 124) ⟨(PuOK.ok (ok_iload dL_law_1828)), m_iload⟩ (
  lkp_c (P := OkP 124) ⟨(PuOK.ok (ok_iconst dL_law_1830 rfl)), m_push⟩ (
  lkp_c (P := OkP 124) ⟨(PuOK.ok (ok_iadd dL_law_1831)), m_iop⟩ (
  lkp_c (P := OkP 124) ⟨ok_ialds dL_law_1832, m_rdIs⟩ (
  lkp_c (P := OkP 124) ⟨(PuOK.ok (ok_aload_n dL_law_1833 rfl)), m_aload⟩ (
  lkp_c (P := OkP 124) ⟨(PuOK.ok (ok_iload dL_law_1834)), m_iload⟩ (
  lkp_c (P := OkP 124) ⟨(PuOK.ok (ok_iconst dL_law_1836 rfl)), m_push⟩ (
  lkp_c (P := OkP 124) ⟨(PuOK.ok (ok_iadd dL_law_1837)), m_iop⟩ (
  lkp_c (P := OkP 124) ⟨ok_ialds dL_law_1838, m_rdIs⟩ (
  lkp_c (P := OkP 124) ⟨ok_cv (List.forall_mem_cons.mpr ⟨tg_V (ci := 30) (r := CLr 30) (y := 369) rfl ⟨rfl, by decide⟩ rfl q3539 q3540 q3541 q139 q3542 ⟨cn_34.1, cn_34.2, pd_25⟩ dL_law_1839, (List.forall_mem_nil _)⟩) hd_no, m_cv⟩ (
  lkp_c (P := OkP 124) ⟨(PuOK.ok (ok_istore dL_law_1842)), m_istore⟩ (
  lkp_c (P := OkP 124) ⟨(PuOK.ok (ok_aload_n dL_law_1844 rfl)), m_aload⟩ (
  lkp_c (P := OkP 124) ⟨ok_cv (List.forall_mem_cons.mpr ⟨tg_V (ci := 30) (r := CLr 30) (y := 289) rfl ⟨rfl, by decide⟩ rfl q3198 q3199 q3200 q139 q3201 ⟨cn_34.1, cn_34.2, pd_13⟩ dL_law_1845, (List.forall_mem_nil _)⟩) hd_no, m_cv⟩ (
  lkp_c (P := OkP 124) ⟨(PuOK.ok (ok_iload dL_law_1848)), m_iload⟩ (
  lkp_c (P := OkP 124) ⟨(PuOK.ok (ok_icmp_eq dL_law_1850 rfl)), m_icmp⟩ (
  lkp_c (P := OkP 124) ⟨(PuOK.ok (ok_iconst dL_law_1853 rfl)), m_push⟩ (
  lkp_c (P := OkP 124) ⟨ok_iret rfl rfl (by decide) dL_law_1854, m_ret⟩ (
  lkp_c (P := OkP 124) ⟨(PuOK.ok (ok_iload dL_law_1855)), m_iload⟩ (
  trivial)))))))))))))))))))))))))))))))))))))))))))))
theorem c_124_29 : LkP (OkP 124) [(1857, o_if (fun x => decide (¬ x = 0)) 1872), (1860, o_aload 3 1), (1861, o_push 1 (.int 0)), (1862, o_rdJ), (1863, o_iload 7 2), (1865, o_i2l), (1866, o_lcmp), (1867, o_if (fun x => decide (x = 0)) 1872), (1870, o_push 1 (.int 0)), (1871, o_ret 5), (1872, o_goto 2693), (1875, o_aload 1 1), (1876, o_aload 0 1), (1877, o_iload 5 2), (1879, o_push 1 (.int 1)), (1880, o_iop (fun x y => x + y)), (1881, o_rdIs 0), (1882, o_aload 0 1), (1883, o_iload 5 2), (1885, o_push 1 (.int 2)), (1886, o_iop (fun x y => x + y)), (1887, o_rdIs 0), (1888, o_aload 0 1), (1889, o_iload 5 2), (1891, o_push 1 (.int 3)), (1892, o_iop (fun x y => x + y)), (1893, o_rdIs 0), (1894, o_aload 3 1), (1895, o_cs 148 5 false none), (1898, o_istore 6 2), (1900, o_aload 2 1), (1901, o_aload 0 1), (1902, o_iload 5 2), (1904, o_push 1 (.int 1)), (1905, o_iop (fun x y => x + y)), (1906, o_rdIs 0), (1907, o_aload 0 1), (1908, o_iload 5 2), (1910, o_push 1 (.int 2)), (1911, o_iop (fun x y => x + y)), (1912, o_rdIs 0), (1913, o_aload 0 1), (1914, o_iload 5 2), (1916, o_push 1 (.int 3)), (1917, o_iop (fun x y => x + y)), (1918, o_rdIs 0), (1919, o_cv [(30, 375)] 3 3 false none)] := lkp_c (P := OkP 124) ⟨(PuOK.ok (ok_if_ne dL_law_1857 rfl)), m_if⟩ (
  lkp_c (P := OkP 124) ⟨(PuOK.ok (ok_aload_n dL_law_1860 rfl)), m_aload⟩ (
  lkp_c (P := OkP 124) ⟨(PuOK.ok (ok_iconst dL_law_1861 rfl)), m_push⟩ (
  lkp_c (P := OkP 124) ⟨ok_lald dL_law_1862, m_rdJ⟩ (
  lkp_c (P := OkP 124) ⟨(PuOK.ok (ok_iload dL_law_1863)), m_iload⟩ (
  lkp_c (P := OkP 124) ⟨(PuOK.ok (ok_i2l dL_law_1865)), m_i2l⟩ (
  lkp_c (P := OkP 124) ⟨(PuOK.ok (ok_lcmp dL_law_1866)), m_lcmp⟩ (
  lkp_c (P := OkP 124) ⟨(PuOK.ok (ok_if_eq dL_law_1867 rfl)), m_if⟩ (
  lkp_c (P := OkP 124) ⟨(PuOK.ok (ok_iconst dL_law_1870 rfl)), m_push⟩ (
  lkp_c (P := OkP 124) ⟨ok_iret rfl rfl (by decide) dL_law_1871, m_ret⟩ (
  lkp_c (P := OkP 124) ⟨(PuOK.ok (ok_goto dL_law_1872 rfl)), m_goto⟩ (
  lkp_c (P := OkP 124) ⟨(PuOK.ok (ok_aload_n dL_law_1875 rfl)), m_aload⟩ (
  lkp_c (P := OkP 124) ⟨(PuOK.ok (ok_aload_n dL_law_1876 rfl)), m_aload⟩ (
  lkp_c (P := OkP 124) ⟨(PuOK.ok (ok_iload dL_law_1877)), m_iload⟩ (
  lkp_c (P := OkP 124) ⟨(PuOK.ok (ok_iconst dL_law_1879 rfl)), m_push⟩ (
  lkp_c (P := OkP 124) ⟨(PuOK.ok (ok_iadd dL_law_1880)), m_iop⟩ (
  lkp_c (P := OkP 124) ⟨ok_ialds dL_law_1881, m_rdIs⟩ (
  lkp_c (P := OkP 124) ⟨(PuOK.ok (ok_aload_n dL_law_1882 rfl)), m_aload⟩ (
  lkp_c (P := OkP 124) ⟨(PuOK.ok (ok_iload dL_law_1883)), m_iload⟩ (
  lkp_c (P := OkP 124) ⟨(PuOK.ok (ok_iconst dL_law_1885 rfl)), m_push⟩ (
  lkp_c (P := OkP 124) ⟨(PuOK.ok (ok_iadd dL_law_1886)), m_iop⟩ (
  lkp_c (P := OkP 124) ⟨ok_ialds dL_law_1887, m_rdIs⟩ (
  lkp_c (P := OkP 124) ⟨(PuOK.ok (ok_aload_n dL_law_1888 rfl)), m_aload⟩ (
  lkp_c (P := OkP 124) ⟨(PuOK.ok (ok_iload dL_law_1889)), m_iload⟩ (
  lkp_c (P := OkP 124) ⟨(PuOK.ok (ok_iconst dL_law_1891 rfl)), m_push⟩ (
  lkp_c (P := OkP 124) ⟨(PuOK.ok (ok_iadd dL_law_1892)), m_iop⟩ (
  lkp_c (P := OkP 124) ⟨ok_ialds dL_law_1893, m_rdIs⟩ (
  lkp_c (P := OkP 124) ⟨(PuOK.ok (ok_aload_n dL_law_1894 rfl)), m_aload⟩ (
  lkp_c (P := OkP 124) ⟨ok_cs (tg_SW ⟨rfl, by decide⟩ q2553 q2554 q114 q2555 ⟨cn_35.1, cn_35.2, pd_63⟩ dL_law_1895) hd_no, m_cs⟩ (
  lkp_c (P := OkP 124) ⟨(PuOK.ok (ok_istore dL_law_1898)), m_istore⟩ (
  lkp_c (P := OkP 124) ⟨(PuOK.ok (ok_aload_n dL_law_1900 rfl)), m_aload⟩ (
  lkp_c (P := OkP 124) ⟨(PuOK.ok (ok_aload_n dL_law_1901 rfl)), m_aload⟩ (
  lkp_c (P := OkP 124) ⟨(PuOK.ok (ok_iload dL_law_1902)), m_iload⟩ (
  lkp_c (P := OkP 124) ⟨(PuOK.ok (ok_iconst dL_law_1904 rfl)), m_push⟩ (
  lkp_c (P := OkP 124) ⟨(PuOK.ok (ok_iadd dL_law_1905)), m_iop⟩ (
  lkp_c (P := OkP 124) ⟨ok_ialds dL_law_1906, m_rdIs⟩ (
  lkp_c (P := OkP 124) ⟨(PuOK.ok (ok_aload_n dL_law_1907 rfl)), m_aload⟩ (
  lkp_c (P := OkP 124) ⟨(PuOK.ok (ok_iload dL_law_1908)), m_iload⟩ (
  lkp_c (P := OkP 124) ⟨(PuOK.ok (ok_iconst dL_law_1910 rfl)), m_push⟩ (
  lkp_c (P := OkP 124) ⟨(PuOK.ok (ok_iadd dL_law_1911)), m_iop⟩ (
  lkp_c (P := OkP 124) ⟨ok_ialds dL_law_1912, m_rdIs⟩ (
  lkp_c (P := OkP 124) ⟨(PuOK.ok (ok_aload_n dL_law_1913 rfl)), m_aload⟩ (
  lkp_c (P := OkP 124) ⟨(PuOK.ok (ok_iload dL_law_1914)), m_iload⟩ (
  lkp_c (P := OkP 124) ⟨(PuOK.ok (ok_iconst dL_law_1916 rfl)), m_push⟩ (
  lkp_c (P := OkP 124) ⟨(PuOK.ok (ok_iadd dL_law_1917)), m_iop⟩ (
  lkp_c (P := OkP 124) ⟨ok_ialds dL_law_1918, m_rdIs⟩ (
  lkp_c (P := OkP 124) ⟨ok_cv (List.forall_mem_cons.mpr ⟨tg_V (ci := 30) (r := CLr 30) (y := 375) rfl ⟨rfl, by decide⟩ rfl q3563 q3564 q3565 q139 q3566 ⟨cn_34.1, cn_34.2, pd_25⟩ dL_law_1919, (List.forall_mem_nil _)⟩) hd_no, m_cv⟩ (
  trivial)))))))))))))))))))))))))))))))))))))))))))))))
theorem c_124_30 : LkP (OkP 124) [(1922, o_istore 7 2), (1924, o_aload 2 1), (1925, o_cv [(30, 289)] 0 3 false none), (1928, o_iload 6 2), (1930, o_icmp (fun x y => decide (x = y)) 1935), (1933, o_push 1 (.int 0)), (1934, o_ret 5), (1935, o_iload 6 2), (1937, o_if (fun x => decide (¬ x = 0)) 1952), (1940, o_aload 3 1), (1941, o_push 1 (.int 0)), (1942, o_rdJ), (1943, o_iload 7 2), (1945, o_i2l), (1946, o_lcmp), (1947, o_if (fun x => decide (x = 0)) 1952), (1950, o_push 1 (.int 0)), (1951, o_ret 5), (1952, o_goto 2693), (1955, o_aload 1 1), (1956, o_aload 0 1), (1957, o_iload 5 2), (1959, o_push 1 (.int 1)), (1960, o_iop (fun x y => x + y)), (1961, o_rdIs 0), (1962, o_aload 0 1), (1963, o_iload 5 2), (1965, o_push 1 (.int 2)), (1966, o_iop (fun x y => x + y)), (1967, o_rdIs 0), (1968, o_aload 3 1), (1969, o_cs 149 4 false none), (1972, o_istore 6 2), (1974, o_aload 2 1), (1975, o_aload 0 1), (1976, o_iload 5 2), (1978, o_push 1 (.int 1)), (1979, o_iop (fun x y => x + y)), (1980, o_rdIs 0), (1981, o_aload 0 1), (1982, o_iload 5 2)] := lkp_c (P := OkP 124) ⟨(PuOK.ok (ok_istore dL_law_1922)), m_istore⟩ (
  lkp_c (P := OkP 124) ⟨(PuOK.ok (ok_aload_n dL_law_1924 rfl)), m_aload⟩ (
  lkp_c (P := OkP 124) ⟨ok_cv (List.forall_mem_cons.mpr ⟨tg_V (ci := 30) (r := CLr 30) (y := 289) rfl ⟨rfl, by decide⟩ rfl q3198 q3199 q3200 q139 q3201 ⟨cn_34.1, cn_34.2, pd_13⟩ dL_law_1925, (List.forall_mem_nil _)⟩) hd_no, m_cv⟩ (
  lkp_c (P := OkP 124) ⟨(PuOK.ok (ok_iload dL_law_1928)), m_iload⟩ (
  lkp_c (P := OkP 124) ⟨(PuOK.ok (ok_icmp_eq dL_law_1930 rfl)), m_icmp⟩ (
  lkp_c (P := OkP 124) ⟨(PuOK.ok (ok_iconst dL_law_1933 rfl)), m_push⟩ (
  lkp_c (P := OkP 124) ⟨ok_iret rfl rfl (by decide) dL_law_1934, m_ret⟩ (
  lkp_c (P := OkP 124) ⟨(PuOK.ok (ok_iload dL_law_1935)), m_iload⟩ (
  lkp_c (P := OkP 124) ⟨(PuOK.ok (ok_if_ne dL_law_1937 rfl)), m_if⟩ (
  lkp_c (P := OkP 124) ⟨(PuOK.ok (ok_aload_n dL_law_1940 rfl)), m_aload⟩ (
  lkp_c (P := OkP 124) ⟨(PuOK.ok (ok_iconst dL_law_1941 rfl)), m_push⟩ (
  lkp_c (P := OkP 124) ⟨ok_lald dL_law_1942, m_rdJ⟩ (
  lkp_c (P := OkP 124) ⟨(PuOK.ok (ok_iload dL_law_1943)), m_iload⟩ (
  lkp_c (P := OkP 124) ⟨(PuOK.ok (ok_i2l dL_law_1945)), m_i2l⟩ (
  lkp_c (P := OkP 124) ⟨(PuOK.ok (ok_lcmp dL_law_1946)), m_lcmp⟩ (
  lkp_c (P := OkP 124) ⟨(PuOK.ok (ok_if_eq dL_law_1947 rfl)), m_if⟩ (
  lkp_c (P := OkP 124) ⟨(PuOK.ok (ok_iconst dL_law_1950 rfl)), m_push⟩ (
  lkp_c (P := OkP 124) ⟨ok_iret rfl rfl (by decide) dL_law_1951, m_ret⟩ (
  lkp_c (P := OkP 124) ⟨(PuOK.ok (ok_goto dL_law_1952 rfl)), m_goto⟩ (
  lkp_c (P := OkP 124) ⟨(PuOK.ok (ok_aload_n dL_law_1955 rfl)), m_aload⟩ (
  lkp_c (P := OkP 124) ⟨(PuOK.ok (ok_aload_n dL_law_1956 rfl)), m_aload⟩ (
  lkp_c (P := OkP 124) ⟨(PuOK.ok (ok_iload dL_law_1957)), m_iload⟩ (
  lkp_c (P := OkP 124) ⟨(PuOK.ok (ok_iconst dL_law_1959 rfl)), m_push⟩ (
  lkp_c (P := OkP 124) ⟨(PuOK.ok (ok_iadd dL_law_1960)), m_iop⟩ (
  lkp_c (P := OkP 124) ⟨ok_ialds dL_law_1961, m_rdIs⟩ (
  lkp_c (P := OkP 124) ⟨(PuOK.ok (ok_aload_n dL_law_1962 rfl)), m_aload⟩ (
  lkp_c (P := OkP 124) ⟨(PuOK.ok (ok_iload dL_law_1963)), m_iload⟩ (
  lkp_c (P := OkP 124) ⟨(PuOK.ok (ok_iconst dL_law_1965 rfl)), m_push⟩ (
  lkp_c (P := OkP 124) ⟨(PuOK.ok (ok_iadd dL_law_1966)), m_iop⟩ (
  lkp_c (P := OkP 124) ⟨ok_ialds dL_law_1967, m_rdIs⟩ (
  lkp_c (P := OkP 124) ⟨(PuOK.ok (ok_aload_n dL_law_1968 rfl)), m_aload⟩ (
  lkp_c (P := OkP 124) ⟨ok_cs (tg_SW ⟨rfl, by decide⟩ q2562 q2563 q114 q2564 ⟨cn_35.1, cn_35.2, pd_64⟩ dL_law_1969) hd_no, m_cs⟩ (
  lkp_c (P := OkP 124) ⟨(PuOK.ok (ok_istore dL_law_1972)), m_istore⟩ (
  lkp_c (P := OkP 124) ⟨(PuOK.ok (ok_aload_n dL_law_1974 rfl)), m_aload⟩ (
  lkp_c (P := OkP 124) ⟨(PuOK.ok (ok_aload_n dL_law_1975 rfl)), m_aload⟩ (
  lkp_c (P := OkP 124) ⟨(PuOK.ok (ok_iload dL_law_1976)), m_iload⟩ (
  lkp_c (P := OkP 124) ⟨(PuOK.ok (ok_iconst dL_law_1978 rfl)), m_push⟩ (
  lkp_c (P := OkP 124) ⟨(PuOK.ok (ok_iadd dL_law_1979)), m_iop⟩ (
  lkp_c (P := OkP 124) ⟨ok_ialds dL_law_1980, m_rdIs⟩ (
  lkp_c (P := OkP 124) ⟨(PuOK.ok (ok_aload_n dL_law_1981 rfl)), m_aload⟩ (
  lkp_c (P := OkP 124) ⟨(PuOK.ok (ok_iload dL_law_1982)), m_iload⟩ (
  trivial)))))))))))))))))))))))))))))))))))))))))
theorem c_124_31 : LkP (OkP 124) [(1984, o_push 1 (.int 2)), (1985, o_iop (fun x y => x + y)), (1986, o_rdIs 0), (1987, o_cv [(30, 376)] 2 3 false none), (1990, o_istore 7 2), (1992, o_aload 2 1), (1993, o_cv [(30, 289)] 0 3 false none), (1996, o_iload 6 2), (1998, o_icmp (fun x y => decide (x = y)) 2003), (2001, o_push 1 (.int 0)), (2002, o_ret 5), (2003, o_iload 6 2), (2005, o_if (fun x => decide (¬ x = 0)) 2020), (2008, o_aload 3 1), (2009, o_push 1 (.int 0)), (2010, o_rdJ), (2011, o_iload 7 2), (2013, o_i2l), (2014, o_lcmp), (2015, o_if (fun x => decide (x = 0)) 2020), (2018, o_push 1 (.int 0)), (2019, o_ret 5), (2020, o_goto 2693), (2023, o_aload 1 1), (2024, o_aload 0 1), (2025, o_iload 5 2), (2027, o_push 1 (.int 1)), (2028, o_iop (fun x y => x + y)), (2029, o_rdIs 0), (2030, o_aload 3 1), (2031, o_cs 150 3 false none), (2034, o_istore 6 2), (2036, o_aload 2 1), (2037, o_aload 0 1), (2038, o_iload 5 2), (2040, o_push 1 (.int 1)), (2041, o_iop (fun x y => x + y)), (2042, o_rdIs 0), (2043, o_cv [(30, 386)] 1 3 false none), (2046, o_istore 7 2)] := lkp_c (P := OkP 124) ⟨(PuOK.ok (ok_iconst dL_law_1984 rfl)), m_push⟩ (
  lkp_c (P := OkP 124) ⟨(PuOK.ok (ok_iadd dL_law_1985)), m_iop⟩ (
  lkp_c (P := OkP 124) ⟨ok_ialds dL_law_1986, m_rdIs⟩ (
  lkp_c (P := OkP 124) ⟨ok_cv (List.forall_mem_cons.mpr ⟨tg_V (ci := 30) (r := CLr 30) (y := 376) rfl ⟨rfl, by decide⟩ rfl q3567 q3568 q3569 q139 q3570 ⟨cn_34.1, cn_34.2, pd_1⟩ dL_law_1987, (List.forall_mem_nil _)⟩) hd_no, m_cv⟩ (
  lkp_c (P := OkP 124) ⟨(PuOK.ok (ok_istore dL_law_1990)), m_istore⟩ (
  lkp_c (P := OkP 124) ⟨(PuOK.ok (ok_aload_n dL_law_1992 rfl)), m_aload⟩ (
  lkp_c (P := OkP 124) ⟨ok_cv (List.forall_mem_cons.mpr ⟨tg_V (ci := 30) (r := CLr 30) (y := 289) rfl ⟨rfl, by decide⟩ rfl q3198 q3199 q3200 q139 q3201 ⟨cn_34.1, cn_34.2, pd_13⟩ dL_law_1993, (List.forall_mem_nil _)⟩) hd_no, m_cv⟩ (
  lkp_c (P := OkP 124) ⟨(PuOK.ok (ok_iload dL_law_1996)), m_iload⟩ (
  lkp_c (P := OkP 124) ⟨(PuOK.ok (ok_icmp_eq dL_law_1998 rfl)), m_icmp⟩ (
  lkp_c (P := OkP 124) ⟨(PuOK.ok (ok_iconst dL_law_2001 rfl)), m_push⟩ (
  lkp_c (P := OkP 124) ⟨ok_iret rfl rfl (by decide) dL_law_2002, m_ret⟩ (
  lkp_c (P := OkP 124) ⟨(PuOK.ok (ok_iload dL_law_2003)), m_iload⟩ (
  lkp_c (P := OkP 124) ⟨(PuOK.ok (ok_if_ne dL_law_2005 rfl)), m_if⟩ (
  lkp_c (P := OkP 124) ⟨(PuOK.ok (ok_aload_n dL_law_2008 rfl)), m_aload⟩ (
  lkp_c (P := OkP 124) ⟨(PuOK.ok (ok_iconst dL_law_2009 rfl)), m_push⟩ (
  lkp_c (P := OkP 124) ⟨ok_lald dL_law_2010, m_rdJ⟩ (
  lkp_c (P := OkP 124) ⟨(PuOK.ok (ok_iload dL_law_2011)), m_iload⟩ (
  lkp_c (P := OkP 124) ⟨(PuOK.ok (ok_i2l dL_law_2013)), m_i2l⟩ (
  lkp_c (P := OkP 124) ⟨(PuOK.ok (ok_lcmp dL_law_2014)), m_lcmp⟩ (
  lkp_c (P := OkP 124) ⟨(PuOK.ok (ok_if_eq dL_law_2015 rfl)), m_if⟩ (
  lkp_c (P := OkP 124) ⟨(PuOK.ok (ok_iconst dL_law_2018 rfl)), m_push⟩ (
  lkp_c (P := OkP 124) ⟨ok_iret rfl rfl (by decide) dL_law_2019, m_ret⟩ (
  lkp_c (P := OkP 124) ⟨(PuOK.ok (ok_goto dL_law_2020 rfl)), m_goto⟩ (
  lkp_c (P := OkP 124) ⟨(PuOK.ok (ok_aload_n dL_law_2023 rfl)), m_aload⟩ (
  lkp_c (P := OkP 124) ⟨(PuOK.ok (ok_aload_n dL_law_2024 rfl)), m_aload⟩ (
  lkp_c (P := OkP 124) ⟨(PuOK.ok (ok_iload dL_law_2025)), m_iload⟩ (
  lkp_c (P := OkP 124) ⟨(PuOK.ok (ok_iconst dL_law_2027 rfl)), m_push⟩ (
  lkp_c (P := OkP 124) ⟨(PuOK.ok (ok_iadd dL_law_2028)), m_iop⟩ (
  lkp_c (P := OkP 124) ⟨ok_ialds dL_law_2029, m_rdIs⟩ (
  lkp_c (P := OkP 124) ⟨(PuOK.ok (ok_aload_n dL_law_2030 rfl)), m_aload⟩ (
  lkp_c (P := OkP 124) ⟨ok_cs (tg_SW ⟨rfl, by decide⟩ q2836 q2837 q114 q2838 ⟨cn_35.1, cn_35.2, pd_60⟩ dL_law_2031) hd_no, m_cs⟩ (
  lkp_c (P := OkP 124) ⟨(PuOK.ok (ok_istore dL_law_2034)), m_istore⟩ (
  lkp_c (P := OkP 124) ⟨(PuOK.ok (ok_aload_n dL_law_2036 rfl)), m_aload⟩ (
  lkp_c (P := OkP 124) ⟨(PuOK.ok (ok_aload_n dL_law_2037 rfl)), m_aload⟩ (
  lkp_c (P := OkP 124) ⟨(PuOK.ok (ok_iload dL_law_2038)), m_iload⟩ (
  lkp_c (P := OkP 124) ⟨(PuOK.ok (ok_iconst dL_law_2040 rfl)), m_push⟩ (
  lkp_c (P := OkP 124) ⟨(PuOK.ok (ok_iadd dL_law_2041)), m_iop⟩ (
  lkp_c (P := OkP 124) ⟨ok_ialds dL_law_2042, m_rdIs⟩ (
  lkp_c (P := OkP 124) ⟨ok_cv (List.forall_mem_cons.mpr ⟨tg_V (ci := 30) (r := CLr 30) (y := 386) rfl ⟨rfl, by decide⟩ rfl q3608 q3609 q3610 q139 q3611 ⟨cn_34.1, cn_34.2, pd_48⟩ dL_law_2043, (List.forall_mem_nil _)⟩) hd_no, m_cv⟩ (
  lkp_c (P := OkP 124) ⟨(PuOK.ok (ok_istore dL_law_2046)), m_istore⟩ (
  trivial))))))))))))))))))))))))))))))))))))))))
theorem c_124_32 : LkP (OkP 124) [(2048, o_aload 2 1), (2049, o_cv [(30, 289)] 0 3 false none), (2052, o_iload 6 2), (2054, o_icmp (fun x y => decide (x = y)) 2059), (2057, o_push 1 (.int 0)), (2058, o_ret 5), (2059, o_iload 6 2), (2061, o_if (fun x => decide (¬ x = 0)) 2076), (2064, o_aload 3 1), (2065, o_push 1 (.int 0)), (2066, o_rdJ), (2067, o_iload 7 2), (2069, o_i2l), (2070, o_lcmp), (2071, o_if (fun x => decide (x = 0)) 2076), (2074, o_push 1 (.int 0)), (2075, o_ret 5), (2076, o_goto 2693), (2079, o_aload 1 1), (2080, o_aload 0 1), (2081, o_iload 5 2), (2083, o_push 1 (.int 1)), (2084, o_iop (fun x y => x + y)), (2085, o_rdIs 0), (2086, o_aload 0 1), (2087, o_iload 5 2), (2089, o_push 1 (.int 2)), (2090, o_iop (fun x y => x + y)), (2091, o_rdIs 0), (2092, o_aload 3 1), (2093, o_cs 151 4 false none), (2096, o_istore 6 2), (2098, o_aload 2 1), (2099, o_aload 0 1), (2100, o_iload 5 2), (2102, o_push 1 (.int 1)), (2103, o_iop (fun x y => x + y)), (2104, o_rdIs 0), (2105, o_aload 0 1), (2106, o_iload 5 2), (2108, o_push 1 (.int 2)), (2109, o_iop (fun x y => x + y)), (2110, o_rdIs 0), (2111, o_cv [(30, 387)] 2 3 false none)] := lkp_c (P := OkP 124) ⟨(PuOK.ok (ok_aload_n dL_law_2048 rfl)), m_aload⟩ (
  lkp_c (P := OkP 124) ⟨ok_cv (List.forall_mem_cons.mpr ⟨tg_V (ci := 30) (r := CLr 30) (y := 289) rfl ⟨rfl, by decide⟩ rfl q3198 q3199 q3200 q139 q3201 ⟨cn_34.1, cn_34.2, pd_13⟩ dL_law_2049, (List.forall_mem_nil _)⟩) hd_no, m_cv⟩ (
  lkp_c (P := OkP 124) ⟨(PuOK.ok (ok_iload dL_law_2052)), m_iload⟩ (
  lkp_c (P := OkP 124) ⟨(PuOK.ok (ok_icmp_eq dL_law_2054 rfl)), m_icmp⟩ (
  lkp_c (P := OkP 124) ⟨(PuOK.ok (ok_iconst dL_law_2057 rfl)), m_push⟩ (
  lkp_c (P := OkP 124) ⟨ok_iret rfl rfl (by decide) dL_law_2058, m_ret⟩ (
  lkp_c (P := OkP 124) ⟨(PuOK.ok (ok_iload dL_law_2059)), m_iload⟩ (
  lkp_c (P := OkP 124) ⟨(PuOK.ok (ok_if_ne dL_law_2061 rfl)), m_if⟩ (
  lkp_c (P := OkP 124) ⟨(PuOK.ok (ok_aload_n dL_law_2064 rfl)), m_aload⟩ (
  lkp_c (P := OkP 124) ⟨(PuOK.ok (ok_iconst dL_law_2065 rfl)), m_push⟩ (
  lkp_c (P := OkP 124) ⟨ok_lald dL_law_2066, m_rdJ⟩ (
  lkp_c (P := OkP 124) ⟨(PuOK.ok (ok_iload dL_law_2067)), m_iload⟩ (
  lkp_c (P := OkP 124) ⟨(PuOK.ok (ok_i2l dL_law_2069)), m_i2l⟩ (
  lkp_c (P := OkP 124) ⟨(PuOK.ok (ok_lcmp dL_law_2070)), m_lcmp⟩ (
  lkp_c (P := OkP 124) ⟨(PuOK.ok (ok_if_eq dL_law_2071 rfl)), m_if⟩ (
  lkp_c (P := OkP 124) ⟨(PuOK.ok (ok_iconst dL_law_2074 rfl)), m_push⟩ (
  lkp_c (P := OkP 124) ⟨ok_iret rfl rfl (by decide) dL_law_2075, m_ret⟩ (
  lkp_c (P := OkP 124) ⟨(PuOK.ok (ok_goto dL_law_2076 rfl)), m_goto⟩ (
  lkp_c (P := OkP 124) ⟨(PuOK.ok (ok_aload_n dL_law_2079 rfl)), m_aload⟩ (
  lkp_c (P := OkP 124) ⟨(PuOK.ok (ok_aload_n dL_law_2080 rfl)), m_aload⟩ (
  lkp_c (P := OkP 124) ⟨(PuOK.ok (ok_iload dL_law_2081)), m_iload⟩ (
  lkp_c (P := OkP 124) ⟨(PuOK.ok (ok_iconst dL_law_2083 rfl)), m_push⟩ (
  lkp_c (P := OkP 124) ⟨(PuOK.ok (ok_iadd dL_law_2084)), m_iop⟩ (
  lkp_c (P := OkP 124) ⟨ok_ialds dL_law_2085, m_rdIs⟩ (
  lkp_c (P := OkP 124) ⟨(PuOK.ok (ok_aload_n dL_law_2086 rfl)), m_aload⟩ (
  lkp_c (P := OkP 124) ⟨(PuOK.ok (ok_iload dL_law_2087)), m_iload⟩ (
  lkp_c (P := OkP 124) ⟨(PuOK.ok (ok_iconst dL_law_2089 rfl)), m_push⟩ (
  lkp_c (P := OkP 124) ⟨(PuOK.ok (ok_iadd dL_law_2090)), m_iop⟩ (
  lkp_c (P := OkP 124) ⟨ok_ialds dL_law_2091, m_rdIs⟩ (
  lkp_c (P := OkP 124) ⟨(PuOK.ok (ok_aload_n dL_law_2092 rfl)), m_aload⟩ (
  lkp_c (P := OkP 124) ⟨ok_cs (tg_SW ⟨rfl, by decide⟩ q2843 q2844 q114 q2845 ⟨cn_35.1, cn_35.2, pd_64⟩ dL_law_2093) hd_no, m_cs⟩ (
  lkp_c (P := OkP 124) ⟨(PuOK.ok (ok_istore dL_law_2096)), m_istore⟩ (
  lkp_c (P := OkP 124) ⟨(PuOK.ok (ok_aload_n dL_law_2098 rfl)), m_aload⟩ (
  lkp_c (P := OkP 124) ⟨(PuOK.ok (ok_aload_n dL_law_2099 rfl)), m_aload⟩ (
  lkp_c (P := OkP 124) ⟨(PuOK.ok (ok_iload dL_law_2100)), m_iload⟩ (
  lkp_c (P := OkP 124) ⟨(PuOK.ok (ok_iconst dL_law_2102 rfl)), m_push⟩ (
  lkp_c (P := OkP 124) ⟨(PuOK.ok (ok_iadd dL_law_2103)), m_iop⟩ (
  lkp_c (P := OkP 124) ⟨ok_ialds dL_law_2104, m_rdIs⟩ (
  lkp_c (P := OkP 124) ⟨(PuOK.ok (ok_aload_n dL_law_2105 rfl)), m_aload⟩ (
  lkp_c (P := OkP 124) ⟨(PuOK.ok (ok_iload dL_law_2106)), m_iload⟩ (
  lkp_c (P := OkP 124) ⟨(PuOK.ok (ok_iconst dL_law_2108 rfl)), m_push⟩ (
  lkp_c (P := OkP 124) ⟨(PuOK.ok (ok_iadd dL_law_2109)), m_iop⟩ (
  lkp_c (P := OkP 124) ⟨ok_ialds dL_law_2110, m_rdIs⟩ (
  lkp_c (P := OkP 124) ⟨ok_cv (List.forall_mem_cons.mpr ⟨tg_V (ci := 30) (r := CLr 30) (y := 387) rfl ⟨rfl, by decide⟩ rfl q3612 q3613 q3614 q139 q3615 ⟨cn_34.1, cn_34.2, pd_1⟩ dL_law_2111, (List.forall_mem_nil _)⟩) hd_no, m_cv⟩ (
  trivial))))))))))))))))))))))))))))))))))))))))))))
theorem c_124_33 : LkP (OkP 124) [(2114, o_istore 7 2), (2116, o_aload 2 1), (2117, o_cv [(30, 289)] 0 3 false none), (2120, o_iload 6 2), (2122, o_icmp (fun x y => decide (x = y)) 2127), (2125, o_push 1 (.int 0)), (2126, o_ret 5), (2127, o_iload 6 2), (2129, o_if (fun x => decide (¬ x = 0)) 2144), (2132, o_aload 3 1), (2133, o_push 1 (.int 0)), (2134, o_rdJ), (2135, o_iload 7 2), (2137, o_i2l), (2138, o_lcmp), (2139, o_if (fun x => decide (x = 0)) 2144), (2142, o_push 1 (.int 0)), (2143, o_ret 5), (2144, o_goto 2693), (2147, o_aload 1 1), (2148, o_aload 0 1), (2149, o_iload 5 2), (2151, o_push 1 (.int 1)), (2152, o_iop (fun x y => x + y)), (2153, o_rdIs 0), (2154, o_aload 0 1), (2155, o_iload 5 2), (2157, o_push 1 (.int 2)), (2158, o_iop (fun x y => x + y)), (2159, o_rdIs 0), (2160, o_aload 3 1), (2161, o_cs 152 4 false none), (2164, o_istore 6 2), (2166, o_aload 2 1), (2167, o_aload 0 1), (2168, o_iload 5 2), (2170, o_push 1 (.int 1)), (2171, o_iop (fun x y => x + y)), (2172, o_rdIs 0), (2173, o_aload 0 1), (2174, o_iload 5 2)] := lkp_c (P := OkP 124) ⟨(PuOK.ok (ok_istore dL_law_2114)), m_istore⟩ (
  lkp_c (P := OkP 124) ⟨(PuOK.ok (ok_aload_n dL_law_2116 rfl)), m_aload⟩ (
  lkp_c (P := OkP 124) ⟨ok_cv (List.forall_mem_cons.mpr ⟨tg_V (ci := 30) (r := CLr 30) (y := 289) rfl ⟨rfl, by decide⟩ rfl q3198 q3199 q3200 q139 q3201 ⟨cn_34.1, cn_34.2, pd_13⟩ dL_law_2117, (List.forall_mem_nil _)⟩) hd_no, m_cv⟩ (
  lkp_c (P := OkP 124) ⟨(PuOK.ok (ok_iload dL_law_2120)), m_iload⟩ (
  lkp_c (P := OkP 124) ⟨(PuOK.ok (ok_icmp_eq dL_law_2122 rfl)), m_icmp⟩ (
  lkp_c (P := OkP 124) ⟨(PuOK.ok (ok_iconst dL_law_2125 rfl)), m_push⟩ (
  lkp_c (P := OkP 124) ⟨ok_iret rfl rfl (by decide) dL_law_2126, m_ret⟩ (
  lkp_c (P := OkP 124) ⟨(PuOK.ok (ok_iload dL_law_2127)), m_iload⟩ (
  lkp_c (P := OkP 124) ⟨(PuOK.ok (ok_if_ne dL_law_2129 rfl)), m_if⟩ (
  lkp_c (P := OkP 124) ⟨(PuOK.ok (ok_aload_n dL_law_2132 rfl)), m_aload⟩ (
  lkp_c (P := OkP 124) ⟨(PuOK.ok (ok_iconst dL_law_2133 rfl)), m_push⟩ (
  lkp_c (P := OkP 124) ⟨ok_lald dL_law_2134, m_rdJ⟩ (
  lkp_c (P := OkP 124) ⟨(PuOK.ok (ok_iload dL_law_2135)), m_iload⟩ (
  lkp_c (P := OkP 124) ⟨(PuOK.ok (ok_i2l dL_law_2137)), m_i2l⟩ (
  lkp_c (P := OkP 124) ⟨(PuOK.ok (ok_lcmp dL_law_2138)), m_lcmp⟩ (
  lkp_c (P := OkP 124) ⟨(PuOK.ok (ok_if_eq dL_law_2139 rfl)), m_if⟩ (
  lkp_c (P := OkP 124) ⟨(PuOK.ok (ok_iconst dL_law_2142 rfl)), m_push⟩ (
  lkp_c (P := OkP 124) ⟨ok_iret rfl rfl (by decide) dL_law_2143, m_ret⟩ (
  lkp_c (P := OkP 124) ⟨(PuOK.ok (ok_goto dL_law_2144 rfl)), m_goto⟩ (
  lkp_c (P := OkP 124) ⟨(PuOK.ok (ok_aload_n dL_law_2147 rfl)), m_aload⟩ (
  lkp_c (P := OkP 124) ⟨(PuOK.ok (ok_aload_n dL_law_2148 rfl)), m_aload⟩ (
  lkp_c (P := OkP 124) ⟨(PuOK.ok (ok_iload dL_law_2149)), m_iload⟩ (
  lkp_c (P := OkP 124) ⟨(PuOK.ok (ok_iconst dL_law_2151 rfl)), m_push⟩ (
  lkp_c (P := OkP 124) ⟨(PuOK.ok (ok_iadd dL_law_2152)), m_iop⟩ (
  lkp_c (P := OkP 124) ⟨ok_ialds dL_law_2153, m_rdIs⟩ (
  lkp_c (P := OkP 124) ⟨(PuOK.ok (ok_aload_n dL_law_2154 rfl)), m_aload⟩ (
  lkp_c (P := OkP 124) ⟨(PuOK.ok (ok_iload dL_law_2155)), m_iload⟩ (
  lkp_c (P := OkP 124) ⟨(PuOK.ok (ok_iconst dL_law_2157 rfl)), m_push⟩ (
  lkp_c (P := OkP 124) ⟨(PuOK.ok (ok_iadd dL_law_2158)), m_iop⟩ (
  lkp_c (P := OkP 124) ⟨ok_ialds dL_law_2159, m_rdIs⟩ (
  lkp_c (P := OkP 124) ⟨(PuOK.ok (ok_aload_n dL_law_2160 rfl)), m_aload⟩ (
  lkp_c (P := OkP 124) ⟨ok_cs (tg_SW ⟨rfl, by decide⟩ q2854 q2855 q114 q2856 ⟨cn_35.1, cn_35.2, pd_64⟩ dL_law_2161) hd_no, m_cs⟩ (
  lkp_c (P := OkP 124) ⟨(PuOK.ok (ok_istore dL_law_2164)), m_istore⟩ (
  lkp_c (P := OkP 124) ⟨(PuOK.ok (ok_aload_n dL_law_2166 rfl)), m_aload⟩ (
  lkp_c (P := OkP 124) ⟨(PuOK.ok (ok_aload_n dL_law_2167 rfl)), m_aload⟩ (
  lkp_c (P := OkP 124) ⟨(PuOK.ok (ok_iload dL_law_2168)), m_iload⟩ (
  lkp_c (P := OkP 124) ⟨(PuOK.ok (ok_iconst dL_law_2170 rfl)), m_push⟩ (
  lkp_c (P := OkP 124) ⟨(PuOK.ok (ok_iadd dL_law_2171)), m_iop⟩ (
  lkp_c (P := OkP 124) ⟨ok_ialds dL_law_2172, m_rdIs⟩ (
  lkp_c (P := OkP 124) ⟨(PuOK.ok (ok_aload_n dL_law_2173 rfl)), m_aload⟩ (
  lkp_c (P := OkP 124) ⟨(PuOK.ok (ok_iload dL_law_2174)), m_iload⟩ (
  trivial)))))))))))))))))))))))))))))))))))))))))
theorem c_124_34 : LkP (OkP 124) [(2176, o_push 1 (.int 2)), (2177, o_iop (fun x y => x + y)), (2178, o_rdIs 0), (2179, o_cv [(30, 388)] 2 3 false none), (2182, o_istore 7 2), (2184, o_aload 2 1), (2185, o_cv [(30, 289)] 0 3 false none), (2188, o_iload 6 2), (2190, o_icmp (fun x y => decide (x = y)) 2195), (2193, o_push 1 (.int 0)), (2194, o_ret 5), (2195, o_iload 6 2), (2197, o_if (fun x => decide (¬ x = 0)) 2212), (2200, o_aload 3 1), (2201, o_push 1 (.int 0)), (2202, o_rdJ), (2203, o_iload 7 2), (2205, o_i2l), (2206, o_lcmp), (2207, o_if (fun x => decide (x = 0)) 2212), (2210, o_push 1 (.int 0)), (2211, o_ret 5), (2212, o_goto 2693), (2215, o_aload 1 1), (2216, o_aload 0 1), (2217, o_iload 5 2), (2219, o_push 1 (.int 1)), (2220, o_iop (fun x y => x + y)), (2221, o_rdIs 0), (2222, o_aload 0 1), (2223, o_iload 5 2), (2225, o_push 1 (.int 2)), (2226, o_iop (fun x y => x + y)), (2227, o_rdIs 0), (2228, o_aload 3 1), (2229, o_cs 153 4 false none), (2232, o_istore 6 2), (2234, o_aload 2 1), (2235, o_aload 0 1), (2236, o_iload 5 2), (2238, o_push 1 (.int 1)), (2239, o_iop (fun x y => x + y))] := lkp_c (P := OkP 124) ⟨(PuOK.ok (ok_iconst dL_law_2176 rfl)), m_push⟩ (
  lkp_c (P := OkP 124) ⟨(PuOK.ok (ok_iadd dL_law_2177)), m_iop⟩ (
  lkp_c (P := OkP 124) ⟨ok_ialds dL_law_2178, m_rdIs⟩ (
  lkp_c (P := OkP 124) ⟨ok_cv (List.forall_mem_cons.mpr ⟨tg_V (ci := 30) (r := CLr 30) (y := 388) rfl ⟨rfl, by decide⟩ rfl q3616 q3617 q3618 q139 q3619 ⟨cn_34.1, cn_34.2, pd_1⟩ dL_law_2179, (List.forall_mem_nil _)⟩) hd_no, m_cv⟩ (
  lkp_c (P := OkP 124) ⟨(PuOK.ok (ok_istore dL_law_2182)), m_istore⟩ (
  lkp_c (P := OkP 124) ⟨(PuOK.ok (ok_aload_n dL_law_2184 rfl)), m_aload⟩ (
  lkp_c (P := OkP 124) ⟨ok_cv (List.forall_mem_cons.mpr ⟨tg_V (ci := 30) (r := CLr 30) (y := 289) rfl ⟨rfl, by decide⟩ rfl q3198 q3199 q3200 q139 q3201 ⟨cn_34.1, cn_34.2, pd_13⟩ dL_law_2185, (List.forall_mem_nil _)⟩) hd_no, m_cv⟩ (
  lkp_c (P := OkP 124) ⟨(PuOK.ok (ok_iload dL_law_2188)), m_iload⟩ (
  lkp_c (P := OkP 124) ⟨(PuOK.ok (ok_icmp_eq dL_law_2190 rfl)), m_icmp⟩ (
  lkp_c (P := OkP 124) ⟨(PuOK.ok (ok_iconst dL_law_2193 rfl)), m_push⟩ (
  lkp_c (P := OkP 124) ⟨ok_iret rfl rfl (by decide) dL_law_2194, m_ret⟩ (
  lkp_c (P := OkP 124) ⟨(PuOK.ok (ok_iload dL_law_2195)), m_iload⟩ (
  lkp_c (P := OkP 124) ⟨(PuOK.ok (ok_if_ne dL_law_2197 rfl)), m_if⟩ (
  lkp_c (P := OkP 124) ⟨(PuOK.ok (ok_aload_n dL_law_2200 rfl)), m_aload⟩ (
  lkp_c (P := OkP 124) ⟨(PuOK.ok (ok_iconst dL_law_2201 rfl)), m_push⟩ (
  lkp_c (P := OkP 124) ⟨ok_lald dL_law_2202, m_rdJ⟩ (
  lkp_c (P := OkP 124) ⟨(PuOK.ok (ok_iload dL_law_2203)), m_iload⟩ (
  lkp_c (P := OkP 124) ⟨(PuOK.ok (ok_i2l dL_law_2205)), m_i2l⟩ (
  lkp_c (P := OkP 124) ⟨(PuOK.ok (ok_lcmp dL_law_2206)), m_lcmp⟩ (
  lkp_c (P := OkP 124) ⟨(PuOK.ok (ok_if_eq dL_law_2207 rfl)), m_if⟩ (
  lkp_c (P := OkP 124) ⟨(PuOK.ok (ok_iconst dL_law_2210 rfl)), m_push⟩ (
  lkp_c (P := OkP 124) ⟨ok_iret rfl rfl (by decide) dL_law_2211, m_ret⟩ (
  lkp_c (P := OkP 124) ⟨(PuOK.ok (ok_goto dL_law_2212 rfl)), m_goto⟩ (
  lkp_c (P := OkP 124) ⟨(PuOK.ok (ok_aload_n dL_law_2215 rfl)), m_aload⟩ (
  lkp_c (P := OkP 124) ⟨(PuOK.ok (ok_aload_n dL_law_2216 rfl)), m_aload⟩ (
  lkp_c (P := OkP 124) ⟨(PuOK.ok (ok_iload dL_law_2217)), m_iload⟩ (
  lkp_c (P := OkP 124) ⟨(PuOK.ok (ok_iconst dL_law_2219 rfl)), m_push⟩ (
  lkp_c (P := OkP 124) ⟨(PuOK.ok (ok_iadd dL_law_2220)), m_iop⟩ (
  lkp_c (P := OkP 124) ⟨ok_ialds dL_law_2221, m_rdIs⟩ (
  lkp_c (P := OkP 124) ⟨(PuOK.ok (ok_aload_n dL_law_2222 rfl)), m_aload⟩ (
  lkp_c (P := OkP 124) ⟨(PuOK.ok (ok_iload dL_law_2223)), m_iload⟩ (
  lkp_c (P := OkP 124) ⟨(PuOK.ok (ok_iconst dL_law_2225 rfl)), m_push⟩ (
  lkp_c (P := OkP 124) ⟨(PuOK.ok (ok_iadd dL_law_2226)), m_iop⟩ (
  lkp_c (P := OkP 124) ⟨ok_ialds dL_law_2227, m_rdIs⟩ (
  lkp_c (P := OkP 124) ⟨(PuOK.ok (ok_aload_n dL_law_2228 rfl)), m_aload⟩ (
  lkp_c (P := OkP 124) ⟨ok_cs (tg_SW ⟨rfl, by decide⟩ q2872 q2873 q114 q2874 ⟨cn_35.1, cn_35.2, pd_64⟩ dL_law_2229) hd_no, m_cs⟩ (
  lkp_c (P := OkP 124) ⟨(PuOK.ok (ok_istore dL_law_2232)), m_istore⟩ (
  lkp_c (P := OkP 124) ⟨(PuOK.ok (ok_aload_n dL_law_2234 rfl)), m_aload⟩ (
  lkp_c (P := OkP 124) ⟨(PuOK.ok (ok_aload_n dL_law_2235 rfl)), m_aload⟩ (
  lkp_c (P := OkP 124) ⟨(PuOK.ok (ok_iload dL_law_2236)), m_iload⟩ (
  lkp_c (P := OkP 124) ⟨(PuOK.ok (ok_iconst dL_law_2238 rfl)), m_push⟩ (
  lkp_c (P := OkP 124) ⟨(PuOK.ok (ok_iadd dL_law_2239)), m_iop⟩ (
  trivial))))))))))))))))))))))))))))))))))))))))))
theorem c_124_35 : LkP (OkP 124) [(2240, o_rdIs 0), (2241, o_aload 0 1), (2242, o_iload 5 2), (2244, o_push 1 (.int 2)), (2245, o_iop (fun x y => x + y)), (2246, o_rdIs 0), (2247, o_cv [(30, 390)] 2 3 false none), (2250, o_istore 7 2), (2252, o_aload 2 1), (2253, o_cv [(30, 289)] 0 3 false none), (2256, o_iload 6 2), (2258, o_icmp (fun x y => decide (x = y)) 2263), (2261, o_push 1 (.int 0)), (2262, o_ret 5), (2263, o_iload 6 2), (2265, o_if (fun x => decide (¬ x = 0)) 2280), (2268, o_aload 3 1), (2269, o_push 1 (.int 0)), (2270, o_rdJ), (2271, o_iload 7 2), (2273, o_i2l), (2274, o_lcmp), (2275, o_if (fun x => decide (x = 0)) 2280), (2278, o_push 1 (.int 0)), (2279, o_ret 5), (2280, o_goto 2693), (2283, o_aload 1 1), (2284, o_aload 0 1), (2285, o_iload 5 2), (2287, o_push 1 (.int 1)), (2288, o_iop (fun x y => x + y)), (2289, o_rdIs 0), (2290, o_aload 0 1), (2291, o_iload 5 2), (2293, o_push 1 (.int 2)), (2294, o_iop (fun x y => x + y)), (2295, o_rdIs 0), (2296, o_aload 3 1), (2297, o_cs 154 4 false none), (2300, o_istore 6 2), (2302, o_aload 2 1), (2303, o_aload 0 1)] := lkp_c (P := OkP 124) ⟨ok_ialds dL_law_2240, m_rdIs⟩ (
  lkp_c (P := OkP 124) ⟨(PuOK.ok (ok_aload_n dL_law_2241 rfl)), m_aload⟩ (
  lkp_c (P := OkP 124) ⟨(PuOK.ok (ok_iload dL_law_2242)), m_iload⟩ (
  lkp_c (P := OkP 124) ⟨(PuOK.ok (ok_iconst dL_law_2244 rfl)), m_push⟩ (
  lkp_c (P := OkP 124) ⟨(PuOK.ok (ok_iadd dL_law_2245)), m_iop⟩ (
  lkp_c (P := OkP 124) ⟨ok_ialds dL_law_2246, m_rdIs⟩ (
  lkp_c (P := OkP 124) ⟨ok_cv (List.forall_mem_cons.mpr ⟨tg_V (ci := 30) (r := CLr 30) (y := 390) rfl ⟨rfl, by decide⟩ rfl q3624 q3625 q3626 q139 q3627 ⟨cn_34.1, cn_34.2, pd_1⟩ dL_law_2247, (List.forall_mem_nil _)⟩) hd_no, m_cv⟩ (
  lkp_c (P := OkP 124) ⟨(PuOK.ok (ok_istore dL_law_2250)), m_istore⟩ (
  lkp_c (P := OkP 124) ⟨(PuOK.ok (ok_aload_n dL_law_2252 rfl)), m_aload⟩ (
  lkp_c (P := OkP 124) ⟨ok_cv (List.forall_mem_cons.mpr ⟨tg_V (ci := 30) (r := CLr 30) (y := 289) rfl ⟨rfl, by decide⟩ rfl q3198 q3199 q3200 q139 q3201 ⟨cn_34.1, cn_34.2, pd_13⟩ dL_law_2253, (List.forall_mem_nil _)⟩) hd_no, m_cv⟩ (
  lkp_c (P := OkP 124) ⟨(PuOK.ok (ok_iload dL_law_2256)), m_iload⟩ (
  lkp_c (P := OkP 124) ⟨(PuOK.ok (ok_icmp_eq dL_law_2258 rfl)), m_icmp⟩ (
  lkp_c (P := OkP 124) ⟨(PuOK.ok (ok_iconst dL_law_2261 rfl)), m_push⟩ (
  lkp_c (P := OkP 124) ⟨ok_iret rfl rfl (by decide) dL_law_2262, m_ret⟩ (
  lkp_c (P := OkP 124) ⟨(PuOK.ok (ok_iload dL_law_2263)), m_iload⟩ (
  lkp_c (P := OkP 124) ⟨(PuOK.ok (ok_if_ne dL_law_2265 rfl)), m_if⟩ (
  lkp_c (P := OkP 124) ⟨(PuOK.ok (ok_aload_n dL_law_2268 rfl)), m_aload⟩ (
  lkp_c (P := OkP 124) ⟨(PuOK.ok (ok_iconst dL_law_2269 rfl)), m_push⟩ (
  lkp_c (P := OkP 124) ⟨ok_lald dL_law_2270, m_rdJ⟩ (
  lkp_c (P := OkP 124) ⟨(PuOK.ok (ok_iload dL_law_2271)), m_iload⟩ (
  lkp_c (P := OkP 124) ⟨(PuOK.ok (ok_i2l dL_law_2273)), m_i2l⟩ (
  lkp_c (P := OkP 124) ⟨(PuOK.ok (ok_lcmp dL_law_2274)), m_lcmp⟩ (
  lkp_c (P := OkP 124) ⟨(PuOK.ok (ok_if_eq dL_law_2275 rfl)), m_if⟩ (
  lkp_c (P := OkP 124) ⟨(PuOK.ok (ok_iconst dL_law_2278 rfl)), m_push⟩ (
  lkp_c (P := OkP 124) ⟨ok_iret rfl rfl (by decide) dL_law_2279, m_ret⟩ (
  lkp_c (P := OkP 124) ⟨(PuOK.ok (ok_goto dL_law_2280 rfl)), m_goto⟩ (
  lkp_c (P := OkP 124) ⟨(PuOK.ok (ok_aload_n dL_law_2283 rfl)), m_aload⟩ (
  lkp_c (P := OkP 124) ⟨(PuOK.ok (ok_aload_n dL_law_2284 rfl)), m_aload⟩ (
  lkp_c (P := OkP 124) ⟨(PuOK.ok (ok_iload dL_law_2285)), m_iload⟩ (
  lkp_c (P := OkP 124) ⟨(PuOK.ok (ok_iconst dL_law_2287 rfl)), m_push⟩ (
  lkp_c (P := OkP 124) ⟨(PuOK.ok (ok_iadd dL_law_2288)), m_iop⟩ (
  lkp_c (P := OkP 124) ⟨ok_ialds dL_law_2289, m_rdIs⟩ (
  lkp_c (P := OkP 124) ⟨(PuOK.ok (ok_aload_n dL_law_2290 rfl)), m_aload⟩ (
  lkp_c (P := OkP 124) ⟨(PuOK.ok (ok_iload dL_law_2291)), m_iload⟩ (
  lkp_c (P := OkP 124) ⟨(PuOK.ok (ok_iconst dL_law_2293 rfl)), m_push⟩ (
  lkp_c (P := OkP 124) ⟨(PuOK.ok (ok_iadd dL_law_2294)), m_iop⟩ (
  lkp_c (P := OkP 124) ⟨ok_ialds dL_law_2295, m_rdIs⟩ (
  lkp_c (P := OkP 124) ⟨(PuOK.ok (ok_aload_n dL_law_2296 rfl)), m_aload⟩ (
  lkp_c (P := OkP 124) ⟨ok_cs (tg_SW ⟨rfl, by decide⟩ q2879 q2880 q114 q2881 ⟨cn_35.1, cn_35.2, pd_64⟩ dL_law_2297) hd_no, m_cs⟩ (
  lkp_c (P := OkP 124) ⟨(PuOK.ok (ok_istore dL_law_2300)), m_istore⟩ (
  lkp_c (P := OkP 124) ⟨(PuOK.ok (ok_aload_n dL_law_2302 rfl)), m_aload⟩ (
  lkp_c (P := OkP 124) ⟨(PuOK.ok (ok_aload_n dL_law_2303 rfl)), m_aload⟩ (
  trivial))))))))))))))))))))))))))))))))))))))))))
theorem c_124_36 : LkP (OkP 124) [(2304, o_iload 5 2), (2306, o_push 1 (.int 1)), (2307, o_iop (fun x y => x + y)), (2308, o_rdIs 0), (2309, o_aload 0 1), (2310, o_iload 5 2), (2312, o_push 1 (.int 2)), (2313, o_iop (fun x y => x + y)), (2314, o_rdIs 0), (2315, o_cv [(30, 391)] 2 3 false none), (2318, o_istore 7 2), (2320, o_aload 2 1), (2321, o_cv [(30, 289)] 0 3 false none), (2324, o_iload 6 2), (2326, o_icmp (fun x y => decide (x = y)) 2331), (2329, o_push 1 (.int 0)), (2330, o_ret 5), (2331, o_iload 6 2), (2333, o_if (fun x => decide (¬ x = 0)) 2348), (2336, o_aload 3 1), (2337, o_push 1 (.int 0)), (2338, o_rdJ), (2339, o_iload 7 2), (2341, o_i2l), (2342, o_lcmp), (2343, o_if (fun x => decide (x = 0)) 2348), (2346, o_push 1 (.int 0)), (2347, o_ret 5), (2348, o_goto 2693), (2351, o_aload 1 1), (2352, o_aload 0 1), (2353, o_iload 5 2), (2355, o_push 1 (.int 1)), (2356, o_iop (fun x y => x + y)), (2357, o_rdIs 0), (2358, o_aload 3 1), (2359, o_cs 155 3 false none), (2362, o_istore 6 2), (2364, o_aload 2 1), (2365, o_aload 0 1), (2366, o_iload 5 2)] := lkp_c (P := OkP 124) ⟨(PuOK.ok (ok_iload dL_law_2304)), m_iload⟩ (
  lkp_c (P := OkP 124) ⟨(PuOK.ok (ok_iconst dL_law_2306 rfl)), m_push⟩ (
  lkp_c (P := OkP 124) ⟨(PuOK.ok (ok_iadd dL_law_2307)), m_iop⟩ (
  lkp_c (P := OkP 124) ⟨ok_ialds dL_law_2308, m_rdIs⟩ (
  lkp_c (P := OkP 124) ⟨(PuOK.ok (ok_aload_n dL_law_2309 rfl)), m_aload⟩ (
  lkp_c (P := OkP 124) ⟨(PuOK.ok (ok_iload dL_law_2310)), m_iload⟩ (
  lkp_c (P := OkP 124) ⟨(PuOK.ok (ok_iconst dL_law_2312 rfl)), m_push⟩ (
  lkp_c (P := OkP 124) ⟨(PuOK.ok (ok_iadd dL_law_2313)), m_iop⟩ (
  lkp_c (P := OkP 124) ⟨ok_ialds dL_law_2314, m_rdIs⟩ (
  lkp_c (P := OkP 124) ⟨ok_cv (List.forall_mem_cons.mpr ⟨tg_V (ci := 30) (r := CLr 30) (y := 391) rfl ⟨rfl, by decide⟩ rfl q3628 q3629 q3630 q139 q3631 ⟨cn_34.1, cn_34.2, pd_1⟩ dL_law_2315, (List.forall_mem_nil _)⟩) hd_no, m_cv⟩ (
  lkp_c (P := OkP 124) ⟨(PuOK.ok (ok_istore dL_law_2318)), m_istore⟩ (
  lkp_c (P := OkP 124) ⟨(PuOK.ok (ok_aload_n dL_law_2320 rfl)), m_aload⟩ (
  lkp_c (P := OkP 124) ⟨ok_cv (List.forall_mem_cons.mpr ⟨tg_V (ci := 30) (r := CLr 30) (y := 289) rfl ⟨rfl, by decide⟩ rfl q3198 q3199 q3200 q139 q3201 ⟨cn_34.1, cn_34.2, pd_13⟩ dL_law_2321, (List.forall_mem_nil _)⟩) hd_no, m_cv⟩ (
  lkp_c (P := OkP 124) ⟨(PuOK.ok (ok_iload dL_law_2324)), m_iload⟩ (
  lkp_c (P := OkP 124) ⟨(PuOK.ok (ok_icmp_eq dL_law_2326 rfl)), m_icmp⟩ (
  lkp_c (P := OkP 124) ⟨(PuOK.ok (ok_iconst dL_law_2329 rfl)), m_push⟩ (
  lkp_c (P := OkP 124) ⟨ok_iret rfl rfl (by decide) dL_law_2330, m_ret⟩ (
  lkp_c (P := OkP 124) ⟨(PuOK.ok (ok_iload dL_law_2331)), m_iload⟩ (
  lkp_c (P := OkP 124) ⟨(PuOK.ok (ok_if_ne dL_law_2333 rfl)), m_if⟩ (
  lkp_c (P := OkP 124) ⟨(PuOK.ok (ok_aload_n dL_law_2336 rfl)), m_aload⟩ (
  lkp_c (P := OkP 124) ⟨(PuOK.ok (ok_iconst dL_law_2337 rfl)), m_push⟩ (
  lkp_c (P := OkP 124) ⟨ok_lald dL_law_2338, m_rdJ⟩ (
  lkp_c (P := OkP 124) ⟨(PuOK.ok (ok_iload dL_law_2339)), m_iload⟩ (
  lkp_c (P := OkP 124) ⟨(PuOK.ok (ok_i2l dL_law_2341)), m_i2l⟩ (
  lkp_c (P := OkP 124) ⟨(PuOK.ok (ok_lcmp dL_law_2342)), m_lcmp⟩ (
  lkp_c (P := OkP 124) ⟨(PuOK.ok (ok_if_eq dL_law_2343 rfl)), m_if⟩ (
  lkp_c (P := OkP 124) ⟨(PuOK.ok (ok_iconst dL_law_2346 rfl)), m_push⟩ (
  lkp_c (P := OkP 124) ⟨ok_iret rfl rfl (by decide) dL_law_2347, m_ret⟩ (
  lkp_c (P := OkP 124) ⟨(PuOK.ok (ok_goto dL_law_2348 rfl)), m_goto⟩ (
  lkp_c (P := OkP 124) ⟨(PuOK.ok (ok_aload_n dL_law_2351 rfl)), m_aload⟩ (
  lkp_c (P := OkP 124) ⟨(PuOK.ok (ok_aload_n dL_law_2352 rfl)), m_aload⟩ (
  lkp_c (P := OkP 124) ⟨(PuOK.ok (ok_iload dL_law_2353)), m_iload⟩ (
  lkp_c (P := OkP 124) ⟨(PuOK.ok (ok_iconst dL_law_2355 rfl)), m_push⟩ (
  lkp_c (P := OkP 124) ⟨(PuOK.ok (ok_iadd dL_law_2356)), m_iop⟩ (
  lkp_c (P := OkP 124) ⟨ok_ialds dL_law_2357, m_rdIs⟩ (
  lkp_c (P := OkP 124) ⟨(PuOK.ok (ok_aload_n dL_law_2358 rfl)), m_aload⟩ (
  lkp_c (P := OkP 124) ⟨ok_cs (tg_SW ⟨rfl, by decide⟩ q2922 q2923 q114 q2924 ⟨cn_35.1, cn_35.2, pd_60⟩ dL_law_2359) hd_no, m_cs⟩ (
  lkp_c (P := OkP 124) ⟨(PuOK.ok (ok_istore dL_law_2362)), m_istore⟩ (
  lkp_c (P := OkP 124) ⟨(PuOK.ok (ok_aload_n dL_law_2364 rfl)), m_aload⟩ (
  lkp_c (P := OkP 124) ⟨(PuOK.ok (ok_aload_n dL_law_2365 rfl)), m_aload⟩ (
  lkp_c (P := OkP 124) ⟨(PuOK.ok (ok_iload dL_law_2366)), m_iload⟩ (
  trivial)))))))))))))))))))))))))))))))))))))))))
theorem c_124_37 : LkP (OkP 124) [(2368, o_push 1 (.int 1)), (2369, o_iop (fun x y => x + y)), (2370, o_rdIs 0), (2371, o_cv [(30, 396)] 1 3 false none), (2374, o_istore 7 2), (2376, o_aload 2 1), (2377, o_cv [(30, 289)] 0 3 false none), (2380, o_iload 6 2), (2382, o_icmp (fun x y => decide (x = y)) 2387), (2385, o_push 1 (.int 0)), (2386, o_ret 5), (2387, o_iload 6 2), (2389, o_if (fun x => decide (¬ x = 0)) 2404), (2392, o_aload 3 1), (2393, o_push 1 (.int 0)), (2394, o_rdJ), (2395, o_iload 7 2), (2397, o_i2l), (2398, o_lcmp), (2399, o_if (fun x => decide (x = 0)) 2404), (2402, o_push 1 (.int 0)), (2403, o_ret 5), (2404, o_goto 2693), (2407, o_aload 1 1), (2408, o_cv [(0, 161)] 0 3 false none), (2411, o_aload 2 1), (2412, o_cv [(30, 397)] 0 3 false none), (2415, o_lcmp), (2416, o_if (fun x => decide (x = 0)) 2693), (2419, o_push 1 (.int 0)), (2420, o_ret 5), (2421, o_aload 1 1), (2422, o_aload 0 1), (2423, o_iload 5 2), (2425, o_push 1 (.int 1)), (2426, o_iop (fun x y => x + y)), (2427, o_rdIs 0), (2428, o_aload 0 1), (2429, o_iload 5 2), (2431, o_push 1 (.int 2))] := lkp_c (P := OkP 124) ⟨(PuOK.ok (ok_iconst dL_law_2368 rfl)), m_push⟩ (
  lkp_c (P := OkP 124) ⟨(PuOK.ok (ok_iadd dL_law_2369)), m_iop⟩ (
  lkp_c (P := OkP 124) ⟨ok_ialds dL_law_2370, m_rdIs⟩ (
  lkp_c (P := OkP 124) ⟨ok_cv (List.forall_mem_cons.mpr ⟨tg_V (ci := 30) (r := CLr 30) (y := 396) rfl ⟨rfl, by decide⟩ rfl q3648 q3649 q3650 q139 q3651 ⟨cn_34.1, cn_34.2, pd_48⟩ dL_law_2371, (List.forall_mem_nil _)⟩) hd_no, m_cv⟩ (
  lkp_c (P := OkP 124) ⟨(PuOK.ok (ok_istore dL_law_2374)), m_istore⟩ (
  lkp_c (P := OkP 124) ⟨(PuOK.ok (ok_aload_n dL_law_2376 rfl)), m_aload⟩ (
  lkp_c (P := OkP 124) ⟨ok_cv (List.forall_mem_cons.mpr ⟨tg_V (ci := 30) (r := CLr 30) (y := 289) rfl ⟨rfl, by decide⟩ rfl q3198 q3199 q3200 q139 q3201 ⟨cn_34.1, cn_34.2, pd_13⟩ dL_law_2377, (List.forall_mem_nil _)⟩) hd_no, m_cv⟩ (
  lkp_c (P := OkP 124) ⟨(PuOK.ok (ok_iload dL_law_2380)), m_iload⟩ (
  lkp_c (P := OkP 124) ⟨(PuOK.ok (ok_icmp_eq dL_law_2382 rfl)), m_icmp⟩ (
  lkp_c (P := OkP 124) ⟨(PuOK.ok (ok_iconst dL_law_2385 rfl)), m_push⟩ (
  lkp_c (P := OkP 124) ⟨ok_iret rfl rfl (by decide) dL_law_2386, m_ret⟩ (
  lkp_c (P := OkP 124) ⟨(PuOK.ok (ok_iload dL_law_2387)), m_iload⟩ (
  lkp_c (P := OkP 124) ⟨(PuOK.ok (ok_if_ne dL_law_2389 rfl)), m_if⟩ (
  lkp_c (P := OkP 124) ⟨(PuOK.ok (ok_aload_n dL_law_2392 rfl)), m_aload⟩ (
  lkp_c (P := OkP 124) ⟨(PuOK.ok (ok_iconst dL_law_2393 rfl)), m_push⟩ (
  lkp_c (P := OkP 124) ⟨ok_lald dL_law_2394, m_rdJ⟩ (
  lkp_c (P := OkP 124) ⟨(PuOK.ok (ok_iload dL_law_2395)), m_iload⟩ (
  lkp_c (P := OkP 124) ⟨(PuOK.ok (ok_i2l dL_law_2397)), m_i2l⟩ (
  lkp_c (P := OkP 124) ⟨(PuOK.ok (ok_lcmp dL_law_2398)), m_lcmp⟩ (
  lkp_c (P := OkP 124) ⟨(PuOK.ok (ok_if_eq dL_law_2399 rfl)), m_if⟩ (
  lkp_c (P := OkP 124) ⟨(PuOK.ok (ok_iconst dL_law_2402 rfl)), m_push⟩ (
  lkp_c (P := OkP 124) ⟨ok_iret rfl rfl (by decide) dL_law_2403, m_ret⟩ (
  lkp_c (P := OkP 124) ⟨(PuOK.ok (ok_goto dL_law_2404 rfl)), m_goto⟩ (
  lkp_c (P := OkP 124) ⟨(PuOK.ok (ok_aload_n dL_law_2407 rfl)), m_aload⟩ (
  lkp_c (P := OkP 124) ⟨ok_cv (List.forall_mem_cons.mpr ⟨tg_V (ci := 0) (r := CLr 0) (y := 161) rfl ⟨rfl, by decide⟩ rfl q684 q685 q686 q115 q687 ⟨cn_33.1, cn_33.2, pd_65⟩ dL_law_2408, (List.forall_mem_nil _)⟩) hd_no, m_cv⟩ (
  lkp_c (P := OkP 124) ⟨(PuOK.ok (ok_aload_n dL_law_2411 rfl)), m_aload⟩ (
  lkp_c (P := OkP 124) ⟨ok_cv (List.forall_mem_cons.mpr ⟨tg_V (ci := 30) (r := CLr 30) (y := 397) rfl ⟨rfl, by decide⟩ rfl q3652 q3653 q3654 q139 q3655 ⟨cn_34.1, cn_34.2, pd_65⟩ dL_law_2412, (List.forall_mem_nil _)⟩) hd_no, m_cv⟩ (
  lkp_c (P := OkP 124) ⟨(PuOK.ok (ok_lcmp dL_law_2415)), m_lcmp⟩ (
  lkp_c (P := OkP 124) ⟨(PuOK.ok (ok_if_eq dL_law_2416 rfl)), m_if⟩ (
  lkp_c (P := OkP 124) ⟨(PuOK.ok (ok_iconst dL_law_2419 rfl)), m_push⟩ (
  lkp_c (P := OkP 124) ⟨ok_iret rfl rfl (by decide) dL_law_2420, m_ret⟩ (
  lkp_c (P := OkP 124) ⟨(PuOK.ok (ok_aload_n dL_law_2421 rfl)), m_aload⟩ (
  lkp_c (P := OkP 124) ⟨(PuOK.ok (ok_aload_n dL_law_2422 rfl)), m_aload⟩ (
  lkp_c (P := OkP 124) ⟨(PuOK.ok (ok_iload dL_law_2423)), m_iload⟩ (
  lkp_c (P := OkP 124) ⟨(PuOK.ok (ok_iconst dL_law_2425 rfl)), m_push⟩ (
  lkp_c (P := OkP 124) ⟨(PuOK.ok (ok_iadd dL_law_2426)), m_iop⟩ (
  lkp_c (P := OkP 124) ⟨ok_ialds dL_law_2427, m_rdIs⟩ (
  lkp_c (P := OkP 124) ⟨(PuOK.ok (ok_aload_n dL_law_2428 rfl)), m_aload⟩ (
  lkp_c (P := OkP 124) ⟨(PuOK.ok (ok_iload dL_law_2429)), m_iload⟩ (
  lkp_c (P := OkP 124) ⟨(PuOK.ok (ok_iconst dL_law_2431 rfl)), m_push⟩ (
  trivial))))))))))))))))))))))))))))))))))))))))
theorem c_124_38 : LkP (OkP 124) [(2432, o_iop (fun x y => x + y)), (2433, o_rdIs 0), (2434, o_aload 3 1), (2435, o_cs 156 4 false none), (2438, o_istore 6 2), (2440, o_aload 2 1), (2441, o_aload 0 1), (2442, o_iload 5 2), (2444, o_push 1 (.int 1)), (2445, o_iop (fun x y => x + y)), (2446, o_rdIs 0), (2447, o_aload 0 1), (2448, o_iload 5 2), (2450, o_push 1 (.int 2)), (2451, o_iop (fun x y => x + y)), (2452, o_rdIs 0), (2453, o_cv [(30, 399)] 2 3 false none), (2456, o_istore 7 2), (2458, o_aload 2 1), (2459, o_cv [(30, 289)] 0 3 false none), (2462, o_iload 6 2), (2464, o_icmp (fun x y => decide (x = y)) 2469), (2467, o_push 1 (.int 0)), (2468, o_ret 5), (2469, o_iload 6 2), (2471, o_if (fun x => decide (¬ x = 0)) 2486), (2474, o_aload 3 1), (2475, o_push 1 (.int 0)), (2476, o_rdJ), (2477, o_iload 7 2), (2479, o_i2l), (2480, o_lcmp), (2481, o_if (fun x => decide (x = 0)) 2486), (2484, o_push 1 (.int 0)), (2485, o_ret 5), (2486, o_goto 2693), (2489, o_aload 1 1), (2490, o_aload 0 1), (2491, o_iload 5 2), (2493, o_push 1 (.int 1)), (2494, o_iop (fun x y => x + y)), (2495, o_rdIs 0)] := lkp_c (P := OkP 124) ⟨(PuOK.ok (ok_iadd dL_law_2432)), m_iop⟩ (
  lkp_c (P := OkP 124) ⟨ok_ialds dL_law_2433, m_rdIs⟩ (
  lkp_c (P := OkP 124) ⟨(PuOK.ok (ok_aload_n dL_law_2434 rfl)), m_aload⟩ (
  lkp_c (P := OkP 124) ⟨ok_cs (tg_SW ⟨rfl, by decide⟩ q2930 q2931 q114 q2932 ⟨cn_35.1, cn_35.2, pd_64⟩ dL_law_2435) hd_no, m_cs⟩ (
  lkp_c (P := OkP 124) ⟨(PuOK.ok (ok_istore dL_law_2438)), m_istore⟩ (
  lkp_c (P := OkP 124) ⟨(PuOK.ok (ok_aload_n dL_law_2440 rfl)), m_aload⟩ (
  lkp_c (P := OkP 124) ⟨(PuOK.ok (ok_aload_n dL_law_2441 rfl)), m_aload⟩ (
  lkp_c (P := OkP 124) ⟨(PuOK.ok (ok_iload dL_law_2442)), m_iload⟩ (
  lkp_c (P := OkP 124) ⟨(PuOK.ok (ok_iconst dL_law_2444 rfl)), m_push⟩ (
  lkp_c (P := OkP 124) ⟨(PuOK.ok (ok_iadd dL_law_2445)), m_iop⟩ (
  lkp_c (P := OkP 124) ⟨ok_ialds dL_law_2446, m_rdIs⟩ (
  lkp_c (P := OkP 124) ⟨(PuOK.ok (ok_aload_n dL_law_2447 rfl)), m_aload⟩ (
  lkp_c (P := OkP 124) ⟨(PuOK.ok (ok_iload dL_law_2448)), m_iload⟩ (
  lkp_c (P := OkP 124) ⟨(PuOK.ok (ok_iconst dL_law_2450 rfl)), m_push⟩ (
  lkp_c (P := OkP 124) ⟨(PuOK.ok (ok_iadd dL_law_2451)), m_iop⟩ (
  lkp_c (P := OkP 124) ⟨ok_ialds dL_law_2452, m_rdIs⟩ (
  lkp_c (P := OkP 124) ⟨ok_cv (List.forall_mem_cons.mpr ⟨tg_V (ci := 30) (r := CLr 30) (y := 399) rfl ⟨rfl, by decide⟩ rfl q3660 q3661 q3662 q139 q3663 ⟨cn_34.1, cn_34.2, pd_1⟩ dL_law_2453, (List.forall_mem_nil _)⟩) hd_no, m_cv⟩ (
  lkp_c (P := OkP 124) ⟨(PuOK.ok (ok_istore dL_law_2456)), m_istore⟩ (
  lkp_c (P := OkP 124) ⟨(PuOK.ok (ok_aload_n dL_law_2458 rfl)), m_aload⟩ (
  lkp_c (P := OkP 124) ⟨ok_cv (List.forall_mem_cons.mpr ⟨tg_V (ci := 30) (r := CLr 30) (y := 289) rfl ⟨rfl, by decide⟩ rfl q3198 q3199 q3200 q139 q3201 ⟨cn_34.1, cn_34.2, pd_13⟩ dL_law_2459, (List.forall_mem_nil _)⟩) hd_no, m_cv⟩ (
  lkp_c (P := OkP 124) ⟨(PuOK.ok (ok_iload dL_law_2462)), m_iload⟩ (
  lkp_c (P := OkP 124) ⟨(PuOK.ok (ok_icmp_eq dL_law_2464 rfl)), m_icmp⟩ (
  lkp_c (P := OkP 124) ⟨(PuOK.ok (ok_iconst dL_law_2467 rfl)), m_push⟩ (
  lkp_c (P := OkP 124) ⟨ok_iret rfl rfl (by decide) dL_law_2468, m_ret⟩ (
  lkp_c (P := OkP 124) ⟨(PuOK.ok (ok_iload dL_law_2469)), m_iload⟩ (
  lkp_c (P := OkP 124) ⟨(PuOK.ok (ok_if_ne dL_law_2471 rfl)), m_if⟩ (
  lkp_c (P := OkP 124) ⟨(PuOK.ok (ok_aload_n dL_law_2474 rfl)), m_aload⟩ (
  lkp_c (P := OkP 124) ⟨(PuOK.ok (ok_iconst dL_law_2475 rfl)), m_push⟩ (
  lkp_c (P := OkP 124) ⟨ok_lald dL_law_2476, m_rdJ⟩ (
  lkp_c (P := OkP 124) ⟨(PuOK.ok (ok_iload dL_law_2477)), m_iload⟩ (
  lkp_c (P := OkP 124) ⟨(PuOK.ok (ok_i2l dL_law_2479)), m_i2l⟩ (
  lkp_c (P := OkP 124) ⟨(PuOK.ok (ok_lcmp dL_law_2480)), m_lcmp⟩ (
  lkp_c (P := OkP 124) ⟨(PuOK.ok (ok_if_eq dL_law_2481 rfl)), m_if⟩ (
  lkp_c (P := OkP 124) ⟨(PuOK.ok (ok_iconst dL_law_2484 rfl)), m_push⟩ (
  lkp_c (P := OkP 124) ⟨ok_iret rfl rfl (by decide) dL_law_2485, m_ret⟩ (
  lkp_c (P := OkP 124) ⟨(PuOK.ok (ok_goto dL_law_2486 rfl)), m_goto⟩ (
  lkp_c (P := OkP 124) ⟨(PuOK.ok (ok_aload_n dL_law_2489 rfl)), m_aload⟩ (
  lkp_c (P := OkP 124) ⟨(PuOK.ok (ok_aload_n dL_law_2490 rfl)), m_aload⟩ (
  lkp_c (P := OkP 124) ⟨(PuOK.ok (ok_iload dL_law_2491)), m_iload⟩ (
  lkp_c (P := OkP 124) ⟨(PuOK.ok (ok_iconst dL_law_2493 rfl)), m_push⟩ (
  lkp_c (P := OkP 124) ⟨(PuOK.ok (ok_iadd dL_law_2494)), m_iop⟩ (
  lkp_c (P := OkP 124) ⟨ok_ialds dL_law_2495, m_rdIs⟩ (
  trivial))))))))))))))))))))))))))))))))))))))))))
theorem c_124_39 : LkP (OkP 124) [(2496, o_aload 4 2), (2498, o_cs 157 3 false none), (2501, o_istore 6 2), (2503, o_aload 2 1), (2504, o_aload 0 1), (2505, o_iload 5 2), (2507, o_push 1 (.int 1)), (2508, o_iop (fun x y => x + y)), (2509, o_rdIs 0), (2510, o_cv [(30, 402)] 1 3 false none), (2513, o_fstore 7 2), (2515, o_aload 2 1), (2516, o_cv [(30, 289)] 0 3 false none), (2519, o_iload 6 2), (2521, o_icmp (fun x y => decide (x = y)) 2526), (2524, o_push 1 (.int 0)), (2525, o_ret 5), (2526, o_iload 6 2), (2528, o_if (fun x => decide (¬ x = 0)) 2564), (2531, o_aload 4 2), (2533, o_push 1 (.int 0)), (2534, o_rdD), (2535, o_fload 7 2), (2537, o_f2d), (2538, o_dcmp .l), (2539, o_if (fun x => decide (x = 0)) 2564), (2542, o_aload 4 2), (2544, o_push 1 (.int 0)), (2545, o_rdD), (2546, o_aload 4 2), (2548, o_push 1 (.int 0)), (2549, o_rdD), (2550, o_dcmp .l), (2551, o_if (fun x => decide (x = 0)) 2562), (2554, o_fload 7 2), (2556, o_fload 7 2), (2558, o_fcmp .l), (2559, o_if (fun x => decide (¬ x = 0)) 2564)] := lkp_c (P := OkP 124) ⟨(PuOK.ok (ok_aload dL_law_2496)), m_aload⟩ (
  lkp_c (P := OkP 124) ⟨ok_cs (tg_SW ⟨rfl, by decide⟩ q2945 q2946 q114 q2947 ⟨cn_35.1, cn_35.2, pd_66⟩ dL_law_2498) hd_no, m_cs⟩ (
  lkp_c (P := OkP 124) ⟨(PuOK.ok (ok_istore dL_law_2501)), m_istore⟩ (
  lkp_c (P := OkP 124) ⟨(PuOK.ok (ok_aload_n dL_law_2503 rfl)), m_aload⟩ (
  lkp_c (P := OkP 124) ⟨(PuOK.ok (ok_aload_n dL_law_2504 rfl)), m_aload⟩ (
  lkp_c (P := OkP 124) ⟨(PuOK.ok (ok_iload dL_law_2505)), m_iload⟩ (
  lkp_c (P := OkP 124) ⟨(PuOK.ok (ok_iconst dL_law_2507 rfl)), m_push⟩ (
  lkp_c (P := OkP 124) ⟨(PuOK.ok (ok_iadd dL_law_2508)), m_iop⟩ (
  lkp_c (P := OkP 124) ⟨ok_ialds dL_law_2509, m_rdIs⟩ (
  lkp_c (P := OkP 124) ⟨ok_cv (List.forall_mem_cons.mpr ⟨tg_V (ci := 30) (r := CLr 30) (y := 402) rfl ⟨rfl, by decide⟩ rfl q3672 q3673 q3674 q139 q3675 ⟨cn_34.1, cn_34.2, pd_67⟩ dL_law_2510, (List.forall_mem_nil _)⟩) hd_no, m_cv⟩ (
  lkp_c (P := OkP 124) ⟨(PuOK.ok (ok_fstore dL_law_2513)), m_fstore⟩ (
  lkp_c (P := OkP 124) ⟨(PuOK.ok (ok_aload_n dL_law_2515 rfl)), m_aload⟩ (
  lkp_c (P := OkP 124) ⟨ok_cv (List.forall_mem_cons.mpr ⟨tg_V (ci := 30) (r := CLr 30) (y := 289) rfl ⟨rfl, by decide⟩ rfl q3198 q3199 q3200 q139 q3201 ⟨cn_34.1, cn_34.2, pd_13⟩ dL_law_2516, (List.forall_mem_nil _)⟩) hd_no, m_cv⟩ (
  lkp_c (P := OkP 124) ⟨(PuOK.ok (ok_iload dL_law_2519)), m_iload⟩ (
  lkp_c (P := OkP 124) ⟨(PuOK.ok (ok_icmp_eq dL_law_2521 rfl)), m_icmp⟩ (
  lkp_c (P := OkP 124) ⟨(PuOK.ok (ok_iconst dL_law_2524 rfl)), m_push⟩ (
  lkp_c (P := OkP 124) ⟨ok_iret rfl rfl (by decide) dL_law_2525, m_ret⟩ (
  lkp_c (P := OkP 124) ⟨(PuOK.ok (ok_iload dL_law_2526)), m_iload⟩ (
  lkp_c (P := OkP 124) ⟨(PuOK.ok (ok_if_ne dL_law_2528 rfl)), m_if⟩ (
  lkp_c (P := OkP 124) ⟨(PuOK.ok (ok_aload dL_law_2531)), m_aload⟩ (
  lkp_c (P := OkP 124) ⟨(PuOK.ok (ok_iconst dL_law_2533 rfl)), m_push⟩ (
  lkp_c (P := OkP 124) ⟨ok_dald dL_law_2534, m_rdD⟩ (
  lkp_c (P := OkP 124) ⟨(PuOK.ok (ok_fload dL_law_2535)), m_fload⟩ (
  lkp_c (P := OkP 124) ⟨(PuOK.ok (ok_f2d dL_law_2537)), m_f2d⟩ (
  lkp_c (P := OkP 124) ⟨(PuOK.ok (ok_dcmp dL_law_2538)), m_dcmp⟩ (
  lkp_c (P := OkP 124) ⟨(PuOK.ok (ok_if_eq dL_law_2539 rfl)), m_if⟩ (
  lkp_c (P := OkP 124) ⟨(PuOK.ok (ok_aload dL_law_2542)), m_aload⟩ (
  lkp_c (P := OkP 124) ⟨(PuOK.ok (ok_iconst dL_law_2544 rfl)), m_push⟩ (
  lkp_c (P := OkP 124) ⟨ok_dald dL_law_2545, m_rdD⟩ (
  lkp_c (P := OkP 124) ⟨(PuOK.ok (ok_aload dL_law_2546)), m_aload⟩ (
  lkp_c (P := OkP 124) ⟨(PuOK.ok (ok_iconst dL_law_2548 rfl)), m_push⟩ (
  lkp_c (P := OkP 124) ⟨ok_dald dL_law_2549, m_rdD⟩ (
  lkp_c (P := OkP 124) ⟨(PuOK.ok (ok_dcmp dL_law_2550)), m_dcmp⟩ (
  lkp_c (P := OkP 124) ⟨(PuOK.ok (ok_if_eq dL_law_2551 rfl)), m_if⟩ (
  lkp_c (P := OkP 124) ⟨(PuOK.ok (ok_fload dL_law_2554)), m_fload⟩ (
  lkp_c (P := OkP 124) ⟨(PuOK.ok (ok_fload dL_law_2556)), m_fload⟩ (
  lkp_c (P := OkP 124) ⟨(PuOK.ok (ok_fcmp dL_law_2558)), m_fcmp⟩ (
  lkp_c (P := OkP 124) ⟨(PuOK.ok (ok_if_ne dL_law_2559 rfl)), m_if⟩ (
  trivial))))))))))))))))))))))))))))))))))))))
theorem c_124_40 : LkP (OkP 124) [(2562, o_push 1 (.int 0)), (2563, o_ret 5), (2564, o_goto 2693), (2567, o_aload 1 1), (2568, o_cv [(0, 162)] 0 3 false none), (2571, o_aload 2 1), (2572, o_cv [(30, 403)] 0 3 false none), (2575, o_icmp (fun x y => decide (x = y)) 2693), (2578, o_push 1 (.int 0)), (2579, o_ret 5), (2580, o_aload 1 1), (2581, o_cv [(0, 163)] 0 3 false none), (2584, o_dstore 6 2), (2586, o_aload 2 1), (2587, o_cv [(30, 404)] 0 3 false none), (2590, o_dstore 8 2), (2592, o_dload 6 2), (2594, o_dload 8 2), (2596, o_dcmp .l), (2597, o_if (fun x => decide (x = 0)) 2618), (2600, o_dload 6 2), (2602, o_dload 6 2), (2604, o_dcmp .l), (2605, o_if (fun x => decide (x = 0)) 2616), (2608, o_dload 8 2), (2610, o_dload 8 2), (2612, o_dcmp .l), (2613, o_if (fun x => decide (¬ x = 0)) 2618), (2616, o_push 1 (.int 0)), (2617, o_ret 5), (2618, o_goto 2693), (2621, o_aload 1 1), (2622, o_aload 0 1), (2623, o_iload 5 2)] := lkp_c (P := OkP 124) ⟨(PuOK.ok (ok_iconst dL_law_2562 rfl)), m_push⟩ (
  lkp_c (P := OkP 124) ⟨ok_iret rfl rfl (by decide) dL_law_2563, m_ret⟩ (
  lkp_c (P := OkP 124) ⟨(PuOK.ok (ok_goto dL_law_2564 rfl)), m_goto⟩ (
  lkp_c (P := OkP 124) ⟨(PuOK.ok (ok_aload_n dL_law_2567 rfl)), m_aload⟩ (
  lkp_c (P := OkP 124) ⟨ok_cv (List.forall_mem_cons.mpr ⟨tg_V (ci := 0) (r := CLr 0) (y := 162) rfl ⟨rfl, by decide⟩ rfl q805 q806 q807 q115 q808 ⟨cn_33.1, cn_33.2, pd_13⟩ dL_law_2568, (List.forall_mem_nil _)⟩) hd_no, m_cv⟩ (
  lkp_c (P := OkP 124) ⟨(PuOK.ok (ok_aload_n dL_law_2571 rfl)), m_aload⟩ (
  lkp_c (P := OkP 124) ⟨ok_cv (List.forall_mem_cons.mpr ⟨tg_V (ci := 30) (r := CLr 30) (y := 403) rfl ⟨rfl, by decide⟩ rfl q3677 q3678 q3679 q139 q3680 ⟨cn_34.1, cn_34.2, pd_13⟩ dL_law_2572, (List.forall_mem_nil _)⟩) hd_no, m_cv⟩ (
  lkp_c (P := OkP 124) ⟨(PuOK.ok (ok_icmp_eq dL_law_2575 rfl)), m_icmp⟩ (
  lkp_c (P := OkP 124) ⟨(PuOK.ok (ok_iconst dL_law_2578 rfl)), m_push⟩ (
  lkp_c (P := OkP 124) ⟨ok_iret rfl rfl (by decide) dL_law_2579, m_ret⟩ (
  lkp_c (P := OkP 124) ⟨(PuOK.ok (ok_aload_n dL_law_2580 rfl)), m_aload⟩ (
  lkp_c (P := OkP 124) ⟨ok_cv (List.forall_mem_cons.mpr ⟨tg_V (ci := 0) (r := CLr 0) (y := 163) rfl ⟨rfl, by decide⟩ rfl q1247 q1248 q1249 q115 q1250 ⟨cn_33.1, cn_33.2, pd_68⟩ dL_law_2581, (List.forall_mem_nil _)⟩) hd_no, m_cv⟩ (
  lkp_c (P := OkP 124) ⟨(PuOK.ok (ok_dstore dL_law_2584)), m_dstore⟩ (
  lkp_c (P := OkP 124) ⟨(PuOK.ok (ok_aload_n dL_law_2586 rfl)), m_aload⟩ (
  lkp_c (P := OkP 124) ⟨ok_cv (List.forall_mem_cons.mpr ⟨tg_V (ci := 30) (r := CLr 30) (y := 404) rfl ⟨rfl, by decide⟩ rfl q3681 q3682 q3683 q139 q3684 ⟨cn_34.1, cn_34.2, pd_68⟩ dL_law_2587, (List.forall_mem_nil _)⟩) hd_no, m_cv⟩ (
  lkp_c (P := OkP 124) ⟨(PuOK.ok (ok_dstore dL_law_2590)), m_dstore⟩ (
  lkp_c (P := OkP 124) ⟨(PuOK.ok (ok_dload dL_law_2592)), m_dload⟩ (
  lkp_c (P := OkP 124) ⟨(PuOK.ok (ok_dload dL_law_2594)), m_dload⟩ (
  lkp_c (P := OkP 124) ⟨(PuOK.ok (ok_dcmp dL_law_2596)), m_dcmp⟩ (
  lkp_c (P := OkP 124) ⟨(PuOK.ok (ok_if_eq dL_law_2597 rfl)), m_if⟩ (
  lkp_c (P := OkP 124) ⟨(PuOK.ok (ok_dload dL_law_2600)), m_dload⟩ (
  lkp_c (P := OkP 124) ⟨(PuOK.ok (ok_dload dL_law_2602)), m_dload⟩ (
  lkp_c (P := OkP 124) ⟨(PuOK.ok (ok_dcmp dL_law_2604)), m_dcmp⟩ (
  lkp_c (P := OkP 124) ⟨(PuOK.ok (ok_if_eq dL_law_2605 rfl)), m_if⟩ (
  lkp_c (P := OkP 124) ⟨(PuOK.ok (ok_dload dL_law_2608)), m_dload⟩ (
  lkp_c (P := OkP 124) ⟨(PuOK.ok (ok_dload dL_law_2610)), m_dload⟩ (
  lkp_c (P := OkP 124) ⟨(PuOK.ok (ok_dcmp dL_law_2612)), m_dcmp⟩ (
  lkp_c (P := OkP 124) ⟨(PuOK.ok (ok_if_ne dL_law_2613 rfl)), m_if⟩ (
  lkp_c (P := OkP 124) ⟨(PuOK.ok (ok_iconst dL_law_2616 rfl)), m_push⟩ (
  lkp_c (P := OkP 124) ⟨ok_iret rfl rfl (by decide) dL_law_2617, m_ret⟩ (
  lkp_c (P := OkP 124) ⟨(PuOK.ok (ok_goto dL_law_2618 rfl)), m_goto⟩ (
  lkp_c (P := OkP 124) ⟨(PuOK.ok (ok_aload_n dL_law_2621 rfl)), m_aload⟩ (
  lkp_c (P := OkP 124) ⟨(PuOK.ok (ok_aload_n dL_law_2622 rfl)), m_aload⟩ (
  lkp_c (P := OkP 124) ⟨(PuOK.ok (ok_iload dL_law_2623)), m_iload⟩ (
  trivial))))))))))))))))))))))))))))))))))
theorem c_124_41 : LkP (OkP 124) [(2625, o_push 1 (.int 1)), (2626, o_iop (fun x y => x + y)), (2627, o_rdIs 0), (2628, o_cs 158 2 false none), (2631, o_istore 6 2), (2633, o_aload 2 1), (2634, o_aload 0 1), (2635, o_iload 5 2), (2637, o_push 1 (.int 1)), (2638, o_iop (fun x y => x + y)), (2639, o_rdIs 0), (2640, o_cv [(30, 405)] 1 3 true none), (2643, o_aload 2 1), (2644, o_cv [(30, 289)] 0 3 false none), (2647, o_iload 6 2), (2649, o_icmp (fun x y => decide (x = y)) 2654), (2652, o_push 1 (.int 0)), (2653, o_ret 5), (2654, o_goto 2693), (2657, o_aload 1 1), (2658, o_aload 0 1), (2659, o_iload 5 2), (2661, o_push 1 (.int 1)), (2662, o_iop (fun x y => x + y)), (2663, o_rdIs 0), (2664, o_cs 159 2 false none), (2667, o_istore 6 2), (2669, o_aload 2 1), (2670, o_aload 0 1), (2671, o_iload 5 2), (2673, o_push 1 (.int 1)), (2674, o_iop (fun x y => x + y)), (2675, o_rdIs 0), (2676, o_cv [(30, 406)] 1 3 true none), (2679, o_aload 2 1), (2680, o_cv [(30, 289)] 0 3 false none), (2683, o_iload 6 2), (2685, o_icmp (fun x y => decide (x = y)) 2690)] := lkp_c (P := OkP 124) ⟨(PuOK.ok (ok_iconst dL_law_2625 rfl)), m_push⟩ (
  lkp_c (P := OkP 124) ⟨(PuOK.ok (ok_iadd dL_law_2626)), m_iop⟩ (
  lkp_c (P := OkP 124) ⟨ok_ialds dL_law_2627, m_rdIs⟩ (
  lkp_c (P := OkP 124) ⟨ok_cs (tg_SW ⟨rfl, by decide⟩ q2953 q2954 q114 q2955 ⟨cn_35.1, cn_35.2, pd_69⟩ dL_law_2628) hd_no, m_cs⟩ (
  lkp_c (P := OkP 124) ⟨(PuOK.ok (ok_istore dL_law_2631)), m_istore⟩ (
  lkp_c (P := OkP 124) ⟨(PuOK.ok (ok_aload_n dL_law_2633 rfl)), m_aload⟩ (
  lkp_c (P := OkP 124) ⟨(PuOK.ok (ok_aload_n dL_law_2634 rfl)), m_aload⟩ (
  lkp_c (P := OkP 124) ⟨(PuOK.ok (ok_iload dL_law_2635)), m_iload⟩ (
  lkp_c (P := OkP 124) ⟨(PuOK.ok (ok_iconst dL_law_2637 rfl)), m_push⟩ (
  lkp_c (P := OkP 124) ⟨(PuOK.ok (ok_iadd dL_law_2638)), m_iop⟩ (
  lkp_c (P := OkP 124) ⟨ok_ialds dL_law_2639, m_rdIs⟩ (
  lkp_c (P := OkP 124) ⟨ok_cv (List.forall_mem_cons.mpr ⟨tg_V (ci := 30) (r := CLr 30) (y := 405) rfl ⟨rfl, by decide⟩ rfl q3686 q3687 q3688 q139 q3689 ⟨cn_34.1, cn_34.2, pd_9⟩ dL_law_2640, (List.forall_mem_nil _)⟩) hd_no, m_cv⟩ (
  lkp_c (P := OkP 124) ⟨(PuOK.ok (ok_aload_n dL_law_2643 rfl)), m_aload⟩ (
  lkp_c (P := OkP 124) ⟨ok_cv (List.forall_mem_cons.mpr ⟨tg_V (ci := 30) (r := CLr 30) (y := 289) rfl ⟨rfl, by decide⟩ rfl q3198 q3199 q3200 q139 q3201 ⟨cn_34.1, cn_34.2, pd_13⟩ dL_law_2644, (List.forall_mem_nil _)⟩) hd_no, m_cv⟩ (
  lkp_c (P := OkP 124) ⟨(PuOK.ok (ok_iload dL_law_2647)), m_iload⟩ (
  lkp_c (P := OkP 124) ⟨(PuOK.ok (ok_icmp_eq dL_law_2649 rfl)), m_icmp⟩ (
  lkp_c (P := OkP 124) ⟨(PuOK.ok (ok_iconst dL_law_2652 rfl)), m_push⟩ (
  lkp_c (P := OkP 124) ⟨ok_iret rfl rfl (by decide) dL_law_2653, m_ret⟩ (
  lkp_c (P := OkP 124) ⟨(PuOK.ok (ok_goto dL_law_2654 rfl)), m_goto⟩ (
  lkp_c (P := OkP 124) ⟨(PuOK.ok (ok_aload_n dL_law_2657 rfl)), m_aload⟩ (
  lkp_c (P := OkP 124) ⟨(PuOK.ok (ok_aload_n dL_law_2658 rfl)), m_aload⟩ (
  lkp_c (P := OkP 124) ⟨(PuOK.ok (ok_iload dL_law_2659)), m_iload⟩ (
  lkp_c (P := OkP 124) ⟨(PuOK.ok (ok_iconst dL_law_2661 rfl)), m_push⟩ (
  lkp_c (P := OkP 124) ⟨(PuOK.ok (ok_iadd dL_law_2662)), m_iop⟩ (
  lkp_c (P := OkP 124) ⟨ok_ialds dL_law_2663, m_rdIs⟩ (
  lkp_c (P := OkP 124) ⟨ok_cs (tg_SW ⟨rfl, by decide⟩ q3063 q3064 q114 q3065 ⟨cn_35.1, cn_35.2, pd_69⟩ dL_law_2664) hd_no, m_cs⟩ (
  lkp_c (P := OkP 124) ⟨(PuOK.ok (ok_istore dL_law_2667)), m_istore⟩ (
  lkp_c (P := OkP 124) ⟨(PuOK.ok (ok_aload_n dL_law_2669 rfl)), m_aload⟩ (
  lkp_c (P := OkP 124) ⟨(PuOK.ok (ok_aload_n dL_law_2670 rfl)), m_aload⟩ (
  lkp_c (P := OkP 124) ⟨(PuOK.ok (ok_iload dL_law_2671)), m_iload⟩ (
  lkp_c (P := OkP 124) ⟨(PuOK.ok (ok_iconst dL_law_2673 rfl)), m_push⟩ (
  lkp_c (P := OkP 124) ⟨(PuOK.ok (ok_iadd dL_law_2674)), m_iop⟩ (
  lkp_c (P := OkP 124) ⟨ok_ialds dL_law_2675, m_rdIs⟩ (
  lkp_c (P := OkP 124) ⟨ok_cv (List.forall_mem_cons.mpr ⟨tg_V (ci := 30) (r := CLr 30) (y := 406) rfl ⟨rfl, by decide⟩ rfl q3690 q3691 q3692 q139 q3693 ⟨cn_34.1, cn_34.2, pd_9⟩ dL_law_2676, (List.forall_mem_nil _)⟩) hd_no, m_cv⟩ (
  lkp_c (P := OkP 124) ⟨(PuOK.ok (ok_aload_n dL_law_2679 rfl)), m_aload⟩ (
  lkp_c (P := OkP 124) ⟨ok_cv (List.forall_mem_cons.mpr ⟨tg_V (ci := 30) (r := CLr 30) (y := 289) rfl ⟨rfl, by decide⟩ rfl q3198 q3199 q3200 q139 q3201 ⟨cn_34.1, cn_34.2, pd_13⟩ dL_law_2680, (List.forall_mem_nil _)⟩) hd_no, m_cv⟩ (
  lkp_c (P := OkP 124) ⟨(PuOK.ok (ok_iload dL_law_2683)), m_iload⟩ (
  lkp_c (P := OkP 124) ⟨(PuOK.ok (ok_icmp_eq dL_law_2685 rfl)), m_icmp⟩ (
  trivial))))))))))))))))))))))))))))))))))))))
theorem c_124_42 : LkP (OkP 124) [(2688, o_push 1 (.int 0)), (2689, o_ret 5), (2690, o_goto 2693), (2693, o_iinc 5 5), (2696, o_goto 28), (2699, o_push 1 (.int 1)), (2700, o_ret 5)] := lkp_c (P := OkP 124) ⟨(PuOK.ok (ok_iconst dL_law_2688 rfl)), m_push⟩ (
  lkp_c (P := OkP 124) ⟨ok_iret rfl rfl (by decide) dL_law_2689, m_ret⟩ (
  lkp_c (P := OkP 124) ⟨(PuOK.ok (ok_goto dL_law_2690 rfl)), m_goto⟩ (
  lkp_c (P := OkP 124) ⟨(PuOK.ok (ok_iinc dL_law_2693 rfl)), m_iinc⟩ (
  lkp_c (P := OkP 124) ⟨(PuOK.ok (ok_goto dL_law_2696 rfl)), m_goto⟩ (
  lkp_c (P := OkP 124) ⟨(PuOK.ok (ok_iconst dL_law_2699 rfl)), m_push⟩ (
  lkp_c (P := OkP 124) ⟨ok_iret rfl rfl (by decide) dL_law_2700, m_ret⟩ (
  trivial)))))))
theorem mt_124 : MtOK TB NT IT 124 := ⟨by decide +kernel, rfl, (fun h => by cases h), Or.inl ⟨rfl, rfl⟩, rfl, by decide, lk2_all (P := OkP 124) ⟨c_124_0, c_124_1, c_124_2, c_124_3, c_124_4, c_124_5, c_124_6, c_124_7, c_124_8, c_124_9, c_124_10, c_124_11, c_124_12, c_124_13, c_124_14, c_124_15, c_124_16, c_124_17, c_124_18, c_124_19, c_124_20, c_124_21, c_124_22, c_124_23, c_124_24, c_124_25, c_124_26, c_124_27, c_124_28, c_124_29, c_124_30, c_124_31, c_124_32, c_124_33, c_124_34, c_124_35, c_124_36, c_124_37, c_124_38, c_124_39, c_124_40, c_124_41, c_124_42, trivial⟩⟩
