set_option maxRecDepth 100000
theorem s_X9_side_0 : Snd PG.nam M122 0 (m_aload 0 1) := snd_aload_n dX9_side_0 rfl
theorem s_X9_side_1 : Snd PG.nam M122 1 (m_getf [(7, 4)] 4) := snd_getf dX9_side_1 fd_X9_90
theorem s_X9_side_4 : Snd PG.nam M122 4 (m_const (.int (nI 4)) 5) := snd_iconst dX9_side_4 (by decide)
theorem s_X9_side_5 : Snd PG.nam M122 5 (m_icmp (fun x z => if x = z then 8 else 21)) := snd_icmp_ne dX9_side_5 (by decide)
theorem s_X9_side_8 : Snd PG.nam M122 8 (m_new 13 [.null, .int 0] 11) := snd_new dX9_side_8 rfl w1041 w1042 w96 rfl (by decide +kernel)
theorem s_X9_side_11 : Snd PG.nam M122 11 (m_dup 12) := snd_dup dX9_side_11
theorem s_X9_side_12 : Snd PG.nam M122 12 (m_const .null 13) := snd_null dX9_side_12
theorem s_X9_side_13 : Snd PG.nam M122 13 (m_aload 0 14) := snd_aload_n dX9_side_13 rfl
theorem s_X9_side_14 : Snd PG.nam M122 14 (m_callV false [(7, 118)] 0 17) := snd_callV (nam := PG.nam) (List.forall_mem_cons.mpr ⟨dr_V (ym := PG.nam 118) dX9_side_14 (Or.inl w983) mi_118 rfl (lw_all_tbl qs15), (fun q hq => absurd hq List.not_mem_nil)⟩) (by decide)
theorem s_X9_side_17 : Snd PG.nam M122 17 (m_callI 138 2 20) := snd_callI (nam := PG.nam) (yy := 138) dX9_side_17 (Or.inl w1043) mi_138 rfl w1045 (by decide)
theorem s_X9_side_20 : Snd PG.nam M122 20 (m_aret) := snd_aret dX9_side_20 rfl (Or.inl ⟨_, rfl⟩)
theorem s_X9_side_21 : Snd PG.nam M122 21 (m_aload 0 22) := snd_aload_n dX9_side_21 rfl
theorem s_X9_side_22 : Snd PG.nam M122 22 (m_getf [(7, 4)] 25) := snd_getf dX9_side_22 fd_X9_90
theorem s_X9_side_25 : Snd PG.nam M122 25 (m_const (.int (nI 3)) 26) := snd_iconst dX9_side_25 (by decide)
theorem s_X9_side_26 : Snd PG.nam M122 26 (m_icmp (fun x z => if x = z then 29 else 49)) := snd_icmp_ne dX9_side_26 (by decide)
theorem s_X9_side_29 : Snd PG.nam M122 29 (m_new 13 [.null, .int 0] 32) := snd_new dX9_side_29 rfl w1041 w1042 w96 rfl (by decide +kernel)
theorem s_X9_side_32 : Snd PG.nam M122 32 (m_dup 33) := snd_dup dX9_side_32
theorem s_X9_side_33 : Snd PG.nam M122 33 (m_new 3 [.int 0] 36) := snd_new dX9_side_33 rfl w1056 w289 w75 rfl (by decide +kernel)
theorem s_X9_side_36 : Snd PG.nam M122 36 (m_dup 37) := snd_dup dX9_side_36
theorem s_X9_side_37 : Snd PG.nam M122 37 (m_aload 0 38) := snd_aload_n dX9_side_37 rfl
theorem s_X9_side_38 : Snd PG.nam M122 38 (m_callV false [(7, 123)] 0 41) := snd_callV (nam := PG.nam) (List.forall_mem_cons.mpr ⟨dr_V (ym := PG.nam 123) dX9_side_38 (Or.inl w1057) mi_123 rfl (lw_all_tbl qs20), (fun q hq => absurd hq List.not_mem_nil)⟩) (by decide)
theorem s_X9_side_41 : Snd PG.nam M122 41 (m_callI 97 1 44) := snd_callI (nam := PG.nam) (yy := 97) dX9_side_41 (Or.inl w1061) mi_97 rfl w293 (by decide)
theorem s_X9_side_44 : Snd PG.nam M122 44 (m_const (.int (-1)) 45) := snd_iconst dX9_side_44 (by decide)
theorem s_X9_side_45 : Snd PG.nam M122 45 (m_callI 138 2 48) := snd_callI (nam := PG.nam) (yy := 138) dX9_side_45 (Or.inl w1043) mi_138 rfl w1045 (by decide)
theorem s_X9_side_48 : Snd PG.nam M122 48 (m_aret) := snd_aret dX9_side_48 rfl (Or.inl ⟨_, rfl⟩)
theorem s_X9_side_49 : Snd PG.nam M122 49 (m_aload 0 50) := snd_aload_n dX9_side_49 rfl
theorem s_X9_side_50 : Snd PG.nam M122 50 (m_aload 0 51) := snd_aload_n dX9_side_50 rfl
theorem s_X9_side_51 : Snd PG.nam M122 51 (m_getf [(7, 4)] 54) := snd_getf dX9_side_51 fd_X9_90
theorem s_X9_side_54 : Snd PG.nam M122 54 (m_const (.int (nI 1)) 55) := snd_iconst dX9_side_54 (by decide)
theorem s_X9_side_55 : Snd PG.nam M122 55 (m_icmp (fun x z => if x = z then 58 else 62)) := snd_icmp_ne dX9_side_55 (by decide)
theorem s_X9_side_58 : Snd PG.nam M122 58 (m_const (.int (nI 1)) 59) := snd_iconst dX9_side_58 (by decide)
theorem s_X9_side_59 : Snd PG.nam M122 59 (m_goto 63) := snd_goto dX9_side_59 (by decide)
theorem s_X9_side_62 : Snd PG.nam M122 62 (m_const (.int (nI 0)) 63) := snd_iconst dX9_side_62 (by decide)
theorem s_X9_side_63 : Snd PG.nam M122 63 (m_aload 0 64) := snd_aload_n dX9_side_63 rfl
theorem s_X9_side_64 : Snd PG.nam M122 64 (m_getf [(7, 6)] 67) := snd_getf dX9_side_64 fd_X9_82
theorem s_X9_side_67 : Snd PG.nam M122 67 (m_callV true [(7, 116)] 2 70) := snd_callV (nam := PG.nam) (List.forall_mem_cons.mpr ⟨dr_V (ym := PG.nam 116) dX9_side_67 (Or.inl w973) mi_116 rfl (lw_all_tbl qs13), (fun q hq => absurd hq List.not_mem_nil)⟩) (by decide)
theorem s_X9_side_70 : Snd PG.nam M122 70 (m_new 4 [.null] 73) := snd_new dX9_side_70 rfl w1062 w405 w82 rfl (by decide +kernel)
theorem s_X9_side_73 : Snd PG.nam M122 73 (m_dup 74) := snd_dup dX9_side_73
theorem s_X9_side_74 : Snd PG.nam M122 74 (m_aload 0 75) := snd_aload_n dX9_side_74 rfl
theorem s_X9_side_75 : Snd PG.nam M122 75 (m_getf [(7, 5)] 78) := snd_getf dX9_side_75 fd_X9_87
theorem s_X9_side_78 : Snd PG.nam M122 78 (m_callI 101 1 81) := snd_callI (nam := PG.nam) (yy := 101) dX9_side_78 (Or.inl w1063) mi_101 rfl w554 (by decide)
theorem s_X9_side_81 : Snd PG.nam M122 81 (m_astore 1 82) := snd_astore_n dX9_side_81 rfl (by decide)
theorem s_X9_side_82 : Snd PG.nam M122 82 (m_aload 0 83) := snd_aload_n dX9_side_82 rfl
theorem s_X9_side_83 : Snd PG.nam M122 83 (m_callV true [(7, 108)] 0 86) := snd_callV (nam := PG.nam) (List.forall_mem_cons.mpr ⟨dr_V (ym := PG.nam 108) dX9_side_83 (Or.inl w761) mi_108 rfl (lw_all_tbl qs10), (fun q hq => absurd hq List.not_mem_nil)⟩) (by decide)
theorem s_X9_side_86 : Snd PG.nam M122 86 (m_new 13 [.null, .int 0] 89) := snd_new dX9_side_86 rfl w1041 w1042 w96 rfl (by decide +kernel)
theorem s_X9_side_89 : Snd PG.nam M122 89 (m_dup 90) := snd_dup dX9_side_89
theorem s_X9_side_90 : Snd PG.nam M122 90 (m_aload 1 91) := snd_aload_n dX9_side_90 rfl
theorem s_X9_side_91 : Snd PG.nam M122 91 (m_const (.int (-1)) 92) := snd_iconst dX9_side_91 (by decide)
theorem s_X9_side_92 : Snd PG.nam M122 92 (m_callI 138 2 95) := snd_callI (nam := PG.nam) (yy := 138) dX9_side_92 (Or.inl w1043) mi_138 rfl w1045 (by decide)
theorem s_X9_side_95 : Snd PG.nam M122 95 (m_aret) := snd_aret dX9_side_95 rfl (Or.inl ⟨_, rfl⟩)
theorem T122 : ∀ q ∈ S122, Snd PG.nam M122 q.1 q.2 := List.forall_mem_cons.mpr ⟨s_X9_side_0, List.forall_mem_cons.mpr ⟨s_X9_side_1, List.forall_mem_cons.mpr ⟨s_X9_side_4, List.forall_mem_cons.mpr ⟨s_X9_side_5, List.forall_mem_cons.mpr ⟨s_X9_side_8, List.forall_mem_cons.mpr ⟨s_X9_side_11, List.forall_mem_cons.mpr ⟨s_X9_side_12, List.forall_mem_cons.mpr ⟨s_X9_side_13, List.forall_mem_cons.mpr ⟨s_X9_side_14, List.forall_mem_cons.mpr ⟨s_X9_side_17, List.forall_mem_cons.mpr ⟨s_X9_side_20, List.forall_mem_cons.mpr ⟨s_X9_side_21, List.forall_mem_cons.mpr ⟨s_X9_side_22, List.forall_mem_cons.mpr ⟨s_X9_side_25, List.forall_mem_cons.mpr ⟨s_X9_side_26, List.forall_mem_cons.mpr ⟨s_X9_side_29, List.forall_mem_cons.mpr ⟨s_X9_side_32, List.forall_mem_cons.mpr ⟨s_X9_side_33, List.forall_mem_cons.mpr ⟨s_X9_side_36, List.forall_mem_cons.mpr ⟨s_X9_side_37, List.forall_mem_cons.mpr ⟨s_X9_side_38, List.forall_mem_cons.mpr ⟨s_X9_side_41, List.forall_mem_cons.mpr ⟨s_X9_side_44, List.forall_mem_cons.mpr ⟨s_X9_side_45, List.forall_mem_cons.mpr ⟨s_X9_side_48, List.forall_mem_cons.mpr ⟨s_X9_side_49, List.forall_mem_cons.mpr ⟨s_X9_side_50, List.forall_mem_cons.mpr ⟨s_X9_side_51, List.forall_mem_cons.mpr ⟨s_X9_side_54, List.forall_mem_cons.mpr ⟨s_X9_side_55, List.forall_mem_cons.mpr ⟨s_X9_side_58, List.forall_mem_cons.mpr ⟨s_X9_side_59, List.forall_mem_cons.mpr ⟨s_X9_side_62, List.forall_mem_cons.mpr ⟨s_X9_side_63, List.forall_mem_cons.mpr ⟨s_X9_side_64, List.forall_mem_cons.mpr ⟨s_X9_side_67, List.forall_mem_cons.mpr ⟨s_X9_side_70, List.forall_mem_cons.mpr ⟨s_X9_side_73, List.forall_mem_cons.mpr ⟨s_X9_side_74, List.forall_mem_cons.mpr ⟨s_X9_side_75, List.forall_mem_cons.mpr ⟨s_X9_side_78, List.forall_mem_cons.mpr ⟨s_X9_side_81, List.forall_mem_cons.mpr ⟨s_X9_side_82, List.forall_mem_cons.mpr ⟨s_X9_side_83, List.forall_mem_cons.mpr ⟨s_X9_side_86, List.forall_mem_cons.mpr ⟨s_X9_side_89, List.forall_mem_cons.mpr ⟨s_X9_side_90, List.forall_mem_cons.mpr ⟨s_X9_side_91, List.forall_mem_cons.mpr ⟨s_X9_side_92, List.forall_mem_cons.mpr ⟨s_X9_side_95, (fun q hq => absurd hq List.not_mem_nil)⟩⟩⟩⟩⟩⟩⟩⟩⟩⟩⟩⟩⟩⟩⟩⟩⟩⟩⟩⟩⟩⟩⟩⟩⟩⟩⟩⟩⟩⟩⟩⟩⟩⟩⟩⟩⟩⟩⟩⟩⟩⟩⟩⟩⟩⟩⟩⟩⟩⟩
theorem s_X9_number_0 : Snd PG.nam M123 0 (m_aload 0 1) := snd_aload_n dX9_number_0 rfl
theorem s_X9_number_1 : Snd PG.nam M123 1 (m_aload 0 2) := snd_aload_n dX9_number_1 rfl
theorem s_X9_number_2 : Snd PG.nam M123 2 (m_getf [(7, 4)] 5) := snd_getf dX9_number_2 fd_X9_90
theorem s_X9_number_5 : Snd PG.nam M123 5 (m_const (.int (nI 3)) 6) := snd_iconst dX9_number_5 (by decide)
theorem s_X9_number_6 : Snd PG.nam M123 6 (m_icmp (fun x z => if x = z then 9 else 13)) := snd_icmp_ne dX9_number_6 (by decide)
theorem s_X9_number_9 : Snd PG.nam M123 9 (m_const (.int (nI 1)) 10) := snd_iconst dX9_number_9 (by decide)
theorem s_X9_number_10 : Snd PG.nam M123 10 (m_goto 14) := snd_goto dX9_number_10 (by decide)
theorem s_X9_number_13 : Snd PG.nam M123 13 (m_const (.int (nI 0)) 14) := snd_iconst dX9_number_13 (by decide)
theorem s_X9_number_14 : Snd PG.nam M123 14 (m_aload 0 15) := snd_aload_n dX9_number_14 rfl
theorem s_X9_number_15 : Snd PG.nam M123 15 (m_getf [(7, 6)] 18) := snd_getf dX9_number_15 fd_X9_82
theorem s_X9_number_18 : Snd PG.nam M123 18 (m_callV true [(7, 116)] 2 21) := snd_callV (nam := PG.nam) (List.forall_mem_cons.mpr ⟨dr_V (ym := PG.nam 116) dX9_number_18 (Or.inl w973) mi_116 rfl (lw_all_tbl qs13), (fun q hq => absurd hq List.not_mem_nil)⟩) (by decide)
theorem s_X9_number_21 : Snd PG.nam M123 21 (m_const (.int (nI 0)) 22) := snd_iconst dX9_number_21 (by decide)
theorem s_X9_number_22 : Snd PG.nam M123 22 (m_istore 1 23) := snd_istore_n dX9_number_22 rfl (by decide)
theorem s_X9_number_23 : Snd PG.nam M123 23 (m_const (.int (nI 0)) 24) := snd_iconst dX9_number_23 (by decide)
theorem s_X9_number_24 : Snd PG.nam M123 24 (m_istore 2 25) := snd_istore_n dX9_number_24 rfl (by decide)
theorem s_X9_number_25 : Snd PG.nam M123 25 (m_iload 2 26) := snd_iload_n dX9_number_25 rfl
theorem s_X9_number_26 : Snd PG.nam M123 26 (m_aload 0 27) := snd_aload_n dX9_number_26 rfl
theorem s_X9_number_27 : Snd PG.nam M123 27 (m_getf [(7, 5)] 30) := snd_getf dX9_number_27 fd_X9_87
theorem s_X9_number_30 : Snd PG.nam M123 30 (m_callV false [(23, 179)] 0 33) := snd_callV (nam := PG.nam) (List.forall_mem_cons.mpr ⟨dr_V (ym := PG.nam 179) dX9_number_30 (Or.inl w765) mi_179 rfl w491, (fun q hq => absurd hq List.not_mem_nil)⟩) (by decide)
theorem s_X9_number_33 : Snd PG.nam M123 33 (m_icmp (fun x z => if x < z then 36 else 59)) := snd_icmp_ge dX9_number_33 (by decide)
theorem s_X9_number_36 : Snd PG.nam M123 36 (m_iload 1 37) := snd_iload_n dX9_number_36 rfl
theorem s_X9_number_37 : Snd PG.nam M123 37 (m_const (.int (nI 10)) 39) := snd_bipush dX9_number_37 (by decide)
theorem s_X9_number_39 : Snd PG.nam M123 39 (m_ibin (fun a b => a * b) 40) := snd_imul dX9_number_39
theorem s_X9_number_40 : Snd PG.nam M123 40 (m_aload 0 41) := snd_aload_n dX9_number_40 rfl
theorem s_X9_number_41 : Snd PG.nam M123 41 (m_getf [(7, 5)] 44) := snd_getf dX9_number_41 fd_X9_87
theorem s_X9_number_44 : Snd PG.nam M123 44 (m_iload 2 45) := snd_iload_n dX9_number_44 rfl
theorem s_X9_number_45 : Snd PG.nam M123 45 (m_callV false [(23, 182)] 1 48) := snd_callV (nam := PG.nam) (List.forall_mem_cons.mpr ⟨dr_V (ym := PG.nam 182) dX9_number_45 (Or.inl w766) mi_182 rfl w768, (fun q hq => absurd hq List.not_mem_nil)⟩) (by decide)
theorem s_X9_number_48 : Snd PG.nam M123 48 (m_ibin (fun a b => a + b) 49) := snd_iadd dX9_number_48
theorem s_X9_number_49 : Snd PG.nam M123 49 (m_const (.int (nI 48)) 51) := snd_bipush dX9_number_49 (by decide)
theorem s_X9_number_51 : Snd PG.nam M123 51 (m_ibin (fun a b => a - b) 52) := snd_isub dX9_number_51
theorem s_X9_number_52 : Snd PG.nam M123 52 (m_istore 1 53) := snd_istore_n dX9_number_52 rfl (by decide)
theorem s_X9_number_53 : Snd PG.nam M123 53 (m_iinc 2 (nI 1) 56) := snd_iinc dX9_number_53 (by decide) (by decide)
theorem s_X9_number_56 : Snd PG.nam M123 56 (m_goto 25) := snd_goto dX9_number_56 (by decide)
theorem s_X9_number_59 : Snd PG.nam M123 59 (m_aload 0 60) := snd_aload_n dX9_number_59 rfl
theorem s_X9_number_60 : Snd PG.nam M123 60 (m_callV true [(7, 108)] 0 63) := snd_callV (nam := PG.nam) (List.forall_mem_cons.mpr ⟨dr_V (ym := PG.nam 108) dX9_number_60 (Or.inl w761) mi_108 rfl (lw_all_tbl qs10), (fun q hq => absurd hq List.not_mem_nil)⟩) (by decide)
theorem s_X9_number_63 : Snd PG.nam M123 63 (m_iload 1 64) := snd_iload_n dX9_number_63 rfl
theorem s_X9_number_64 : Snd PG.nam M123 64 (m_iret .int) := snd_iret dX9_number_64 rfl
theorem T123 : ∀ q ∈ S123, Snd PG.nam M123 q.1 q.2 := List.forall_mem_cons.mpr ⟨s_X9_number_0, List.forall_mem_cons.mpr ⟨s_X9_number_1, List.forall_mem_cons.mpr ⟨s_X9_number_2, List.forall_mem_cons.mpr ⟨s_X9_number_5, List.forall_mem_cons.mpr ⟨s_X9_number_6, List.forall_mem_cons.mpr ⟨s_X9_number_9, List.forall_mem_cons.mpr ⟨s_X9_number_10, List.forall_mem_cons.mpr ⟨s_X9_number_13, List.forall_mem_cons.mpr ⟨s_X9_number_14, List.forall_mem_cons.mpr ⟨s_X9_number_15, List.forall_mem_cons.mpr ⟨s_X9_number_18, List.forall_mem_cons.mpr ⟨s_X9_number_21, List.forall_mem_cons.mpr ⟨s_X9_number_22, List.forall_mem_cons.mpr ⟨s_X9_number_23, List.forall_mem_cons.mpr ⟨s_X9_number_24, List.forall_mem_cons.mpr ⟨s_X9_number_25, List.forall_mem_cons.mpr ⟨s_X9_number_26, List.forall_mem_cons.mpr ⟨s_X9_number_27, List.forall_mem_cons.mpr ⟨s_X9_number_30, List.forall_mem_cons.mpr ⟨s_X9_number_33, List.forall_mem_cons.mpr ⟨s_X9_number_36, List.forall_mem_cons.mpr ⟨s_X9_number_37, List.forall_mem_cons.mpr ⟨s_X9_number_39, List.forall_mem_cons.mpr ⟨s_X9_number_40, List.forall_mem_cons.mpr ⟨s_X9_number_41, List.forall_mem_cons.mpr ⟨s_X9_number_44, List.forall_mem_cons.mpr ⟨s_X9_number_45, List.forall_mem_cons.mpr ⟨s_X9_number_48, List.forall_mem_cons.mpr ⟨s_X9_number_49, List.forall_mem_cons.mpr ⟨s_X9_number_51, List.forall_mem_cons.mpr ⟨s_X9_number_52, List.forall_mem_cons.mpr ⟨s_X9_number_53, List.forall_mem_cons.mpr ⟨s_X9_number_56, List.forall_mem_cons.mpr ⟨s_X9_number_59, List.forall_mem_cons.mpr ⟨s_X9_number_60, List.forall_mem_cons.mpr ⟨s_X9_number_63, List.forall_mem_cons.mpr ⟨s_X9_number_64, (fun q hq => absurd hq List.not_mem_nil)⟩⟩⟩⟩⟩⟩⟩⟩⟩⟩⟩⟩⟩⟩⟩⟩⟩⟩⟩⟩⟩⟩⟩⟩⟩⟩⟩⟩⟩⟩⟩⟩⟩⟩⟩⟩⟩
theorem s_X9_need_0 : Snd PG.nam M124 0 (m_aload 0 1) := snd_aload_n dX9_need_0 rfl
theorem s_X9_need_1 : Snd PG.nam M124 1 (m_aload 0 2) := snd_aload_n dX9_need_1 rfl
theorem s_X9_need_2 : Snd PG.nam M124 2 (m_getf [(7, 4)] 5) := snd_getf dX9_need_2 fd_X9_90
theorem s_X9_need_5 : Snd PG.nam M124 5 (m_iload 1 6) := snd_iload_n dX9_need_5 rfl
theorem s_X9_need_6 : Snd PG.nam M124 6 (m_icmp (fun x z => if x = z then 9 else 13)) := snd_icmp_ne dX9_need_6 (by decide)
theorem s_X9_need_9 : Snd PG.nam M124 9 (m_const (.int (nI 1)) 10) := snd_iconst dX9_need_9 (by decide)
theorem s_X9_need_10 : Snd PG.nam M124 10 (m_goto 14) := snd_goto dX9_need_10 (by decide)
theorem s_X9_need_13 : Snd PG.nam M124 13 (m_const (.int (nI 0)) 14) := snd_iconst dX9_need_13 (by decide)
theorem s_X9_need_14 : Snd PG.nam M124 14 (m_aload 0 15) := snd_aload_n dX9_need_14 rfl
theorem s_X9_need_15 : Snd PG.nam M124 15 (m_getf [(7, 6)] 18) := snd_getf dX9_need_15 fd_X9_82
theorem s_X9_need_18 : Snd PG.nam M124 18 (m_callV true [(7, 116)] 2 21) := snd_callV (nam := PG.nam) (List.forall_mem_cons.mpr ⟨dr_V (ym := PG.nam 116) dX9_need_18 (Or.inl w973) mi_116 rfl (lw_all_tbl qs13), (fun q hq => absurd hq List.not_mem_nil)⟩) (by decide)
theorem s_X9_need_21 : Snd PG.nam M124 21 (m_aload 0 22) := snd_aload_n dX9_need_21 rfl
theorem s_X9_need_22 : Snd PG.nam M124 22 (m_callV true [(7, 108)] 0 25) := snd_callV (nam := PG.nam) (List.forall_mem_cons.mpr ⟨dr_V (ym := PG.nam 108) dX9_need_22 (Or.inl w761) mi_108 rfl (lw_all_tbl qs10), (fun q hq => absurd hq List.not_mem_nil)⟩) (by decide)
theorem s_X9_need_25 : Snd PG.nam M124 25 (m_vret) := snd_vret dX9_need_25 rfl
theorem T124 : ∀ q ∈ S124, Snd PG.nam M124 q.1 q.2 := List.forall_mem_cons.mpr ⟨s_X9_need_0, List.forall_mem_cons.mpr ⟨s_X9_need_1, List.forall_mem_cons.mpr ⟨s_X9_need_2, List.forall_mem_cons.mpr ⟨s_X9_need_5, List.forall_mem_cons.mpr ⟨s_X9_need_6, List.forall_mem_cons.mpr ⟨s_X9_need_9, List.forall_mem_cons.mpr ⟨s_X9_need_10, List.forall_mem_cons.mpr ⟨s_X9_need_13, List.forall_mem_cons.mpr ⟨s_X9_need_14, List.forall_mem_cons.mpr ⟨s_X9_need_15, List.forall_mem_cons.mpr ⟨s_X9_need_18, List.forall_mem_cons.mpr ⟨s_X9_need_21, List.forall_mem_cons.mpr ⟨s_X9_need_22, List.forall_mem_cons.mpr ⟨s_X9_need_25, (fun q hq => absurd hq List.not_mem_nil)⟩⟩⟩⟩⟩⟩⟩⟩⟩⟩⟩⟩⟩⟩
theorem s_X10_init_0 : Snd PG.nam M125 0 (m_aload 0 1) := snd_aload_n dX10_init_0 rfl
theorem s_X10_init_1 : Snd PG.nam M125 1 (m_oi 4) := snd_oi dX10_init_1 w934 w113 w114
theorem s_X10_init_4 : Snd PG.nam M125 4 (m_aload 0 5) := snd_aload_n dX10_init_4 rfl
theorem s_X10_init_5 : Snd PG.nam M125 5 (m_const (.int (nI 6)) 7) := snd_bipush dX10_init_5 (by decide)
theorem s_X10_init_7 : Snd PG.nam M125 7 (m_newa .int 9) := snd_newa dX10_init_7 w968 rfl (by decide)
theorem s_X10_init_9 : Snd PG.nam M125 9 (m_putf [(8, 1)] (.array .int) 12) := snd_putF dX10_init_9 fd_X10_9 rfl
theorem s_X10_init_12 : Snd PG.nam M125 12 (m_aload 0 13) := snd_aload_n dX10_init_12 rfl
theorem s_X10_init_13 : Snd PG.nam M125 13 (m_const (.int (-1)) 14) := snd_iconst dX10_init_13 (by decide)
theorem s_X10_init_14 : Snd PG.nam M125 14 (m_putf [(8, 4)] .int 17) := snd_putf dX10_init_14 fd_X10_15
theorem s_X10_init_17 : Snd PG.nam M125 17 (m_aload 0 18) := snd_aload_n dX10_init_17 rfl
theorem s_X10_init_18 : Snd PG.nam M125 18 (m_const (.int (nI 150)) 21) := snd_sipush dX10_init_18 (by decide)
theorem s_X10_init_21 : Snd PG.nam M125 21 (m_putf [(8, 6)] .int 24) := snd_putf dX10_init_21 fd_X10_19
theorem s_X10_init_24 : Snd PG.nam M125 24 (m_vret) := snd_vret dX10_init_24 rfl
theorem T125 : ∀ q ∈ S125, Snd PG.nam M125 q.1 q.2 := List.forall_mem_cons.mpr ⟨s_X10_init_0, List.forall_mem_cons.mpr ⟨s_X10_init_1, List.forall_mem_cons.mpr ⟨s_X10_init_4, List.forall_mem_cons.mpr ⟨s_X10_init_5, List.forall_mem_cons.mpr ⟨s_X10_init_7, List.forall_mem_cons.mpr ⟨s_X10_init_9, List.forall_mem_cons.mpr ⟨s_X10_init_12, List.forall_mem_cons.mpr ⟨s_X10_init_13, List.forall_mem_cons.mpr ⟨s_X10_init_14, List.forall_mem_cons.mpr ⟨s_X10_init_17, List.forall_mem_cons.mpr ⟨s_X10_init_18, List.forall_mem_cons.mpr ⟨s_X10_init_21, List.forall_mem_cons.mpr ⟨s_X10_init_24, (fun q hq => absurd hq List.not_mem_nil)⟩⟩⟩⟩⟩⟩⟩⟩⟩⟩⟩⟩⟩
theorem s_X11_init_0 : Snd PG.nam M126 0 (m_aload 0 1) := snd_aload_n dX11_init_0 rfl
theorem s_X11_init_1 : Snd PG.nam M126 1 (m_oi 4) := snd_oi dX11_init_1 w996 w113 w114
theorem s_X11_init_4 : Snd PG.nam M126 4 (m_vret) := snd_vret dX11_init_4 rfl
theorem T126 : ∀ q ∈ S126, Snd PG.nam M126 q.1 q.2 := List.forall_mem_cons.mpr ⟨s_X11_init_0, List.forall_mem_cons.mpr ⟨s_X11_init_1, List.forall_mem_cons.mpr ⟨s_X11_init_4, (fun q hq => absurd hq List.not_mem_nil)⟩⟩⟩
theorem s_X11_add_0 : Snd PG.nam M127 0 (m_aload 0 1) := snd_aload_n dX11_add_0 rfl
theorem s_X11_add_1 : Snd PG.nam M127 1 (m_getf [(9, 0)] 4) := snd_getf dX11_add_1 fd_X11_7
theorem s_X11_add_4 : Snd PG.nam M127 4 (m_ifn 7 15) := snd_ifnonnull dX11_add_4 (by decide)
theorem s_X11_add_7 : Snd PG.nam M127 7 (m_aload 0 8) := snd_aload_n dX11_add_7 rfl
theorem s_X11_add_8 : Snd PG.nam M127 8 (m_aload 1 9) := snd_aload_n dX11_add_8 rfl
theorem s_X11_add_9 : Snd PG.nam M127 9 (m_putf [(9, 0)] (.object "TripleStore$Element") 12) := snd_putf dX11_add_9 fd_X11_7
theorem s_X11_add_12 : Snd PG.nam M127 12 (m_goto 23) := snd_goto dX11_add_12 (by decide)
theorem s_X11_add_15 : Snd PG.nam M127 15 (m_aload 0 16) := snd_aload_n dX11_add_15 rfl
theorem s_X11_add_16 : Snd PG.nam M127 16 (m_getf [(9, 1)] 19) := snd_getf dX11_add_16 fd_X11_13
theorem s_X11_add_19 : Snd PG.nam M127 19 (m_aload 1 20) := snd_aload_n dX11_add_19 rfl
theorem s_X11_add_20 : Snd PG.nam M127 20 (m_putf [(10, 0), (15, 0), (16, 0), (17, 0), (18, 0)] (.object "TripleStore$Element") 23) := snd_putf dX11_add_20 fd_X11_16
theorem s_X11_add_23 : Snd PG.nam M127 23 (m_aload 0 24) := snd_aload_n dX11_add_23 rfl
theorem s_X11_add_24 : Snd PG.nam M127 24 (m_aload 1 25) := snd_aload_n dX11_add_24 rfl
theorem s_X11_add_25 : Snd PG.nam M127 25 (m_putf [(9, 1)] (.object "TripleStore$Element") 28) := snd_putf dX11_add_25 fd_X11_13
theorem s_X11_add_28 : Snd PG.nam M127 28 (m_vret) := snd_vret dX11_add_28 rfl
theorem T127 : ∀ q ∈ S127, Snd PG.nam M127 q.1 q.2 := List.forall_mem_cons.mpr ⟨s_X11_add_0, List.forall_mem_cons.mpr ⟨s_X11_add_1, List.forall_mem_cons.mpr ⟨s_X11_add_4, List.forall_mem_cons.mpr ⟨s_X11_add_7, List.forall_mem_cons.mpr ⟨s_X11_add_8, List.forall_mem_cons.mpr ⟨s_X11_add_9, List.forall_mem_cons.mpr ⟨s_X11_add_12, List.forall_mem_cons.mpr ⟨s_X11_add_15, List.forall_mem_cons.mpr ⟨s_X11_add_16, List.forall_mem_cons.mpr ⟨s_X11_add_19, List.forall_mem_cons.mpr ⟨s_X11_add_20, List.forall_mem_cons.mpr ⟨s_X11_add_23, List.forall_mem_cons.mpr ⟨s_X11_add_24, List.forall_mem_cons.mpr ⟨s_X11_add_25, List.forall_mem_cons.mpr ⟨s_X11_add_28, (fun q hq => absurd hq List.not_mem_nil)⟩⟩⟩⟩⟩⟩⟩⟩⟩⟩⟩⟩⟩⟩⟩
theorem s_X11_find_0 : Snd PG.nam M128 0 (m_new 19 [.null, .int 0] 3) := snd_new dX11_find_0 rfl w1161 w1162 w102 rfl (by decide +kernel)
theorem s_X11_find_3 : Snd PG.nam M128 3 (m_dup 4) := snd_dup dX11_find_3
theorem s_X11_find_4 : Snd PG.nam M128 4 (m_callI 153 0 7) := snd_callI (nam := PG.nam) (yy := 153) dX11_find_4 (Or.inr ⟨_, w1163⟩) mi_153 rfl w1165 (by decide)
theorem s_X11_find_7 : Snd PG.nam M128 7 (m_astore 2 8) := snd_astore_n dX11_find_7 rfl (by decide)
theorem s_X11_find_8 : Snd PG.nam M128 8 (m_aload 2 9) := snd_aload_n dX11_find_8 rfl
theorem s_X11_find_9 : Snd PG.nam M128 9 (m_new 20 [.null] 12) := snd_new dX11_find_9 rfl w1186 w1187 w103 rfl (by decide +kernel)
theorem s_X11_find_12 : Snd PG.nam M128 12 (m_dup 13) := snd_dup dX11_find_12
theorem s_X11_find_13 : Snd PG.nam M128 13 (m_callI 156 0 16) := snd_callI (nam := PG.nam) (yy := 156) dX11_find_13 (Or.inr ⟨_, w1188⟩) mi_156 rfl w1190 (by decide)
theorem s_X11_find_16 : Snd PG.nam M128 16 (m_callV true [(19, 154)] 1 19) := snd_callV (nam := PG.nam) (List.forall_mem_cons.mpr ⟨dr_V (ym := PG.nam 154) dX11_find_16 (Or.inl w1201) mi_154 rfl w1203, (fun q hq => absurd hq List.not_mem_nil)⟩) (by decide)
theorem s_X11_find_19 : Snd PG.nam M128 19 (m_aload 0 20) := snd_aload_n dX11_find_19 rfl
theorem s_X11_find_20 : Snd PG.nam M128 20 (m_getf [(9, 0)] 23) := snd_getf dX11_find_20 fd_X11_7
theorem s_X11_find_23 : Snd PG.nam M128 23 (m_astore 3 24) := snd_astore_n dX11_find_23 rfl (by decide)
theorem s_X11_find_24 : Snd PG.nam M128 24 (m_aload 3 25) := snd_aload_n dX11_find_24 rfl
theorem s_X11_find_25 : Snd PG.nam M128 25 (m_ifn 43 28) := snd_ifnull dX11_find_25 (by decide)
theorem s_X11_find_28 : Snd PG.nam M128 28 (m_aload 3 29) := snd_aload_n dX11_find_28 rfl
theorem s_X11_find_29 : Snd PG.nam M128 29 (m_aload 2 30) := snd_aload_n dX11_find_29 rfl
theorem s_X11_find_30 : Snd PG.nam M128 30 (m_aload 1 31) := snd_aload_n dX11_find_30 rfl
theorem s_X11_find_31 : Snd PG.nam M128 31 (m_callV false [(15, 143), (16, 145), (18, 151), (17, 149), (10, 131)] 2 34) := snd_callV (nam := PG.nam) (List.forall_mem_cons.mpr ⟨dr_U (ym := PG.nam 143) dX11_find_31 w1207 w1209 (Or.inl w1208) (by decide) (by decide +kernel) w1233 rfl w1232, (List.forall_mem_cons.mpr ⟨dr_U (ym := PG.nam 145) dX11_find_31 w1207 w1209 (Or.inl w1208) (by decide) (by decide +kernel) w1214 rfl w1213, (List.forall_mem_cons.mpr ⟨dr_U (ym := PG.nam 151) dX11_find_31 w1207 w1209 (Or.inl w1208) (by decide) (by decide +kernel) w1247 rfl w1246, (List.forall_mem_cons.mpr ⟨dr_U (ym := PG.nam 149) dX11_find_31 w1207 w1209 (Or.inl w1208) (by decide) (by decide +kernel) w1273 rfl w1272, (List.forall_mem_cons.mpr ⟨dr_U (ym := PG.nam 131) dX11_find_31 w1207 w1209 (Or.inl w1208) (by decide) (by decide +kernel) w1211 rfl w1210, (fun q hq => absurd hq List.not_mem_nil)⟩)⟩)⟩)⟩)⟩) (by decide)
theorem s_X11_find_34 : Snd PG.nam M128 34 (m_astore 2 35) := snd_astore_n dX11_find_34 rfl (by decide)
theorem s_X11_find_35 : Snd PG.nam M128 35 (m_aload 3 36) := snd_aload_n dX11_find_35 rfl
theorem s_X11_find_36 : Snd PG.nam M128 36 (m_getf [(10, 0), (15, 0), (16, 0), (17, 0), (18, 0)] 39) := snd_getf dX11_find_36 fd_X11_16
theorem s_X11_find_39 : Snd PG.nam M128 39 (m_astore 3 40) := snd_astore_n dX11_find_39 rfl (by decide)
theorem s_X11_find_40 : Snd PG.nam M128 40 (m_goto 24) := snd_goto dX11_find_40 (by decide)
theorem s_X11_find_43 : Snd PG.nam M128 43 (m_aload 0 44) := snd_aload_n dX11_find_43 rfl
theorem s_X11_find_44 : Snd PG.nam M128 44 (m_getf [(9, 0)] 47) := snd_getf dX11_find_44 fd_X11_7
theorem s_X11_find_47 : Snd PG.nam M128 47 (m_astore 3 48) := snd_astore_n dX11_find_47 rfl (by decide)
theorem s_X11_find_48 : Snd PG.nam M128 48 (m_aload 3 49) := snd_aload_n dX11_find_48 rfl
theorem s_X11_find_49 : Snd PG.nam M128 49 (m_ifn 76 52) := snd_ifnull dX11_find_49 (by decide)
theorem s_X11_find_52 : Snd PG.nam M128 52 (m_aload 3 53) := snd_aload_n dX11_find_52 rfl
theorem s_X11_find_53 : Snd PG.nam M128 53 (m_inst [10] [15, 16, 17, 18] 56) := snd_inst dX11_find_53 w1280 (List.forall_mem_cons.mpr ⟨⟨_, rfl, Or.inr rfl⟩, (fun ci hci => absurd hci List.not_mem_nil)⟩) (List.forall_mem_cons.mpr ⟨⟨_, rfl, nc_X19_X13⟩, (List.forall_mem_cons.mpr ⟨⟨_, rfl, nc_X20_X13⟩, (List.forall_mem_cons.mpr ⟨⟨_, rfl, nc_X21_X13⟩, (List.forall_mem_cons.mpr ⟨⟨_, rfl, nc_X22_X13⟩, (fun ci hci => absurd hci List.not_mem_nil)⟩)⟩)⟩)⟩)
theorem s_X11_find_56 : Snd PG.nam M128 56 (m_ifz (fun x => if x = 0 then 68 else 59)) := snd_if_eq dX11_find_56 (by decide)
theorem s_X11_find_59 : Snd PG.nam M128 59 (m_aload 3 60) := snd_aload_n dX11_find_59 rfl
theorem s_X11_find_60 : Snd PG.nam M128 60 (m_cast [10] 63) := snd_cast dX11_find_60 w1280 (List.forall_mem_cons.mpr ⟨⟨_, rfl, Or.inr rfl⟩, (fun ci hci => absurd hci List.not_mem_nil)⟩)
theorem s_X11_find_63 : Snd PG.nam M128 63 (m_aload 2 64) := snd_aload_n dX11_find_63 rfl
theorem s_X11_find_64 : Snd PG.nam M128 64 (m_callV false [(10, 132)] 1 67) := snd_callV (nam := PG.nam) (List.forall_mem_cons.mpr ⟨dr_V (ym := PG.nam 132) dX11_find_64 (Or.inl w1281) mi_132 rfl w1283, (fun q hq => absurd hq List.not_mem_nil)⟩) (by decide)
theorem s_X11_find_67 : Snd PG.nam M128 67 (m_astore 2 68) := snd_astore_n dX11_find_67 rfl (by decide)
theorem s_X11_find_68 : Snd PG.nam M128 68 (m_aload 3 69) := snd_aload_n dX11_find_68 rfl
theorem s_X11_find_69 : Snd PG.nam M128 69 (m_getf [(10, 0), (15, 0), (16, 0), (17, 0), (18, 0)] 72) := snd_getf dX11_find_69 fd_X11_16
theorem s_X11_find_72 : Snd PG.nam M128 72 (m_astore 3 73) := snd_astore_n dX11_find_72 rfl (by decide)
theorem s_X11_find_73 : Snd PG.nam M128 73 (m_goto 48) := snd_goto dX11_find_73 (by decide)
theorem s_X11_find_76 : Snd PG.nam M128 76 (m_aload 2 77) := snd_aload_n dX11_find_76 rfl
theorem s_X11_find_77 : Snd PG.nam M128 77 (m_aret) := snd_aret dX11_find_77 rfl (Or.inl ⟨_, rfl⟩)
theorem T128 : ∀ q ∈ S128, Snd PG.nam M128 q.1 q.2 := List.forall_mem_cons.mpr ⟨s_X11_find_0, List.forall_mem_cons.mpr ⟨s_X11_find_3, List.forall_mem_cons.mpr ⟨s_X11_find_4, List.forall_mem_cons.mpr ⟨s_X11_find_7, List.forall_mem_cons.mpr ⟨s_X11_find_8, List.forall_mem_cons.mpr ⟨s_X11_find_9, List.forall_mem_cons.mpr ⟨s_X11_find_12, List.forall_mem_cons.mpr ⟨s_X11_find_13, List.forall_mem_cons.mpr ⟨s_X11_find_16, List.forall_mem_cons.mpr ⟨s_X11_find_19, List.forall_mem_cons.mpr ⟨s_X11_find_20, List.forall_mem_cons.mpr ⟨s_X11_find_23, List.forall_mem_cons.mpr ⟨s_X11_find_24, List.forall_mem_cons.mpr ⟨s_X11_find_25, List.forall_mem_cons.mpr ⟨s_X11_find_28, List.forall_mem_cons.mpr ⟨s_X11_find_29, List.forall_mem_cons.mpr ⟨s_X11_find_30, List.forall_mem_cons.mpr ⟨s_X11_find_31, List.forall_mem_cons.mpr ⟨s_X11_find_34, List.forall_mem_cons.mpr ⟨s_X11_find_35, List.forall_mem_cons.mpr ⟨s_X11_find_36, List.forall_mem_cons.mpr ⟨s_X11_find_39, List.forall_mem_cons.mpr ⟨s_X11_find_40, List.forall_mem_cons.mpr ⟨s_X11_find_43, List.forall_mem_cons.mpr ⟨s_X11_find_44, List.forall_mem_cons.mpr ⟨s_X11_find_47, List.forall_mem_cons.mpr ⟨s_X11_find_48, List.forall_mem_cons.mpr ⟨s_X11_find_49, List.forall_mem_cons.mpr ⟨s_X11_find_52, List.forall_mem_cons.mpr ⟨s_X11_find_53, List.forall_mem_cons.mpr ⟨s_X11_find_56, List.forall_mem_cons.mpr ⟨s_X11_find_59, List.forall_mem_cons.mpr ⟨s_X11_find_60, List.forall_mem_cons.mpr ⟨s_X11_find_63, List.forall_mem_cons.mpr ⟨s_X11_find_64, List.forall_mem_cons.mpr ⟨s_X11_find_67, List.forall_mem_cons.mpr ⟨s_X11_find_68, List.forall_mem_cons.mpr ⟨s_X11_find_69, List.forall_mem_cons.mpr ⟨s_X11_find_72, List.forall_mem_cons.mpr ⟨s_X11_find_73, List.forall_mem_cons.mpr ⟨s_X11_find_76, List.forall_mem_cons.mpr ⟨s_X11_find_77, (fun q hq => absurd hq List.not_mem_nil)⟩⟩⟩⟩⟩⟩⟩⟩⟩⟩⟩⟩⟩⟩⟩⟩⟩⟩⟩⟩⟩⟩⟩⟩⟩⟩⟩⟩⟩⟩⟩⟩⟩⟩⟩⟩⟩⟩⟩⟩⟩⟩
theorem s_X12_init_0 : Snd PG.nam M129 0 (m_aload 0 1) := snd_aload_n dX12_init_0 rfl
theorem s_X12_init_1 : Snd PG.nam M129 1 (m_oi 4) := snd_oi dX12_init_1 w1086 w113 w114
theorem s_X12_init_4 : Snd PG.nam M129 4 (m_vret) := snd_vret dX12_init_4 rfl
theorem T129 : ∀ q ∈ S129, Snd PG.nam M129 q.1 q.2 := List.forall_mem_cons.mpr ⟨s_X12_init_0, List.forall_mem_cons.mpr ⟨s_X12_init_1, List.forall_mem_cons.mpr ⟨s_X12_init_4, (fun q hq => absurd hq List.not_mem_nil)⟩⟩⟩
theorem s_X13_init_0 : Snd PG.nam M130 0 (m_aload 0 1) := snd_aload_n dX13_init_0 rfl
theorem s_X13_init_1 : Snd PG.nam M130 1 (m_callI 129 0 4) := snd_callI (nam := PG.nam) (yy := 129) dX13_init_1 (Or.inr ⟨_, w1083⟩) mi_129 rfl w1085 (by decide)
theorem s_X13_init_4 : Snd PG.nam M130 4 (m_aload 0 5) := snd_aload_n dX13_init_4 rfl
theorem s_X13_init_5 : Snd PG.nam M130 5 (m_aload 1 6) := snd_aload_n dX13_init_5 rfl
theorem s_X13_init_6 : Snd PG.nam M130 6 (m_putf [(10, 1)] (.object "TripleStore$Test") 9) := snd_putF dX13_init_6 fd_X13_7 rfl
theorem s_X13_init_9 : Snd PG.nam M130 9 (m_vret) := snd_vret dX13_init_9 rfl
theorem T130 : ∀ q ∈ S130, Snd PG.nam M130 q.1 q.2 := List.forall_mem_cons.mpr ⟨s_X13_init_0, List.forall_mem_cons.mpr ⟨s_X13_init_1, List.forall_mem_cons.mpr ⟨s_X13_init_4, List.forall_mem_cons.mpr ⟨s_X13_init_5, List.forall_mem_cons.mpr ⟨s_X13_init_6, List.forall_mem_cons.mpr ⟨s_X13_init_9, (fun q hq => absurd hq List.not_mem_nil)⟩⟩⟩⟩⟩⟩
theorem s_X13_apply_0 : Snd PG.nam M131 0 (m_aload 1 1) := snd_aload_n dX13_apply_0 rfl
theorem s_X13_apply_1 : Snd PG.nam M131 1 (m_aret) := snd_aret dX13_apply_1 rfl (Or.inl ⟨_, rfl⟩)
theorem T131 : ∀ q ∈ S131, Snd PG.nam M131 q.1 q.2 := List.forall_mem_cons.mpr ⟨s_X13_apply_0, List.forall_mem_cons.mpr ⟨s_X13_apply_1, (fun q hq => absurd hq List.not_mem_nil)⟩⟩
theorem s_X13_filtered_0 : Snd PG.nam M132 0 (m_new 19 [.null, .int 0] 3) := snd_new dX13_filtered_0 rfl w1285 w1162 w102 rfl (by decide +kernel)
theorem s_X13_filtered_3 : Snd PG.nam M132 3 (m_dup 4) := snd_dup dX13_filtered_3
theorem s_X13_filtered_4 : Snd PG.nam M132 4 (m_callI 153 0 7) := snd_callI (nam := PG.nam) (yy := 153) dX13_filtered_4 (Or.inr ⟨_, w1286⟩) mi_153 rfl w1165 (by decide)
theorem s_X13_filtered_7 : Snd PG.nam M132 7 (m_astore 2 8) := snd_astore_n dX13_filtered_7 rfl (by decide)
theorem s_X13_filtered_8 : Snd PG.nam M132 8 (m_const (.int (nI 0)) 9) := snd_iconst dX13_filtered_8 (by decide)
theorem s_X13_filtered_9 : Snd PG.nam M132 9 (m_istore 3 10) := snd_istore_n dX13_filtered_9 rfl (by decide)
theorem s_X13_filtered_10 : Snd PG.nam M132 10 (m_iload 3 11) := snd_iload_n dX13_filtered_10 rfl
theorem s_X13_filtered_11 : Snd PG.nam M132 11 (m_aload 1 12) := snd_aload_n dX13_filtered_11 rfl
theorem s_X13_filtered_12 : Snd PG.nam M132 12 (m_getf [(19, 1)] 15) := snd_getf dX13_filtered_12 fd_X13_16
theorem s_X13_filtered_15 : Snd PG.nam M132 15 (m_icmp (fun x z => if x < z then 18 else 50)) := snd_icmp_ge dX13_filtered_15 (by decide)
theorem s_X13_filtered_18 : Snd PG.nam M132 18 (m_aload 0 19) := snd_aload_n dX13_filtered_18 rfl
theorem s_X13_filtered_19 : Snd PG.nam M132 19 (m_getf [(10, 1)] 22) := snd_getf dX13_filtered_19 fd_X13_7
theorem s_X13_filtered_22 : Snd PG.nam M132 22 (m_aload 1 23) := snd_aload_n dX13_filtered_22 rfl
theorem s_X13_filtered_23 : Snd PG.nam M132 23 (m_getf [(19, 0)] 26) := snd_getf dX13_filtered_23 fd_X13_20
theorem s_X13_filtered_26 : Snd PG.nam M132 26 (m_iload 3 27) := snd_iload_n dX13_filtered_26 rfl
theorem s_X13_filtered_27 : Snd PG.nam M132 27 (m_aald 28) := snd_aald dX13_filtered_27
theorem s_X13_filtered_28 : Snd PG.nam M132 28 (m_callV false [(12, 137), (11, 135), (14, 141)] 1 31) := snd_callV (nam := PG.nam) (List.forall_mem_cons.mpr ⟨dr_U (ym := PG.nam 137) dX13_filtered_28 w1287 w1289 (Or.inl w1288) (by decide) (by decide +kernel) w1291 rfl w1290, (List.forall_mem_cons.mpr ⟨dr_U (ym := PG.nam 135) dX13_filtered_28 w1287 w1289 (Or.inl w1288) (by decide) (by decide +kernel) w1310 rfl w1309, (List.forall_mem_cons.mpr ⟨dr_U (ym := PG.nam 141) dX13_filtered_28 w1287 w1289 (Or.inl w1288) (by decide) (by decide +kernel) w1294 rfl w1293, (fun q hq => absurd hq List.not_mem_nil)⟩)⟩)⟩) (by decide)
theorem s_X13_filtered_31 : Snd PG.nam M132 31 (m_ifz (fun x => if x = 0 then 44 else 34)) := snd_if_eq dX13_filtered_31 (by decide)
theorem s_X13_filtered_34 : Snd PG.nam M132 34 (m_aload 2 35) := snd_aload_n dX13_filtered_34 rfl
theorem s_X13_filtered_35 : Snd PG.nam M132 35 (m_aload 1 36) := snd_aload_n dX13_filtered_35 rfl
theorem s_X13_filtered_36 : Snd PG.nam M132 36 (m_getf [(19, 0)] 39) := snd_getf dX13_filtered_36 fd_X13_20
theorem s_X13_filtered_39 : Snd PG.nam M132 39 (m_iload 3 40) := snd_iload_n dX13_filtered_39 rfl
theorem s_X13_filtered_40 : Snd PG.nam M132 40 (m_aald 41) := snd_aald dX13_filtered_40
theorem s_X13_filtered_41 : Snd PG.nam M132 41 (m_callV true [(19, 154)] 1 44) := snd_callV (nam := PG.nam) (List.forall_mem_cons.mpr ⟨dr_V (ym := PG.nam 154) dX13_filtered_41 (Or.inl w1313) mi_154 rfl w1203, (fun q hq => absurd hq List.not_mem_nil)⟩) (by decide)
theorem s_X13_filtered_44 : Snd PG.nam M132 44 (m_iinc 3 (nI 1) 47) := snd_iinc dX13_filtered_44 (by decide) (by decide)
theorem s_X13_filtered_47 : Snd PG.nam M132 47 (m_goto 10) := snd_goto dX13_filtered_47 (by decide)
theorem s_X13_filtered_50 : Snd PG.nam M132 50 (m_aload 2 51) := snd_aload_n dX13_filtered_50 rfl
theorem s_X13_filtered_51 : Snd PG.nam M132 51 (m_aret) := snd_aret dX13_filtered_51 rfl (Or.inl ⟨_, rfl⟩)
theorem T132 : ∀ q ∈ S132, Snd PG.nam M132 q.1 q.2 := List.forall_mem_cons.mpr ⟨s_X13_filtered_0, List.forall_mem_cons.mpr ⟨s_X13_filtered_3, List.forall_mem_cons.mpr ⟨s_X13_filtered_4, List.forall_mem_cons.mpr ⟨s_X13_filtered_7, List.forall_mem_cons.mpr ⟨s_X13_filtered_8, List.forall_mem_cons.mpr ⟨s_X13_filtered_9, List.forall_mem_cons.mpr ⟨s_X13_filtered_10, List.forall_mem_cons.mpr ⟨s_X13_filtered_11, List.forall_mem_cons.mpr ⟨s_X13_filtered_12, List.forall_mem_cons.mpr ⟨s_X13_filtered_15, List.forall_mem_cons.mpr ⟨s_X13_filtered_18, List.forall_mem_cons.mpr ⟨s_X13_filtered_19, List.forall_mem_cons.mpr ⟨s_X13_filtered_22, List.forall_mem_cons.mpr ⟨s_X13_filtered_23, List.forall_mem_cons.mpr ⟨s_X13_filtered_26, List.forall_mem_cons.mpr ⟨s_X13_filtered_27, List.forall_mem_cons.mpr ⟨s_X13_filtered_28, List.forall_mem_cons.mpr ⟨s_X13_filtered_31, List.forall_mem_cons.mpr ⟨s_X13_filtered_34, List.forall_mem_cons.mpr ⟨s_X13_filtered_35, List.forall_mem_cons.mpr ⟨s_X13_filtered_36, List.forall_mem_cons.mpr ⟨s_X13_filtered_39, List.forall_mem_cons.mpr ⟨s_X13_filtered_40, List.forall_mem_cons.mpr ⟨s_X13_filtered_41, List.forall_mem_cons.mpr ⟨s_X13_filtered_44, List.forall_mem_cons.mpr ⟨s_X13_filtered_47, List.forall_mem_cons.mpr ⟨s_X13_filtered_50, List.forall_mem_cons.mpr ⟨s_X13_filtered_51, (fun q hq => absurd hq List.not_mem_nil)⟩⟩⟩⟩⟩⟩⟩⟩⟩⟩⟩⟩⟩⟩⟩⟩⟩⟩⟩⟩⟩⟩⟩⟩⟩⟩⟩⟩
theorem s_X14_init_0 : Snd PG.nam M133 0 (m_aload 0 1) := snd_aload_n dX14_init_0 rfl
theorem s_X14_init_1 : Snd PG.nam M133 1 (m_oi 4) := snd_oi dX14_init_1 w1022 w113 w114
theorem s_X14_init_4 : Snd PG.nam M133 4 (m_vret) := snd_vret dX14_init_4 rfl
theorem T133 : ∀ q ∈ S133, Snd PG.nam M133 q.1 q.2 := List.forall_mem_cons.mpr ⟨s_X14_init_0, List.forall_mem_cons.mpr ⟨s_X14_init_1, List.forall_mem_cons.mpr ⟨s_X14_init_4, (fun q hq => absurd hq List.not_mem_nil)⟩⟩⟩
theorem s_X15_init_0 : Snd PG.nam M134 0 (m_aload 0 1) := snd_aload_n dX15_init_0 rfl
theorem s_X15_init_1 : Snd PG.nam M134 1 (m_callI 133 0 4) := snd_callI (nam := PG.nam) (yy := 133) dX15_init_1 (Or.inr ⟨_, w1019⟩) mi_133 rfl w1021 (by decide)
theorem s_X15_init_4 : Snd PG.nam M134 4 (m_aload 0 5) := snd_aload_n dX15_init_4 rfl
theorem s_X15_init_5 : Snd PG.nam M134 5 (m_aload 1 6) := snd_aload_n dX15_init_5 rfl
theorem s_X15_init_6 : Snd PG.nam M134 6 (m_putf [(11, 0)] (.object "TripleStore$Test") 9) := snd_putF dX15_init_6 fd_X15_7 rfl
theorem s_X15_init_9 : Snd PG.nam M134 9 (m_vret) := snd_vret dX15_init_9 rfl
theorem T134 : ∀ q ∈ S134, Snd PG.nam M134 q.1 q.2 := List.forall_mem_cons.mpr ⟨s_X15_init_0, List.forall_mem_cons.mpr ⟨s_X15_init_1, List.forall_mem_cons.mpr ⟨s_X15_init_4, List.forall_mem_cons.mpr ⟨s_X15_init_5, List.forall_mem_cons.mpr ⟨s_X15_init_6, List.forall_mem_cons.mpr ⟨s_X15_init_9, (fun q hq => absurd hq List.not_mem_nil)⟩⟩⟩⟩⟩⟩
theorem s_X15_holds_0 : Snd PG.nam M135 0 (m_aload 0 1) := snd_aload_n dX15_holds_0 rfl
theorem s_X15_holds_1 : Snd PG.nam M135 1 (m_getf [(11, 0)] 4) := snd_getf dX15_holds_1 fd_X15_7
theorem s_X15_holds_4 : Snd PG.nam M135 4 (m_aload 1 5) := snd_aload_n dX15_holds_4 rfl
theorem s_X15_holds_5 : Snd PG.nam M135 5 (m_callV false [(12, 137), (11, 135), (14, 141)] 1 8) := snd_callV (nam := PG.nam) (List.forall_mem_cons.mpr ⟨dr_U (ym := PG.nam 137) dX15_holds_5 w1312 w1289 (Or.inl w1288) (by decide) (by decide +kernel) w1291 rfl w1290, (List.forall_mem_cons.mpr ⟨dr_U (ym := PG.nam 135) dX15_holds_5 w1312 w1289 (Or.inl w1288) (by decide) (by decide +kernel) w1310 rfl w1309, (List.forall_mem_cons.mpr ⟨dr_U (ym := PG.nam 141) dX15_holds_5 w1312 w1289 (Or.inl w1288) (by decide) (by decide +kernel) w1294 rfl w1293, (fun q hq => absurd hq List.not_mem_nil)⟩)⟩)⟩) (by decide)
theorem s_X15_holds_8 : Snd PG.nam M135 8 (m_ifz (fun x => if x = 0 then 11 else 15)) := snd_if_ne dX15_holds_8 (by decide)
theorem s_X15_holds_11 : Snd PG.nam M135 11 (m_const (.int (nI 1)) 12) := snd_iconst dX15_holds_11 (by decide)
theorem s_X15_holds_12 : Snd PG.nam M135 12 (m_goto 16) := snd_goto dX15_holds_12 (by decide)
theorem s_X15_holds_15 : Snd PG.nam M135 15 (m_const (.int (nI 0)) 16) := snd_iconst dX15_holds_15 (by decide)
theorem s_X15_holds_16 : Snd PG.nam M135 16 (m_iret .boolean) := snd_iret dX15_holds_16 rfl
theorem T135 : ∀ q ∈ S135, Snd PG.nam M135 q.1 q.2 := List.forall_mem_cons.mpr ⟨s_X15_holds_0, List.forall_mem_cons.mpr ⟨s_X15_holds_1, List.forall_mem_cons.mpr ⟨s_X15_holds_4, List.forall_mem_cons.mpr ⟨s_X15_holds_5, List.forall_mem_cons.mpr ⟨s_X15_holds_8, List.forall_mem_cons.mpr ⟨s_X15_holds_11, List.forall_mem_cons.mpr ⟨s_X15_holds_12, List.forall_mem_cons.mpr ⟨s_X15_holds_15, List.forall_mem_cons.mpr ⟨s_X15_holds_16, (fun q hq => absurd hq List.not_mem_nil)⟩⟩⟩⟩⟩⟩⟩⟩⟩
theorem s_X16_init_0 : Snd PG.nam M136 0 (m_aload 0 1) := snd_aload_n dX16_init_0 rfl
theorem s_X16_init_1 : Snd PG.nam M136 1 (m_callI 133 0 4) := snd_callI (nam := PG.nam) (yy := 133) dX16_init_1 (Or.inr ⟨_, w1032⟩) mi_133 rfl w1021 (by decide)
theorem s_X16_init_4 : Snd PG.nam M136 4 (m_aload 0 5) := snd_aload_n dX16_init_4 rfl
theorem s_X16_init_5 : Snd PG.nam M136 5 (m_iload 1 6) := snd_iload_n dX16_init_5 rfl
theorem s_X16_init_6 : Snd PG.nam M136 6 (m_putf [(12, 0)] .int 9) := snd_putF dX16_init_6 fd_X16_7 rfl
theorem s_X16_init_9 : Snd PG.nam M136 9 (m_vret) := snd_vret dX16_init_9 rfl
theorem T136 : ∀ q ∈ S136, Snd PG.nam M136 q.1 q.2 := List.forall_mem_cons.mpr ⟨s_X16_init_0, List.forall_mem_cons.mpr ⟨s_X16_init_1, List.forall_mem_cons.mpr ⟨s_X16_init_4, List.forall_mem_cons.mpr ⟨s_X16_init_5, List.forall_mem_cons.mpr ⟨s_X16_init_6, List.forall_mem_cons.mpr ⟨s_X16_init_9, (fun q hq => absurd hq List.not_mem_nil)⟩⟩⟩⟩⟩⟩
theorem s_X16_holds_0 : Snd PG.nam M137 0 (m_aload 1 1) := snd_aload_n dX16_holds_0 rfl
theorem s_X16_holds_1 : Snd PG.nam M137 1 (m_getf [(20, 0)] 4) := snd_getf dX16_holds_1 fd_X16_13
theorem s_X16_holds_4 : Snd PG.nam M137 4 (m_aload 0 5) := snd_aload_n dX16_holds_4 rfl
theorem s_X16_holds_5 : Snd PG.nam M137 5 (m_getf [(12, 0)] 8) := snd_getf dX16_holds_5 fd_X16_7
theorem s_X16_holds_8 : Snd PG.nam M137 8 (m_aald 9) := snd_aald dX16_holds_8
theorem s_X16_holds_9 : Snd PG.nam M137 9 (m_ifn 16 12) := snd_ifnull dX16_holds_9 (by decide)
theorem s_X16_holds_12 : Snd PG.nam M137 12 (m_const (.int (nI 1)) 13) := snd_iconst dX16_holds_12 (by decide)
theorem s_X16_holds_13 : Snd PG.nam M137 13 (m_goto 17) := snd_goto dX16_holds_13 (by decide)
theorem s_X16_holds_16 : Snd PG.nam M137 16 (m_const (.int (nI 0)) 17) := snd_iconst dX16_holds_16 (by decide)
theorem s_X16_holds_17 : Snd PG.nam M137 17 (m_iret .boolean) := snd_iret dX16_holds_17 rfl
theorem T137 : ∀ q ∈ S137, Snd PG.nam M137 q.1 q.2 := List.forall_mem_cons.mpr ⟨s_X16_holds_0, List.forall_mem_cons.mpr ⟨s_X16_holds_1, List.forall_mem_cons.mpr ⟨s_X16_holds_4, List.forall_mem_cons.mpr ⟨s_X16_holds_5, List.forall_mem_cons.mpr ⟨s_X16_holds_8, List.forall_mem_cons.mpr ⟨s_X16_holds_9, List.forall_mem_cons.mpr ⟨s_X16_holds_12, List.forall_mem_cons.mpr ⟨s_X16_holds_13, List.forall_mem_cons.mpr ⟨s_X16_holds_16, List.forall_mem_cons.mpr ⟨s_X16_holds_17, (fun q hq => absurd hq List.not_mem_nil)⟩⟩⟩⟩⟩⟩⟩⟩⟩⟩
theorem s_X17_init_0 : Snd PG.nam M138 0 (m_aload 0 1) := snd_aload_n dX17_init_0 rfl
theorem s_X17_init_1 : Snd PG.nam M138 1 (m_oi 4) := snd_oi dX17_init_1 w1046 w113 w114
theorem s_X17_init_4 : Snd PG.nam M138 4 (m_aload 0 5) := snd_aload_n dX17_init_4 rfl
theorem s_X17_init_5 : Snd PG.nam M138 5 (m_aload 1 6) := snd_aload_n dX17_init_5 rfl
theorem s_X17_init_6 : Snd PG.nam M138 6 (m_putf [(13, 0)] (.object "TripleStore$Term") 9) := snd_putF dX17_init_6 fd_X17_7 rfl
theorem s_X17_init_9 : Snd PG.nam M138 9 (m_aload 0 10) := snd_aload_n dX17_init_9 rfl
theorem s_X17_init_10 : Snd PG.nam M138 10 (m_iload 2 11) := snd_iload_n dX17_init_10 rfl
theorem s_X17_init_11 : Snd PG.nam M138 11 (m_putf [(13, 1)] .int 14) := snd_putF dX17_init_11 fd_X17_13 rfl
theorem s_X17_init_14 : Snd PG.nam M138 14 (m_vret) := snd_vret dX17_init_14 rfl
theorem T138 : ∀ q ∈ S138, Snd PG.nam M138 q.1 q.2 := List.forall_mem_cons.mpr ⟨s_X17_init_0, List.forall_mem_cons.mpr ⟨s_X17_init_1, List.forall_mem_cons.mpr ⟨s_X17_init_4, List.forall_mem_cons.mpr ⟨s_X17_init_5, List.forall_mem_cons.mpr ⟨s_X17_init_6, List.forall_mem_cons.mpr ⟨s_X17_init_9, List.forall_mem_cons.mpr ⟨s_X17_init_10, List.forall_mem_cons.mpr ⟨s_X17_init_11, List.forall_mem_cons.mpr ⟨s_X17_init_14, (fun q hq => absurd hq List.not_mem_nil)⟩⟩⟩⟩⟩⟩⟩⟩⟩
theorem s_X17_in_0 : Snd PG.nam M139 0 (m_aload 0 1) := snd_aload_n dX17_in_0 rfl
theorem s_X17_in_1 : Snd PG.nam M139 1 (m_getf [(13, 0)] 4) := snd_getf dX17_in_1 fd_X17_7
theorem s_X17_in_4 : Snd PG.nam M139 4 (m_ifn 14 7) := snd_ifnull dX17_in_4 (by decide)
theorem s_X17_in_7 : Snd PG.nam M139 7 (m_aload 0 8) := snd_aload_n dX17_in_7 rfl
theorem s_X17_in_8 : Snd PG.nam M139 8 (m_getf [(13, 0)] 11) := snd_getf dX17_in_8 fd_X17_7
theorem s_X17_in_11 : Snd PG.nam M139 11 (m_goto 23) := snd_goto dX17_in_11 (by decide)
theorem s_X17_in_14 : Snd PG.nam M139 14 (m_aload 1 15) := snd_aload_n dX17_in_14 rfl
theorem s_X17_in_15 : Snd PG.nam M139 15 (m_getf [(20, 0)] 18) := snd_getf dX17_in_15 fd_X17_17
theorem s_X17_in_18 : Snd PG.nam M139 18 (m_aload 0 19) := snd_aload_n dX17_in_18 rfl
theorem s_X17_in_19 : Snd PG.nam M139 19 (m_getf [(13, 1)] 22) := snd_getf dX17_in_19 fd_X17_13
theorem s_X17_in_22 : Snd PG.nam M139 22 (m_aald 23) := snd_aald dX17_in_22
theorem s_X17_in_23 : Snd PG.nam M139 23 (m_aret) := snd_aret dX17_in_23 rfl (Or.inl ⟨_, rfl⟩)
theorem T139 : ∀ q ∈ S139, Snd PG.nam M139 q.1 q.2 := List.forall_mem_cons.mpr ⟨s_X17_in_0, List.forall_mem_cons.mpr ⟨s_X17_in_1, List.forall_mem_cons.mpr ⟨s_X17_in_4, List.forall_mem_cons.mpr ⟨s_X17_in_7, List.forall_mem_cons.mpr ⟨s_X17_in_8, List.forall_mem_cons.mpr ⟨s_X17_in_11, List.forall_mem_cons.mpr ⟨s_X17_in_14, List.forall_mem_cons.mpr ⟨s_X17_in_15, List.forall_mem_cons.mpr ⟨s_X17_in_18, List.forall_mem_cons.mpr ⟨s_X17_in_19, List.forall_mem_cons.mpr ⟨s_X17_in_22, List.forall_mem_cons.mpr ⟨s_X17_in_23, (fun q hq => absurd hq List.not_mem_nil)⟩⟩⟩⟩⟩⟩⟩⟩⟩⟩⟩⟩
theorem s_X18_init_0 : Snd PG.nam M140 0 (m_aload 0 1) := snd_aload_n dX18_init_0 rfl
theorem s_X18_init_1 : Snd PG.nam M140 1 (m_callI 133 0 4) := snd_callI (nam := PG.nam) (yy := 133) dX18_init_1 (Or.inr ⟨_, w1069⟩) mi_133 rfl w1021 (by decide)
theorem s_X18_init_4 : Snd PG.nam M140 4 (m_aload 0 5) := snd_aload_n dX18_init_4 rfl
theorem s_X18_init_5 : Snd PG.nam M140 5 (m_aload 1 6) := snd_aload_n dX18_init_5 rfl
theorem s_X18_init_6 : Snd PG.nam M140 6 (m_putf [(14, 0)] (.object "TripleStore$Side") 9) := snd_putF dX18_init_6 fd_X18_7 rfl
theorem s_X18_init_9 : Snd PG.nam M140 9 (m_aload 0 10) := snd_aload_n dX18_init_9 rfl
theorem s_X18_init_10 : Snd PG.nam M140 10 (m_iload 2 11) := snd_iload_n dX18_init_10 rfl
theorem s_X18_init_11 : Snd PG.nam M140 11 (m_putf [(14, 1)] .char 14) := snd_putF dX18_init_11 fd_X18_13 rfl
theorem s_X18_init_14 : Snd PG.nam M140 14 (m_aload 0 15) := snd_aload_n dX18_init_14 rfl
theorem s_X18_init_15 : Snd PG.nam M140 15 (m_aload 3 16) := snd_aload_n dX18_init_15 rfl
theorem s_X18_init_16 : Snd PG.nam M140 16 (m_putf [(14, 2)] (.object "TripleStore$Side") 19) := snd_putF dX18_init_16 fd_X18_17 rfl
theorem s_X18_init_19 : Snd PG.nam M140 19 (m_vret) := snd_vret dX18_init_19 rfl
theorem T140 : ∀ q ∈ S140, Snd PG.nam M140 q.1 q.2 := List.forall_mem_cons.mpr ⟨s_X18_init_0, List.forall_mem_cons.mpr ⟨s_X18_init_1, List.forall_mem_cons.mpr ⟨s_X18_init_4, List.forall_mem_cons.mpr ⟨s_X18_init_5, List.forall_mem_cons.mpr ⟨s_X18_init_6, List.forall_mem_cons.mpr ⟨s_X18_init_9, List.forall_mem_cons.mpr ⟨s_X18_init_10, List.forall_mem_cons.mpr ⟨s_X18_init_11, List.forall_mem_cons.mpr ⟨s_X18_init_14, List.forall_mem_cons.mpr ⟨s_X18_init_15, List.forall_mem_cons.mpr ⟨s_X18_init_16, List.forall_mem_cons.mpr ⟨s_X18_init_19, (fun q hq => absurd hq List.not_mem_nil)⟩⟩⟩⟩⟩⟩⟩⟩⟩⟩⟩⟩
theorem s_X18_holds_0 : Snd PG.nam M141 0 (m_aload 0 1) := snd_aload_n dX18_holds_0 rfl
theorem s_X18_holds_1 : Snd PG.nam M141 1 (m_getf [(14, 0)] 4) := snd_getf dX18_holds_1 fd_X18_7
theorem s_X18_holds_4 : Snd PG.nam M141 4 (m_aload 1 5) := snd_aload_n dX18_holds_4 rfl
theorem s_X18_holds_5 : Snd PG.nam M141 5 (m_callV false [(13, 139)] 1 8) := snd_callV (nam := PG.nam) (List.forall_mem_cons.mpr ⟨dr_V (ym := PG.nam 139) dX18_holds_5 (Or.inl w1296) mi_139 rfl w1259, (fun q hq => absurd hq List.not_mem_nil)⟩) (by decide)
theorem s_X18_holds_8 : Snd PG.nam M141 8 (m_astore 2 9) := snd_astore_n dX18_holds_8 rfl (by decide)
theorem s_X18_holds_9 : Snd PG.nam M141 9 (m_aload 0 10) := snd_aload_n dX18_holds_9 rfl
theorem s_X18_holds_10 : Snd PG.nam M141 10 (m_getf [(14, 2)] 13) := snd_getf dX18_holds_10 fd_X18_17
theorem s_X18_holds_13 : Snd PG.nam M141 13 (m_aload 1 14) := snd_aload_n dX18_holds_13 rfl
theorem s_X18_holds_14 : Snd PG.nam M141 14 (m_callV false [(13, 139)] 1 17) := snd_callV (nam := PG.nam) (List.forall_mem_cons.mpr ⟨dr_V (ym := PG.nam 139) dX18_holds_14 (Or.inl w1296) mi_139 rfl w1259, (fun q hq => absurd hq List.not_mem_nil)⟩) (by decide)
theorem s_X18_holds_17 : Snd PG.nam M141 17 (m_astore 3 18) := snd_astore_n dX18_holds_17 rfl (by decide)
theorem s_X18_holds_18 : Snd PG.nam M141 18 (m_aload 2 19) := snd_aload_n dX18_holds_18 rfl
theorem s_X18_holds_19 : Snd PG.nam M141 19 (m_ifn 26 22) := snd_ifnull dX18_holds_19 (by decide)
theorem s_X18_holds_22 : Snd PG.nam M141 22 (m_aload 3 23) := snd_aload_n dX18_holds_22 rfl
theorem s_X18_holds_23 : Snd PG.nam M141 23 (m_ifn 26 28) := snd_ifnonnull dX18_holds_23 (by decide)
theorem s_X18_holds_26 : Snd PG.nam M141 26 (m_const (.int (nI 0)) 27) := snd_iconst dX18_holds_26 (by decide)
theorem s_X18_holds_27 : Snd PG.nam M141 27 (m_iret .boolean) := snd_iret dX18_holds_27 rfl
theorem s_X18_holds_28 : Snd PG.nam M141 28 (m_aload 0 29) := snd_aload_n dX18_holds_28 rfl
theorem s_X18_holds_29 : Snd PG.nam M141 29 (m_getf [(14, 1)] 32) := snd_getf dX18_holds_29 fd_X18_13
theorem s_X18_holds_32 : Snd PG.nam M141 32 (m_ifz (fun x => if x = (nI 33) then 74 else if x = (nI 60) then 88 else if x = (nI 61) then 68 else 94)) := snd_sw (fun Ω d mc ms P h k n lv st x kk => by
    dsimp only at kk
    by_cases h0 : x = (nI 33)
    · rw [if_pos h0] at kk; subst h0; exact V.lookup (off := 42) dX18_holds_32 (by decide +kernel) (by decide +kernel) (by decide) kk
    rw [if_neg h0] at kk
    by_cases h1 : x = (nI 60)
    · rw [if_pos h1] at kk; subst h1; exact V.lookup (off := 56) dX18_holds_32 (by decide +kernel) (by decide +kernel) (by decide) kk
    rw [if_neg h1] at kk
    by_cases h2 : x = (nI 61)
    · rw [if_pos h2] at kk; subst h2; exact V.lookup (off := 36) dX18_holds_32 (by decide +kernel) (by decide +kernel) (by decide) kk
    rw [if_neg h2] at kk
    have g0 := sw_ne h0 (v := 33) (by decide +kernel)
    have g1 := sw_ne h1 (v := 60) (by decide +kernel)
    have g2 := sw_ne h2 (v := 61) (by decide +kernel)
    refine V.lookup dX18_holds_32 (by decide +kernel) (off := 62) ?_ (by decide) kk
    simp [Op.lookupswitch.offset, Ne.symm g0, Ne.symm g1, Ne.symm g2])
theorem s_X18_holds_68 : Snd PG.nam M141 68 (m_aload 2 69) := snd_aload_n dX18_holds_68 rfl
theorem s_X18_holds_69 : Snd PG.nam M141 69 (m_aload 3 70) := snd_aload_n dX18_holds_69 rfl
theorem s_X18_holds_70 : Snd PG.nam M141 70 (m_callV false [(3, 98), (4, 102)] 1 73) := snd_callV (nam := PG.nam) (List.forall_mem_cons.mpr ⟨dr_U (ym := PG.nam 98) dX18_holds_70 w1297 w582 (Or.inl w581) (by decide) (by decide +kernel) w584 rfl w583, (List.forall_mem_cons.mpr ⟨dr_U (ym := PG.nam 102) dX18_holds_70 w1297 w582 (Or.inl w581) (by decide) (by decide +kernel) w588 rfl w587, (fun q hq => absurd hq List.not_mem_nil)⟩)⟩) (by decide)
theorem s_X18_holds_73 : Snd PG.nam M141 73 (m_iret .boolean) := snd_iret dX18_holds_73 rfl
theorem s_X18_holds_74 : Snd PG.nam M141 74 (m_aload 2 75) := snd_aload_n dX18_holds_74 rfl
theorem s_X18_holds_75 : Snd PG.nam M141 75 (m_aload 3 76) := snd_aload_n dX18_holds_75 rfl
theorem s_X18_holds_76 : Snd PG.nam M141 76 (m_callV false [(3, 98), (4, 102)] 1 79) := snd_callV (nam := PG.nam) (List.forall_mem_cons.mpr ⟨dr_U (ym := PG.nam 98) dX18_holds_76 w1297 w582 (Or.inl w581) (by decide) (by decide +kernel) w584 rfl w583, (List.forall_mem_cons.mpr ⟨dr_U (ym := PG.nam 102) dX18_holds_76 w1297 w582 (Or.inl w581) (by decide) (by decide +kernel) w588 rfl w587, (fun q hq => absurd hq List.not_mem_nil)⟩)⟩) (by decide)
theorem s_X18_holds_79 : Snd PG.nam M141 79 (m_ifz (fun x => if x = 0 then 82 else 86)) := snd_if_ne dX18_holds_79 (by decide)
theorem s_X18_holds_82 : Snd PG.nam M141 82 (m_const (.int (nI 1)) 83) := snd_iconst dX18_holds_82 (by decide)
theorem s_X18_holds_83 : Snd PG.nam M141 83 (m_goto 87) := snd_goto dX18_holds_83 (by decide)
theorem s_X18_holds_86 : Snd PG.nam M141 86 (m_const (.int (nI 0)) 87) := snd_iconst dX18_holds_86 (by decide)
theorem s_X18_holds_87 : Snd PG.nam M141 87 (m_iret .boolean) := snd_iret dX18_holds_87 rfl
theorem s_X18_holds_88 : Snd PG.nam M141 88 (m_aload 2 89) := snd_aload_n dX18_holds_88 rfl
theorem s_X18_holds_89 : Snd PG.nam M141 89 (m_aload 3 90) := snd_aload_n dX18_holds_89 rfl
theorem s_X18_holds_90 : Snd PG.nam M141 90 (m_callV false [(3, 99), (4, 103)] 1 93) := snd_callV (nam := PG.nam) (List.forall_mem_cons.mpr ⟨dr_U (ym := PG.nam 99) dX18_holds_90 w1298 w1300 (Or.inl w1299) (by decide) (by decide +kernel) w1302 rfl w1301, (List.forall_mem_cons.mpr ⟨dr_U (ym := PG.nam 103) dX18_holds_90 w1298 w1300 (Or.inl w1299) (by decide) (by decide +kernel) w1305 rfl w1304, (fun q hq => absurd hq List.not_mem_nil)⟩)⟩) (by decide)
theorem s_X18_holds_93 : Snd PG.nam M141 93 (m_iret .boolean) := snd_iret dX18_holds_93 rfl
theorem s_X18_holds_94 : Snd PG.nam M141 94 (m_aload 3 95) := snd_aload_n dX18_holds_94 rfl
theorem s_X18_holds_95 : Snd PG.nam M141 95 (m_aload 2 96) := snd_aload_n dX18_holds_95 rfl
theorem s_X18_holds_96 : Snd PG.nam M141 96 (m_callV false [(3, 99), (4, 103)] 1 99) := snd_callV (nam := PG.nam) (List.forall_mem_cons.mpr ⟨dr_U (ym := PG.nam 99) dX18_holds_96 w1298 w1300 (Or.inl w1299) (by decide) (by decide +kernel) w1302 rfl w1301, (List.forall_mem_cons.mpr ⟨dr_U (ym := PG.nam 103) dX18_holds_96 w1298 w1300 (Or.inl w1299) (by decide) (by decide +kernel) w1305 rfl w1304, (fun q hq => absurd hq List.not_mem_nil)⟩)⟩) (by decide)
theorem s_X18_holds_99 : Snd PG.nam M141 99 (m_iret .boolean) := snd_iret dX18_holds_99 rfl
theorem T141 : ∀ q ∈ S141, Snd PG.nam M141 q.1 q.2 := List.forall_mem_cons.mpr ⟨s_X18_holds_0, List.forall_mem_cons.mpr ⟨s_X18_holds_1, List.forall_mem_cons.mpr ⟨s_X18_holds_4, List.forall_mem_cons.mpr ⟨s_X18_holds_5, List.forall_mem_cons.mpr ⟨s_X18_holds_8, List.forall_mem_cons.mpr ⟨s_X18_holds_9, List.forall_mem_cons.mpr ⟨s_X18_holds_10, List.forall_mem_cons.mpr ⟨s_X18_holds_13, List.forall_mem_cons.mpr ⟨s_X18_holds_14, List.forall_mem_cons.mpr ⟨s_X18_holds_17, List.forall_mem_cons.mpr ⟨s_X18_holds_18, List.forall_mem_cons.mpr ⟨s_X18_holds_19, List.forall_mem_cons.mpr ⟨s_X18_holds_22, List.forall_mem_cons.mpr ⟨s_X18_holds_23, List.forall_mem_cons.mpr ⟨s_X18_holds_26, List.forall_mem_cons.mpr ⟨s_X18_holds_27, List.forall_mem_cons.mpr ⟨s_X18_holds_28, List.forall_mem_cons.mpr ⟨s_X18_holds_29, List.forall_mem_cons.mpr ⟨s_X18_holds_32, List.forall_mem_cons.mpr ⟨s_X18_holds_68, List.forall_mem_cons.mpr ⟨s_X18_holds_69, List.forall_mem_cons.mpr ⟨s_X18_holds_70, List.forall_mem_cons.mpr ⟨s_X18_holds_73, List.forall_mem_cons.mpr ⟨s_X18_holds_74, List.forall_mem_cons.mpr ⟨s_X18_holds_75, List.forall_mem_cons.mpr ⟨s_X18_holds_76, List.forall_mem_cons.mpr ⟨s_X18_holds_79, List.forall_mem_cons.mpr ⟨s_X18_holds_82, List.forall_mem_cons.mpr ⟨s_X18_holds_83, List.forall_mem_cons.mpr ⟨s_X18_holds_86, List.forall_mem_cons.mpr ⟨s_X18_holds_87, List.forall_mem_cons.mpr ⟨s_X18_holds_88, List.forall_mem_cons.mpr ⟨s_X18_holds_89, List.forall_mem_cons.mpr ⟨s_X18_holds_90, List.forall_mem_cons.mpr ⟨s_X18_holds_93, List.forall_mem_cons.mpr ⟨s_X18_holds_94, List.forall_mem_cons.mpr ⟨s_X18_holds_95, List.forall_mem_cons.mpr ⟨s_X18_holds_96, List.forall_mem_cons.mpr ⟨s_X18_holds_99, (fun q hq => absurd hq List.not_mem_nil)⟩⟩⟩⟩⟩⟩⟩⟩⟩⟩⟩⟩⟩⟩⟩⟩⟩⟩⟩⟩⟩⟩⟩⟩⟩⟩⟩⟩⟩⟩⟩⟩⟩⟩⟩⟩⟩⟩⟩
theorem s_X19_init_0 : Snd PG.nam M142 0 (m_aload 0 1) := snd_aload_n dX19_init_0 rfl
theorem s_X19_init_1 : Snd PG.nam M142 1 (m_callI 129 0 4) := snd_callI (nam := PG.nam) (yy := 129) dX19_init_1 (Or.inr ⟨_, w1099⟩) mi_129 rfl w1085 (by decide)
theorem s_X19_init_4 : Snd PG.nam M142 4 (m_aload 0 5) := snd_aload_n dX19_init_4 rfl
theorem s_X19_init_5 : Snd PG.nam M142 5 (m_aload 1 6) := snd_aload_n dX19_init_5 rfl
theorem s_X19_init_6 : Snd PG.nam M142 6 (m_putf [(15, 1)] (.object "TripleStore$Group") 9) := snd_putF dX19_init_6 fd_X19_7 rfl
theorem s_X19_init_9 : Snd PG.nam M142 9 (m_vret) := snd_vret dX19_init_9 rfl
theorem T142 : ∀ q ∈ S142, Snd PG.nam M142 q.1 q.2 := List.forall_mem_cons.mpr ⟨s_X19_init_0, List.forall_mem_cons.mpr ⟨s_X19_init_1, List.forall_mem_cons.mpr ⟨s_X19_init_4, List.forall_mem_cons.mpr ⟨s_X19_init_5, List.forall_mem_cons.mpr ⟨s_X19_init_6, List.forall_mem_cons.mpr ⟨s_X19_init_9, (fun q hq => absurd hq List.not_mem_nil)⟩⟩⟩⟩⟩⟩
theorem s_X19_apply_0 : Snd PG.nam M143 0 (m_aload 0 1) := snd_aload_n dX19_apply_0 rfl
theorem s_X19_apply_1 : Snd PG.nam M143 1 (m_getf [(15, 1)] 4) := snd_getf dX19_apply_1 fd_X19_7
theorem s_X19_apply_4 : Snd PG.nam M143 4 (m_aload 2 5) := snd_aload_n dX19_apply_4 rfl
theorem s_X19_apply_5 : Snd PG.nam M143 5 (m_callV false [(9, 128)] 1 8) := snd_callV (nam := PG.nam) (List.forall_mem_cons.mpr ⟨dr_V (ym := PG.nam 128) dX19_apply_5 (Or.inl w1235) mi_128 rfl w1159, (fun q hq => absurd hq List.not_mem_nil)⟩) (by decide)
theorem s_X19_apply_8 : Snd PG.nam M143 8 (m_astore 3 9) := snd_astore_n dX19_apply_8 rfl (by decide)
theorem s_X19_apply_9 : Snd PG.nam M143 9 (m_new 19 [.null, .int 0] 12) := snd_new dX19_apply_9 rfl w1236 w1162 w102 rfl (by decide +kernel)
theorem s_X19_apply_12 : Snd PG.nam M143 12 (m_dup 13) := snd_dup dX19_apply_12
theorem s_X19_apply_13 : Snd PG.nam M143 13 (m_callI 153 0 16) := snd_callI (nam := PG.nam) (yy := 153) dX19_apply_13 (Or.inr ⟨_, w1237⟩) mi_153 rfl w1165 (by decide)
theorem s_X19_apply_16 : Snd PG.nam M143 16 (m_astore 4 18) := snd_astore dX19_apply_16 (by decide)
theorem s_X19_apply_18 : Snd PG.nam M143 18 (m_const (.int (nI 0)) 19) := snd_iconst dX19_apply_18 (by decide)
theorem s_X19_apply_19 : Snd PG.nam M143 19 (m_istore 5 21) := snd_istore dX19_apply_19 (by decide)
theorem s_X19_apply_21 : Snd PG.nam M143 21 (m_iload 5 23) := snd_iload dX19_apply_21
theorem s_X19_apply_23 : Snd PG.nam M143 23 (m_aload 1 24) := snd_aload_n dX19_apply_23 rfl
theorem s_X19_apply_24 : Snd PG.nam M143 24 (m_getf [(19, 1)] 27) := snd_getf dX19_apply_24 fd_X19_22
theorem s_X19_apply_27 : Snd PG.nam M143 27 (m_icmp (fun x z => if x < z then 30 else 122)) := snd_icmp_ge dX19_apply_27 (by decide)
theorem s_X19_apply_30 : Snd PG.nam M143 30 (m_const (.int (nI 0)) 31) := snd_iconst dX19_apply_30 (by decide)
theorem s_X19_apply_31 : Snd PG.nam M143 31 (m_istore 6 33) := snd_istore dX19_apply_31 (by decide)
theorem s_X19_apply_33 : Snd PG.nam M143 33 (m_const (.int (nI 0)) 34) := snd_iconst dX19_apply_33 (by decide)
theorem s_X19_apply_34 : Snd PG.nam M143 34 (m_istore 7 36) := snd_istore dX19_apply_34 (by decide)
theorem s_X19_apply_36 : Snd PG.nam M143 36 (m_iload 7 38) := snd_iload dX19_apply_36
theorem s_X19_apply_38 : Snd PG.nam M143 38 (m_aload 3 39) := snd_aload_n dX19_apply_38 rfl
theorem s_X19_apply_39 : Snd PG.nam M143 39 (m_getf [(19, 1)] 42) := snd_getf dX19_apply_39 fd_X19_22
theorem s_X19_apply_42 : Snd PG.nam M143 42 (m_icmp (fun x z => if x < z then 45 else 99)) := snd_icmp_ge dX19_apply_42 (by decide)
theorem s_X19_apply_45 : Snd PG.nam M143 45 (m_aload 1 46) := snd_aload_n dX19_apply_45 rfl
theorem s_X19_apply_46 : Snd PG.nam M143 46 (m_getf [(19, 0)] 49) := snd_getf dX19_apply_46 fd_X19_26
theorem s_X19_apply_49 : Snd PG.nam M143 49 (m_iload 5 51) := snd_iload dX19_apply_49
theorem s_X19_apply_51 : Snd PG.nam M143 51 (m_aald 52) := snd_aald dX19_apply_51
theorem s_X19_apply_52 : Snd PG.nam M143 52 (m_aload 3 53) := snd_aload_n dX19_apply_52 rfl
theorem s_X19_apply_53 : Snd PG.nam M143 53 (m_getf [(19, 0)] 56) := snd_getf dX19_apply_53 fd_X19_26
theorem s_X19_apply_56 : Snd PG.nam M143 56 (m_iload 7 58) := snd_iload dX19_apply_56
theorem s_X19_apply_58 : Snd PG.nam M143 58 (m_aald 59) := snd_aald dX19_apply_58
theorem s_X19_apply_59 : Snd PG.nam M143 59 (m_callV false [(20, 157)] 1 62) := snd_callV (nam := PG.nam) (List.forall_mem_cons.mpr ⟨dr_V (ym := PG.nam 157) dX19_apply_59 (Or.inl w1238) mi_157 rfl w1224, (fun q hq => absurd hq List.not_mem_nil)⟩) (by decide)
theorem s_X19_apply_62 : Snd PG.nam M143 62 (m_ifz (fun x => if x = 0 then 65 else 68)) := snd_if_ne dX19_apply_62 (by decide)
theorem s_X19_apply_65 : Snd PG.nam M143 65 (m_goto 93) := snd_goto dX19_apply_65 (by decide)
theorem s_X19_apply_68 : Snd PG.nam M143 68 (m_aload 4 70) := snd_aload dX19_apply_68
theorem s_X19_apply_70 : Snd PG.nam M143 70 (m_aload 1 71) := snd_aload_n dX19_apply_70 rfl
theorem s_X19_apply_71 : Snd PG.nam M143 71 (m_getf [(19, 0)] 74) := snd_getf dX19_apply_71 fd_X19_26
theorem s_X19_apply_74 : Snd PG.nam M143 74 (m_iload 5 76) := snd_iload dX19_apply_74
theorem s_X19_apply_76 : Snd PG.nam M143 76 (m_aald 77) := snd_aald dX19_apply_76
theorem s_X19_apply_77 : Snd PG.nam M143 77 (m_aload 3 78) := snd_aload_n dX19_apply_77 rfl
theorem s_X19_apply_78 : Snd PG.nam M143 78 (m_getf [(19, 0)] 81) := snd_getf dX19_apply_78 fd_X19_26
theorem s_X19_apply_81 : Snd PG.nam M143 81 (m_iload 7 83) := snd_iload dX19_apply_81
theorem s_X19_apply_83 : Snd PG.nam M143 83 (m_aald 84) := snd_aald dX19_apply_83
theorem s_X19_apply_84 : Snd PG.nam M143 84 (m_callV false [(20, 159)] 1 87) := snd_callV (nam := PG.nam) (List.forall_mem_cons.mpr ⟨dr_V (ym := PG.nam 159) dX19_apply_84 (Or.inl w1239) mi_159 rfl w1241, (fun q hq => absurd hq List.not_mem_nil)⟩) (by decide)
theorem s_X19_apply_87 : Snd PG.nam M143 87 (m_callV true [(19, 154)] 1 90) := snd_callV (nam := PG.nam) (List.forall_mem_cons.mpr ⟨dr_V (ym := PG.nam 154) dX19_apply_87 (Or.inl w1245) mi_154 rfl w1203, (fun q hq => absurd hq List.not_mem_nil)⟩) (by decide)
theorem s_X19_apply_90 : Snd PG.nam M143 90 (m_const (.int (nI 1)) 91) := snd_iconst dX19_apply_90 (by decide)
theorem s_X19_apply_91 : Snd PG.nam M143 91 (m_istore 6 93) := snd_istore dX19_apply_91 (by decide)
theorem s_X19_apply_93 : Snd PG.nam M143 93 (m_iinc 7 (nI 1) 96) := snd_iinc dX19_apply_93 (by decide) (by decide)
theorem s_X19_apply_96 : Snd PG.nam M143 96 (m_goto 36) := snd_goto dX19_apply_96 (by decide)
theorem s_X19_apply_99 : Snd PG.nam M143 99 (m_iload 6 101) := snd_iload dX19_apply_99
theorem s_X19_apply_101 : Snd PG.nam M143 101 (m_ifz (fun x => if x = 0 then 104 else 116)) := snd_if_ne dX19_apply_101 (by decide)
theorem s_X19_apply_104 : Snd PG.nam M143 104 (m_aload 4 106) := snd_aload dX19_apply_104
theorem s_X19_apply_106 : Snd PG.nam M143 106 (m_aload 1 107) := snd_aload_n dX19_apply_106 rfl
theorem s_X19_apply_107 : Snd PG.nam M143 107 (m_getf [(19, 0)] 110) := snd_getf dX19_apply_107 fd_X19_26
theorem s_X19_apply_110 : Snd PG.nam M143 110 (m_iload 5 112) := snd_iload dX19_apply_110
theorem s_X19_apply_112 : Snd PG.nam M143 112 (m_aald 113) := snd_aald dX19_apply_112
theorem s_X19_apply_113 : Snd PG.nam M143 113 (m_callV true [(19, 154)] 1 116) := snd_callV (nam := PG.nam) (List.forall_mem_cons.mpr ⟨dr_V (ym := PG.nam 154) dX19_apply_113 (Or.inl w1245) mi_154 rfl w1203, (fun q hq => absurd hq List.not_mem_nil)⟩) (by decide)
theorem s_X19_apply_116 : Snd PG.nam M143 116 (m_iinc 5 (nI 1) 119) := snd_iinc dX19_apply_116 (by decide) (by decide)
theorem s_X19_apply_119 : Snd PG.nam M143 119 (m_goto 21) := snd_goto dX19_apply_119 (by decide)
theorem s_X19_apply_122 : Snd PG.nam M143 122 (m_aload 4 124) := snd_aload dX19_apply_122
theorem s_X19_apply_124 : Snd PG.nam M143 124 (m_aret) := snd_aret dX19_apply_124 rfl (Or.inl ⟨_, rfl⟩)
theorem T143 : ∀ q ∈ S143, Snd PG.nam M143 q.1 q.2 := List.forall_mem_cons.mpr ⟨s_X19_apply_0, List.forall_mem_cons.mpr ⟨s_X19_apply_1, List.forall_mem_cons.mpr ⟨s_X19_apply_4, List.forall_mem_cons.mpr ⟨s_X19_apply_5, List.forall_mem_cons.mpr ⟨s_X19_apply_8, List.forall_mem_cons.mpr ⟨s_X19_apply_9, List.forall_mem_cons.mpr ⟨s_X19_apply_12, List.forall_mem_cons.mpr ⟨s_X19_apply_13, List.forall_mem_cons.mpr ⟨s_X19_apply_16, List.forall_mem_cons.mpr ⟨s_X19_apply_18, List.forall_mem_cons.mpr ⟨s_X19_apply_19, List.forall_mem_cons.mpr ⟨s_X19_apply_21, List.forall_mem_cons.mpr ⟨s_X19_apply_23, List.forall_mem_cons.mpr ⟨s_X19_apply_24, List.forall_mem_cons.mpr ⟨s_X19_apply_27, List.forall_mem_cons.mpr ⟨s_X19_apply_30, List.forall_mem_cons.mpr ⟨s_X19_apply_31, List.forall_mem_cons.mpr ⟨s_X19_apply_33, List.forall_mem_cons.mpr ⟨s_X19_apply_34, List.forall_mem_cons.mpr ⟨s_X19_apply_36, List.forall_mem_cons.mpr ⟨s_X19_apply_38, List.forall_mem_cons.mpr ⟨s_X19_apply_39, List.forall_mem_cons.mpr ⟨s_X19_apply_42, List.forall_mem_cons.mpr ⟨s_X19_apply_45, List.forall_mem_cons.mpr ⟨s_X19_apply_46, List.forall_mem_cons.mpr ⟨s_X19_apply_49, List.forall_mem_cons.mpr ⟨s_X19_apply_51, List.forall_mem_cons.mpr ⟨s_X19_apply_52, List.forall_mem_cons.mpr ⟨s_X19_apply_53, List.forall_mem_cons.mpr ⟨s_X19_apply_56, List.forall_mem_cons.mpr ⟨s_X19_apply_58, List.forall_mem_cons.mpr ⟨s_X19_apply_59, List.forall_mem_cons.mpr ⟨s_X19_apply_62, List.forall_mem_cons.mpr ⟨s_X19_apply_65, List.forall_mem_cons.mpr ⟨s_X19_apply_68, List.forall_mem_cons.mpr ⟨s_X19_apply_70, List.forall_mem_cons.mpr ⟨s_X19_apply_71, List.forall_mem_cons.mpr ⟨s_X19_apply_74, List.forall_mem_cons.mpr ⟨s_X19_apply_76, List.forall_mem_cons.mpr ⟨s_X19_apply_77, List.forall_mem_cons.mpr ⟨s_X19_apply_78, List.forall_mem_cons.mpr ⟨s_X19_apply_81, List.forall_mem_cons.mpr ⟨s_X19_apply_83, List.forall_mem_cons.mpr ⟨s_X19_apply_84, List.forall_mem_cons.mpr ⟨s_X19_apply_87, List.forall_mem_cons.mpr ⟨s_X19_apply_90, List.forall_mem_cons.mpr ⟨s_X19_apply_91, List.forall_mem_cons.mpr ⟨s_X19_apply_93, List.forall_mem_cons.mpr ⟨s_X19_apply_96, List.forall_mem_cons.mpr ⟨s_X19_apply_99, List.forall_mem_cons.mpr ⟨s_X19_apply_101, List.forall_mem_cons.mpr ⟨s_X19_apply_104, List.forall_mem_cons.mpr ⟨s_X19_apply_106, List.forall_mem_cons.mpr ⟨s_X19_apply_107, List.forall_mem_cons.mpr ⟨s_X19_apply_110, List.forall_mem_cons.mpr ⟨s_X19_apply_112, List.forall_mem_cons.mpr ⟨s_X19_apply_113, List.forall_mem_cons.mpr ⟨s_X19_apply_116, List.forall_mem_cons.mpr ⟨s_X19_apply_119, List.forall_mem_cons.mpr ⟨s_X19_apply_122, List.forall_mem_cons.mpr ⟨s_X19_apply_124, (fun q hq => absurd hq List.not_mem_nil)⟩⟩⟩⟩⟩⟩⟩⟩⟩⟩⟩⟩⟩⟩⟩⟩⟩⟩⟩⟩⟩⟩⟩⟩⟩⟩⟩⟩⟩⟩⟩⟩⟩⟩⟩⟩⟩⟩⟩⟩⟩⟩⟩⟩⟩⟩⟩⟩⟩⟩⟩⟩⟩⟩⟩⟩⟩⟩⟩⟩⟩
theorem s_X20_init_0 : Snd PG.nam M144 0 (m_aload 0 1) := snd_aload_n dX20_init_0 rfl
theorem s_X20_init_1 : Snd PG.nam M144 1 (m_callI 129 0 4) := snd_callI (nam := PG.nam) (yy := 129) dX20_init_1 (Or.inr ⟨_, w1110⟩) mi_129 rfl w1085 (by decide)
theorem s_X20_init_4 : Snd PG.nam M144 4 (m_aload 0 5) := snd_aload_n dX20_init_4 rfl
theorem s_X20_init_5 : Snd PG.nam M144 5 (m_aload 1 6) := snd_aload_n dX20_init_5 rfl
theorem s_X20_init_6 : Snd PG.nam M144 6 (m_putf [(16, 1)] (.object "TripleStore$Group") 9) := snd_putF dX20_init_6 fd_X20_7 rfl
theorem s_X20_init_9 : Snd PG.nam M144 9 (m_vret) := snd_vret dX20_init_9 rfl
theorem T144 : ∀ q ∈ S144, Snd PG.nam M144 q.1 q.2 := List.forall_mem_cons.mpr ⟨s_X20_init_0, List.forall_mem_cons.mpr ⟨s_X20_init_1, List.forall_mem_cons.mpr ⟨s_X20_init_4, List.forall_mem_cons.mpr ⟨s_X20_init_5, List.forall_mem_cons.mpr ⟨s_X20_init_6, List.forall_mem_cons.mpr ⟨s_X20_init_9, (fun q hq => absurd hq List.not_mem_nil)⟩⟩⟩⟩⟩⟩
theorem s_X20_apply_0 : Snd PG.nam M145 0 (m_aload 0 1) := snd_aload_n dX20_apply_0 rfl
theorem s_X20_apply_1 : Snd PG.nam M145 1 (m_getf [(16, 1)] 4) := snd_getf dX20_apply_1 fd_X20_7
theorem s_X20_apply_4 : Snd PG.nam M145 4 (m_aload 2 5) := snd_aload_n dX20_apply_4 rfl
theorem s_X20_apply_5 : Snd PG.nam M145 5 (m_callV false [(9, 128)] 1 8) := snd_callV (nam := PG.nam) (List.forall_mem_cons.mpr ⟨dr_V (ym := PG.nam 128) dX20_apply_5 (Or.inl w1216) mi_128 rfl w1159, (fun q hq => absurd hq List.not_mem_nil)⟩) (by decide)
theorem s_X20_apply_8 : Snd PG.nam M145 8 (m_astore 3 9) := snd_astore_n dX20_apply_8 rfl (by decide)
theorem s_X20_apply_9 : Snd PG.nam M145 9 (m_new 19 [.null, .int 0] 12) := snd_new dX20_apply_9 rfl w1217 w1162 w102 rfl (by decide +kernel)
theorem s_X20_apply_12 : Snd PG.nam M145 12 (m_dup 13) := snd_dup dX20_apply_12
theorem s_X20_apply_13 : Snd PG.nam M145 13 (m_callI 153 0 16) := snd_callI (nam := PG.nam) (yy := 153) dX20_apply_13 (Or.inr ⟨_, w1218⟩) mi_153 rfl w1165 (by decide)
theorem s_X20_apply_16 : Snd PG.nam M145 16 (m_astore 4 18) := snd_astore dX20_apply_16 (by decide)
theorem s_X20_apply_18 : Snd PG.nam M145 18 (m_const (.int (nI 0)) 19) := snd_iconst dX20_apply_18 (by decide)
theorem s_X20_apply_19 : Snd PG.nam M145 19 (m_istore 5 21) := snd_istore dX20_apply_19 (by decide)
theorem s_X20_apply_21 : Snd PG.nam M145 21 (m_iload 5 23) := snd_iload dX20_apply_21
theorem s_X20_apply_23 : Snd PG.nam M145 23 (m_aload 1 24) := snd_aload_n dX20_apply_23 rfl
theorem s_X20_apply_24 : Snd PG.nam M145 24 (m_getf [(19, 1)] 27) := snd_getf dX20_apply_24 fd_X20_13
theorem s_X20_apply_27 : Snd PG.nam M145 27 (m_icmp (fun x z => if x < z then 30 else 62)) := snd_icmp_ge dX20_apply_27 (by decide)
theorem s_X20_apply_30 : Snd PG.nam M145 30 (m_aload 1 31) := snd_aload_n dX20_apply_30 rfl
theorem s_X20_apply_31 : Snd PG.nam M145 31 (m_getf [(19, 0)] 34) := snd_getf dX20_apply_31 fd_X20_19
theorem s_X20_apply_34 : Snd PG.nam M145 34 (m_iload 5 36) := snd_iload dX20_apply_34
theorem s_X20_apply_36 : Snd PG.nam M145 36 (m_aald 37) := snd_aald dX20_apply_36
theorem s_X20_apply_37 : Snd PG.nam M145 37 (m_aload 3 38) := snd_aload_n dX20_apply_37 rfl
theorem s_X20_apply_38 : Snd PG.nam M145 38 (m_callS false 146 2 41) := snd_callS (nam := PG.nam) (yy := 146) dX20_apply_38 (Or.inl w1219) w1220 ⟨by decide, by decide +kernel⟩ (by decide)
theorem s_X20_apply_41 : Snd PG.nam M145 41 (m_ifz (fun x => if x = 0 then 44 else 56)) := snd_if_ne dX20_apply_41 (by decide)
theorem s_X20_apply_44 : Snd PG.nam M145 44 (m_aload 4 46) := snd_aload dX20_apply_44
theorem s_X20_apply_46 : Snd PG.nam M145 46 (m_aload 1 47) := snd_aload_n dX20_apply_46 rfl
theorem s_X20_apply_47 : Snd PG.nam M145 47 (m_getf [(19, 0)] 50) := snd_getf dX20_apply_47 fd_X20_19
theorem s_X20_apply_50 : Snd PG.nam M145 50 (m_iload 5 52) := snd_iload dX20_apply_50
theorem s_X20_apply_52 : Snd PG.nam M145 52 (m_aald 53) := snd_aald dX20_apply_52
theorem s_X20_apply_53 : Snd PG.nam M145 53 (m_callV true [(19, 154)] 1 56) := snd_callV (nam := PG.nam) (List.forall_mem_cons.mpr ⟨dr_V (ym := PG.nam 154) dX20_apply_53 (Or.inl w1231) mi_154 rfl w1203, (fun q hq => absurd hq List.not_mem_nil)⟩) (by decide)
theorem s_X20_apply_56 : Snd PG.nam M145 56 (m_iinc 5 (nI 1) 59) := snd_iinc dX20_apply_56 (by decide) (by decide)
theorem s_X20_apply_59 : Snd PG.nam M145 59 (m_goto 21) := snd_goto dX20_apply_59 (by decide)
theorem s_X20_apply_62 : Snd PG.nam M145 62 (m_aload 4 64) := snd_aload dX20_apply_62
theorem s_X20_apply_64 : Snd PG.nam M145 64 (m_aret) := snd_aret dX20_apply_64 rfl (Or.inl ⟨_, rfl⟩)
theorem T145 : ∀ q ∈ S145, Snd PG.nam M145 q.1 q.2 := List.forall_mem_cons.mpr ⟨s_X20_apply_0, List.forall_mem_cons.mpr ⟨s_X20_apply_1, List.forall_mem_cons.mpr ⟨s_X20_apply_4, List.forall_mem_cons.mpr ⟨s_X20_apply_5, List.forall_mem_cons.mpr ⟨s_X20_apply_8, List.forall_mem_cons.mpr ⟨s_X20_apply_9, List.forall_mem_cons.mpr ⟨s_X20_apply_12, List.forall_mem_cons.mpr ⟨s_X20_apply_13, List.forall_mem_cons.mpr ⟨s_X20_apply_16, List.forall_mem_cons.mpr ⟨s_X20_apply_18, List.forall_mem_cons.mpr ⟨s_X20_apply_19, List.forall_mem_cons.mpr ⟨s_X20_apply_21, List.forall_mem_cons.mpr ⟨s_X20_apply_23, List.forall_mem_cons.mpr ⟨s_X20_apply_24, List.forall_mem_cons.mpr ⟨s_X20_apply_27, List.forall_mem_cons.mpr ⟨s_X20_apply_30, List.forall_mem_cons.mpr ⟨s_X20_apply_31, List.forall_mem_cons.mpr ⟨s_X20_apply_34, List.forall_mem_cons.mpr ⟨s_X20_apply_36, List.forall_mem_cons.mpr ⟨s_X20_apply_37, List.forall_mem_cons.mpr ⟨s_X20_apply_38, List.forall_mem_cons.mpr ⟨s_X20_apply_41, List.forall_mem_cons.mpr ⟨s_X20_apply_44, List.forall_mem_cons.mpr ⟨s_X20_apply_46, List.forall_mem_cons.mpr ⟨s_X20_apply_47, List.forall_mem_cons.mpr ⟨s_X20_apply_50, List.forall_mem_cons.mpr ⟨s_X20_apply_52, List.forall_mem_cons.mpr ⟨s_X20_apply_53, List.forall_mem_cons.mpr ⟨s_X20_apply_56, List.forall_mem_cons.mpr ⟨s_X20_apply_59, List.forall_mem_cons.mpr ⟨s_X20_apply_62, List.forall_mem_cons.mpr ⟨s_X20_apply_64, (fun q hq => absurd hq List.not_mem_nil)⟩⟩⟩⟩⟩⟩⟩⟩⟩⟩⟩⟩⟩⟩⟩⟩⟩⟩⟩⟩⟩⟩⟩⟩⟩⟩⟩⟩⟩⟩⟩⟩
theorem s_X20_excluded_0 : Snd PG.nam M146 0 (m_const (.int (nI 0)) 1) := snd_iconst dX20_excluded_0 (by decide)
theorem s_X20_excluded_1 : Snd PG.nam M146 1 (m_istore 2 2) := snd_istore_n dX20_excluded_1 rfl (by decide)
theorem s_X20_excluded_2 : Snd PG.nam M146 2 (m_iload 2 3) := snd_iload_n dX20_excluded_2 rfl
theorem s_X20_excluded_3 : Snd PG.nam M146 3 (m_aload 1 4) := snd_aload_n dX20_excluded_3 rfl
theorem s_X20_excluded_4 : Snd PG.nam M146 4 (m_getf [(19, 1)] 7) := snd_getf dX20_excluded_4 fd_X20_13
theorem s_X20_excluded_7 : Snd PG.nam M146 7 (m_icmp (fun x z => if x < z then 10 else 44)) := snd_icmp_ge dX20_excluded_7 (by decide)
theorem s_X20_excluded_10 : Snd PG.nam M146 10 (m_aload 0 11) := snd_aload_n dX20_excluded_10 rfl
theorem s_X20_excluded_11 : Snd PG.nam M146 11 (m_aload 1 12) := snd_aload_n dX20_excluded_11 rfl
theorem s_X20_excluded_12 : Snd PG.nam M146 12 (m_getf [(19, 0)] 15) := snd_getf dX20_excluded_12 fd_X20_19
theorem s_X20_excluded_15 : Snd PG.nam M146 15 (m_iload 2 16) := snd_iload_n dX20_excluded_15 rfl
theorem s_X20_excluded_16 : Snd PG.nam M146 16 (m_aald 17) := snd_aald dX20_excluded_16
theorem s_X20_excluded_17 : Snd PG.nam M146 17 (m_callV false [(20, 157)] 1 20) := snd_callV (nam := PG.nam) (List.forall_mem_cons.mpr ⟨dr_V (ym := PG.nam 157) dX20_excluded_17 (Or.inl w1222) mi_157 rfl w1224, (fun q hq => absurd hq List.not_mem_nil)⟩) (by decide)
theorem s_X20_excluded_20 : Snd PG.nam M146 20 (m_ifz (fun x => if x = 0 then 38 else 23)) := snd_if_eq dX20_excluded_20 (by decide)
theorem s_X20_excluded_23 : Snd PG.nam M146 23 (m_aload 0 24) := snd_aload_n dX20_excluded_23 rfl
theorem s_X20_excluded_24 : Snd PG.nam M146 24 (m_aload 1 25) := snd_aload_n dX20_excluded_24 rfl
theorem s_X20_excluded_25 : Snd PG.nam M146 25 (m_getf [(19, 0)] 28) := snd_getf dX20_excluded_25 fd_X20_19
theorem s_X20_excluded_28 : Snd PG.nam M146 28 (m_iload 2 29) := snd_iload_n dX20_excluded_28 rfl
theorem s_X20_excluded_29 : Snd PG.nam M146 29 (m_aald 30) := snd_aald dX20_excluded_29
theorem s_X20_excluded_30 : Snd PG.nam M146 30 (m_callV false [(20, 158)] 1 33) := snd_callV (nam := PG.nam) (List.forall_mem_cons.mpr ⟨dr_V (ym := PG.nam 158) dX20_excluded_30 (Or.inl w1227) mi_158 rfl w1229, (fun q hq => absurd hq List.not_mem_nil)⟩) (by decide)
theorem s_X20_excluded_33 : Snd PG.nam M146 33 (m_ifz (fun x => if x = 0 then 38 else 36)) := snd_if_eq dX20_excluded_33 (by decide)
theorem s_X20_excluded_36 : Snd PG.nam M146 36 (m_const (.int (nI 1)) 37) := snd_iconst dX20_excluded_36 (by decide)
theorem s_X20_excluded_37 : Snd PG.nam M146 37 (m_iret .boolean) := snd_iret dX20_excluded_37 rfl
theorem s_X20_excluded_38 : Snd PG.nam M146 38 (m_iinc 2 (nI 1) 41) := snd_iinc dX20_excluded_38 (by decide) (by decide)
theorem s_X20_excluded_41 : Snd PG.nam M146 41 (m_goto 2) := snd_goto dX20_excluded_41 (by decide)
theorem s_X20_excluded_44 : Snd PG.nam M146 44 (m_const (.int (nI 0)) 45) := snd_iconst dX20_excluded_44 (by decide)
theorem s_X20_excluded_45 : Snd PG.nam M146 45 (m_iret .boolean) := snd_iret dX20_excluded_45 rfl
theorem T146 : ∀ q ∈ S146, Snd PG.nam M146 q.1 q.2 := List.forall_mem_cons.mpr ⟨s_X20_excluded_0, List.forall_mem_cons.mpr ⟨s_X20_excluded_1, List.forall_mem_cons.mpr ⟨s_X20_excluded_2, List.forall_mem_cons.mpr ⟨s_X20_excluded_3, List.forall_mem_cons.mpr ⟨s_X20_excluded_4, List.forall_mem_cons.mpr ⟨s_X20_excluded_7, List.forall_mem_cons.mpr ⟨s_X20_excluded_10, List.forall_mem_cons.mpr ⟨s_X20_excluded_11, List.forall_mem_cons.mpr ⟨s_X20_excluded_12, List.forall_mem_cons.mpr ⟨s_X20_excluded_15, List.forall_mem_cons.mpr ⟨s_X20_excluded_16, List.forall_mem_cons.mpr ⟨s_X20_excluded_17, List.forall_mem_cons.mpr ⟨s_X20_excluded_20, List.forall_mem_cons.mpr ⟨s_X20_excluded_23, List.forall_mem_cons.mpr ⟨s_X20_excluded_24, List.forall_mem_cons.mpr ⟨s_X20_excluded_25, List.forall_mem_cons.mpr ⟨s_X20_excluded_28, List.forall_mem_cons.mpr ⟨s_X20_excluded_29, List.forall_mem_cons.mpr ⟨s_X20_excluded_30, List.forall_mem_cons.mpr ⟨s_X20_excluded_33, List.forall_mem_cons.mpr ⟨s_X20_excluded_36, List.forall_mem_cons.mpr ⟨s_X20_excluded_37, List.forall_mem_cons.mpr ⟨s_X20_excluded_38, List.forall_mem_cons.mpr ⟨s_X20_excluded_41, List.forall_mem_cons.mpr ⟨s_X20_excluded_44, List.forall_mem_cons.mpr ⟨s_X20_excluded_45, (fun q hq => absurd hq List.not_mem_nil)⟩⟩⟩⟩⟩⟩⟩⟩⟩⟩⟩⟩⟩⟩⟩⟩⟩⟩⟩⟩⟩⟩⟩⟩⟩⟩
theorem s_X21_init_0 : Snd PG.nam M147 0 (m_aload 0 1) := snd_aload_n dX21_init_0 rfl
theorem s_X21_init_1 : Snd PG.nam M147 1 (m_callI 129 0 4) := snd_callI (nam := PG.nam) (yy := 129) dX21_init_1 (Or.inr ⟨_, w1121⟩) mi_129 rfl w1085 (by decide)
theorem s_X21_init_4 : Snd PG.nam M147 4 (m_aload 0 5) := snd_aload_n dX21_init_4 rfl
theorem s_X21_init_5 : Snd PG.nam M147 5 (m_const (.int (nI 12)) 7) := snd_bipush dX21_init_5 (by decide)
theorem s_X21_init_7 : Snd PG.nam M147 7 (m_anew "TripleStore$Group" 10) := snd_anew dX21_init_7 w1122 w1123
theorem s_X21_init_10 : Snd PG.nam M147 10 (m_putf [(17, 1)] (.array (.object "TripleStore$Group")) 13) := snd_putF dX21_init_10 fd_X21_9 rfl
theorem s_X21_init_13 : Snd PG.nam M147 13 (m_vret) := snd_vret dX21_init_13 rfl
theorem T147 : ∀ q ∈ S147, Snd PG.nam M147 q.1 q.2 := List.forall_mem_cons.mpr ⟨s_X21_init_0, List.forall_mem_cons.mpr ⟨s_X21_init_1, List.forall_mem_cons.mpr ⟨s_X21_init_4, List.forall_mem_cons.mpr ⟨s_X21_init_5, List.forall_mem_cons.mpr ⟨s_X21_init_7, List.forall_mem_cons.mpr ⟨s_X21_init_10, List.forall_mem_cons.mpr ⟨s_X21_init_13, (fun q hq => absurd hq List.not_mem_nil)⟩⟩⟩⟩⟩⟩⟩
theorem s_X21_add_0 : Snd PG.nam M148 0 (m_aload 0 1) := snd_aload_n dX21_add_0 rfl
theorem s_X21_add_1 : Snd PG.nam M148 1 (m_getf [(17, 1)] 4) := snd_getf dX21_add_1 fd_X21_9
theorem s_X21_add_4 : Snd PG.nam M148 4 (m_aload 0 5) := snd_aload_n dX21_add_4 rfl
theorem s_X21_add_5 : Snd PG.nam M148 5 (m_getf [(17, 2)] 8) := snd_getf dX21_add_5 fd_X21_15
theorem s_X21_add_8 : Snd PG.nam M148 8 (m_aload 1 9) := snd_aload_n dX21_add_8 rfl
theorem s_X21_add_9 : Snd PG.nam M148 9 (m_aast "TripleStore$Group" [9] 10) := snd_aast dX21_add_9 (List.forall_mem_cons.mpr ⟨⟨_, rfl, Or.inr rfl⟩, (fun ci hci => absurd hci List.not_mem_nil)⟩)
theorem s_X21_add_10 : Snd PG.nam M148 10 (m_aload 0 11) := snd_aload_n dX21_add_10 rfl
theorem s_X21_add_11 : Snd PG.nam M148 11 (m_dup 12) := snd_dup dX21_add_11
theorem s_X21_add_12 : Snd PG.nam M148 12 (m_getf [(17, 2)] 15) := snd_getf dX21_add_12 fd_X21_15
theorem s_X21_add_15 : Snd PG.nam M148 15 (m_const (.int (nI 1)) 16) := snd_iconst dX21_add_15 (by decide)
theorem s_X21_add_16 : Snd PG.nam M148 16 (m_ibin (fun a b => a + b) 17) := snd_iadd dX21_add_16
theorem s_X21_add_17 : Snd PG.nam M148 17 (m_putf [(17, 2)] .int 20) := snd_putf dX21_add_17 fd_X21_15
theorem s_X21_add_20 : Snd PG.nam M148 20 (m_vret) := snd_vret dX21_add_20 rfl
theorem T148 : ∀ q ∈ S148, Snd PG.nam M148 q.1 q.2 := List.forall_mem_cons.mpr ⟨s_X21_add_0, List.forall_mem_cons.mpr ⟨s_X21_add_1, List.forall_mem_cons.mpr ⟨s_X21_add_4, List.forall_mem_cons.mpr ⟨s_X21_add_5, List.forall_mem_cons.mpr ⟨s_X21_add_8, List.forall_mem_cons.mpr ⟨s_X21_add_9, List.forall_mem_cons.mpr ⟨s_X21_add_10, List.forall_mem_cons.mpr ⟨s_X21_add_11, List.forall_mem_cons.mpr ⟨s_X21_add_12, List.forall_mem_cons.mpr ⟨s_X21_add_15, List.forall_mem_cons.mpr ⟨s_X21_add_16, List.forall_mem_cons.mpr ⟨s_X21_add_17, List.forall_mem_cons.mpr ⟨s_X21_add_20, (fun q hq => absurd hq List.not_mem_nil)⟩⟩⟩⟩⟩⟩⟩⟩⟩⟩⟩⟩⟩
theorem s_X21_apply_0 : Snd PG.nam M149 0 (m_new 19 [.null, .int 0] 3) := snd_new dX21_apply_0 rfl w1275 w1162 w102 rfl (by decide +kernel)
theorem s_X21_apply_3 : Snd PG.nam M149 3 (m_dup 4) := snd_dup dX21_apply_3
theorem s_X21_apply_4 : Snd PG.nam M149 4 (m_callI 153 0 7) := snd_callI (nam := PG.nam) (yy := 153) dX21_apply_4 (Or.inr ⟨_, w1276⟩) mi_153 rfl w1165 (by decide)
theorem s_X21_apply_7 : Snd PG.nam M149 7 (m_astore 3 8) := snd_astore_n dX21_apply_7 rfl (by decide)
theorem s_X21_apply_8 : Snd PG.nam M149 8 (m_const (.int (nI 0)) 9) := snd_iconst dX21_apply_8 (by decide)
theorem s_X21_apply_9 : Snd PG.nam M149 9 (m_istore 4 11) := snd_istore dX21_apply_9 (by decide)
theorem s_X21_apply_11 : Snd PG.nam M149 11 (m_iload 4 13) := snd_iload dX21_apply_11
theorem s_X21_apply_13 : Snd PG.nam M149 13 (m_aload 0 14) := snd_aload_n dX21_apply_13 rfl
theorem s_X21_apply_14 : Snd PG.nam M149 14 (m_getf [(17, 2)] 17) := snd_getf dX21_apply_14 fd_X21_15
theorem s_X21_apply_17 : Snd PG.nam M149 17 (m_icmp (fun x z => if x < z then 20 else 70)) := snd_icmp_ge dX21_apply_17 (by decide)
theorem s_X21_apply_20 : Snd PG.nam M149 20 (m_aload 0 21) := snd_aload_n dX21_apply_20 rfl
theorem s_X21_apply_21 : Snd PG.nam M149 21 (m_getf [(17, 1)] 24) := snd_getf dX21_apply_21 fd_X21_9
theorem s_X21_apply_24 : Snd PG.nam M149 24 (m_iload 4 26) := snd_iload dX21_apply_24
theorem s_X21_apply_26 : Snd PG.nam M149 26 (m_aald 27) := snd_aald dX21_apply_26
theorem s_X21_apply_27 : Snd PG.nam M149 27 (m_aload 2 28) := snd_aload_n dX21_apply_27 rfl
theorem s_X21_apply_28 : Snd PG.nam M149 28 (m_callV false [(9, 128)] 1 31) := snd_callV (nam := PG.nam) (List.forall_mem_cons.mpr ⟨dr_V (ym := PG.nam 128) dX21_apply_28 (Or.inl w1277) mi_128 rfl w1159, (fun q hq => absurd hq List.not_mem_nil)⟩) (by decide)
theorem s_X21_apply_31 : Snd PG.nam M149 31 (m_astore 5 33) := snd_astore dX21_apply_31 (by decide)
theorem s_X21_apply_33 : Snd PG.nam M149 33 (m_const (.int (nI 0)) 34) := snd_iconst dX21_apply_33 (by decide)
theorem s_X21_apply_34 : Snd PG.nam M149 34 (m_istore 6 36) := snd_istore dX21_apply_34 (by decide)
theorem s_X21_apply_36 : Snd PG.nam M149 36 (m_iload 6 38) := snd_iload dX21_apply_36
theorem s_X21_apply_38 : Snd PG.nam M149 38 (m_aload 5 40) := snd_aload dX21_apply_38
theorem s_X21_apply_40 : Snd PG.nam M149 40 (m_getf [(19, 1)] 43) := snd_getf dX21_apply_40 fd_X21_26
theorem s_X21_apply_43 : Snd PG.nam M149 43 (m_icmp (fun x z => if x < z then 46 else 64)) := snd_icmp_ge dX21_apply_43 (by decide)
theorem s_X21_apply_46 : Snd PG.nam M149 46 (m_aload 3 47) := snd_aload_n dX21_apply_46 rfl
theorem s_X21_apply_47 : Snd PG.nam M149 47 (m_aload 5 49) := snd_aload dX21_apply_47
theorem s_X21_apply_49 : Snd PG.nam M149 49 (m_getf [(19, 0)] 52) := snd_getf dX21_apply_49 fd_X21_27
theorem s_X21_apply_52 : Snd PG.nam M149 52 (m_iload 6 54) := snd_iload dX21_apply_52
theorem s_X21_apply_54 : Snd PG.nam M149 54 (m_aald 55) := snd_aald dX21_apply_54
theorem s_X21_apply_55 : Snd PG.nam M149 55 (m_callV true [(19, 154)] 1 58) := snd_callV (nam := PG.nam) (List.forall_mem_cons.mpr ⟨dr_V (ym := PG.nam 154) dX21_apply_55 (Or.inl w1278) mi_154 rfl w1203, (fun q hq => absurd hq List.not_mem_nil)⟩) (by decide)
theorem s_X21_apply_58 : Snd PG.nam M149 58 (m_iinc 6 (nI 1) 61) := snd_iinc dX21_apply_58 (by decide) (by decide)
theorem s_X21_apply_61 : Snd PG.nam M149 61 (m_goto 36) := snd_goto dX21_apply_61 (by decide)
theorem s_X21_apply_64 : Snd PG.nam M149 64 (m_iinc 4 (nI 1) 67) := snd_iinc dX21_apply_64 (by decide) (by decide)
theorem s_X21_apply_67 : Snd PG.nam M149 67 (m_goto 11) := snd_goto dX21_apply_67 (by decide)
theorem s_X21_apply_70 : Snd PG.nam M149 70 (m_aload 1 71) := snd_aload_n dX21_apply_70 rfl
theorem s_X21_apply_71 : Snd PG.nam M149 71 (m_aload 3 72) := snd_aload_n dX21_apply_71 rfl
theorem s_X21_apply_72 : Snd PG.nam M149 72 (m_callV false [(19, 155)] 1 75) := snd_callV (nam := PG.nam) (List.forall_mem_cons.mpr ⟨dr_V (ym := PG.nam 155) dX21_apply_72 (Or.inl w1279) mi_155 rfl w1265, (fun q hq => absurd hq List.not_mem_nil)⟩) (by decide)
theorem s_X21_apply_75 : Snd PG.nam M149 75 (m_aret) := snd_aret dX21_apply_75 rfl (Or.inl ⟨_, rfl⟩)
theorem T149 : ∀ q ∈ S149, Snd PG.nam M149 q.1 q.2 := List.forall_mem_cons.mpr ⟨s_X21_apply_0, List.forall_mem_cons.mpr ⟨s_X21_apply_3, List.forall_mem_cons.mpr ⟨s_X21_apply_4, List.forall_mem_cons.mpr ⟨s_X21_apply_7, List.forall_mem_cons.mpr ⟨s_X21_apply_8, List.forall_mem_cons.mpr ⟨s_X21_apply_9, List.forall_mem_cons.mpr ⟨s_X21_apply_11, List.forall_mem_cons.mpr ⟨s_X21_apply_13, List.forall_mem_cons.mpr ⟨s_X21_apply_14, List.forall_mem_cons.mpr ⟨s_X21_apply_17, List.forall_mem_cons.mpr ⟨s_X21_apply_20, List.forall_mem_cons.mpr ⟨s_X21_apply_21, List.forall_mem_cons.mpr ⟨s_X21_apply_24, List.forall_mem_cons.mpr ⟨s_X21_apply_26, List.forall_mem_cons.mpr ⟨s_X21_apply_27, List.forall_mem_cons.mpr ⟨s_X21_apply_28, List.forall_mem_cons.mpr ⟨s_X21_apply_31, List.forall_mem_cons.mpr ⟨s_X21_apply_33, List.forall_mem_cons.mpr ⟨s_X21_apply_34, List.forall_mem_cons.mpr ⟨s_X21_apply_36, List.forall_mem_cons.mpr ⟨s_X21_apply_38, List.forall_mem_cons.mpr ⟨s_X21_apply_40, List.forall_mem_cons.mpr ⟨s_X21_apply_43, List.forall_mem_cons.mpr ⟨s_X21_apply_46, List.forall_mem_cons.mpr ⟨s_X21_apply_47, List.forall_mem_cons.mpr ⟨s_X21_apply_49, List.forall_mem_cons.mpr ⟨s_X21_apply_52, List.forall_mem_cons.mpr ⟨s_X21_apply_54, List.forall_mem_cons.mpr ⟨s_X21_apply_55, List.forall_mem_cons.mpr ⟨s_X21_apply_58, List.forall_mem_cons.mpr ⟨s_X21_apply_61, List.forall_mem_cons.mpr ⟨s_X21_apply_64, List.forall_mem_cons.mpr ⟨s_X21_apply_67, List.forall_mem_cons.mpr ⟨s_X21_apply_70, List.forall_mem_cons.mpr ⟨s_X21_apply_71, List.forall_mem_cons.mpr ⟨s_X21_apply_72, List.forall_mem_cons.mpr ⟨s_X21_apply_75, (fun q hq => absurd hq List.not_mem_nil)⟩⟩⟩⟩⟩⟩⟩⟩⟩⟩⟩⟩⟩⟩⟩⟩⟩⟩⟩⟩⟩⟩⟩⟩⟩⟩⟩⟩⟩⟩⟩⟩⟩⟩⟩⟩⟩
theorem s_X22_init_0 : Snd PG.nam M150 0 (m_aload 0 1) := snd_aload_n dX22_init_0 rfl
theorem s_X22_init_1 : Snd PG.nam M150 1 (m_callI 129 0 4) := snd_callI (nam := PG.nam) (yy := 129) dX22_init_1 (Or.inr ⟨_, w1143⟩) mi_129 rfl w1085 (by decide)
theorem s_X22_init_4 : Snd PG.nam M150 4 (m_aload 0 5) := snd_aload_n dX22_init_4 rfl
theorem s_X22_init_5 : Snd PG.nam M150 5 (m_aload 1 6) := snd_aload_n dX22_init_5 rfl
theorem s_X22_init_6 : Snd PG.nam M150 6 (m_putf [(18, 1)] (.array (.object "TripleStore$Side")) 9) := snd_putF dX22_init_6 fd_X22_7 rfl
theorem s_X22_init_9 : Snd PG.nam M150 9 (m_vret) := snd_vret dX22_init_9 rfl
theorem T150 : ∀ q ∈ S150, Snd PG.nam M150 q.1 q.2 := List.forall_mem_cons.mpr ⟨s_X22_init_0, List.forall_mem_cons.mpr ⟨s_X22_init_1, List.forall_mem_cons.mpr ⟨s_X22_init_4, List.forall_mem_cons.mpr ⟨s_X22_init_5, List.forall_mem_cons.mpr ⟨s_X22_init_6, List.forall_mem_cons.mpr ⟨s_X22_init_9, (fun q hq => absurd hq List.not_mem_nil)⟩⟩⟩⟩⟩⟩
theorem s_X22_apply_0 : Snd PG.nam M151 0 (m_new 19 [.null, .int 0] 3) := snd_new dX22_apply_0 rfl w1249 w1162 w102 rfl (by decide +kernel)
theorem s_X22_apply_3 : Snd PG.nam M151 3 (m_dup 4) := snd_dup dX22_apply_3
theorem s_X22_apply_4 : Snd PG.nam M151 4 (m_callI 153 0 7) := snd_callI (nam := PG.nam) (yy := 153) dX22_apply_4 (Or.inr ⟨_, w1250⟩) mi_153 rfl w1165 (by decide)
theorem s_X22_apply_7 : Snd PG.nam M151 7 (m_astore 3 8) := snd_astore_n dX22_apply_7 rfl (by decide)
theorem s_X22_apply_8 : Snd PG.nam M151 8 (m_const (.int (nI 0)) 9) := snd_iconst dX22_apply_8 (by decide)
theorem s_X22_apply_9 : Snd PG.nam M151 9 (m_istore 4 11) := snd_istore dX22_apply_9 (by decide)
theorem s_X22_apply_11 : Snd PG.nam M151 11 (m_iload 4 13) := snd_iload dX22_apply_11
theorem s_X22_apply_13 : Snd PG.nam M151 13 (m_aload 2 14) := snd_aload_n dX22_apply_13 rfl
theorem s_X22_apply_14 : Snd PG.nam M151 14 (m_getf [(0, 1)] 17) := snd_getf dX22_apply_14 fd_X22_48
theorem s_X22_apply_17 : Snd PG.nam M151 17 (m_icmp (fun x z => if x < z then 20 else 50)) := snd_icmp_ge dX22_apply_17 (by decide)
theorem s_X22_apply_20 : Snd PG.nam M151 20 (m_aload 0 21) := snd_aload_n dX22_apply_20 rfl
theorem s_X22_apply_21 : Snd PG.nam M151 21 (m_aload 2 22) := snd_aload_n dX22_apply_21 rfl
theorem s_X22_apply_22 : Snd PG.nam M151 22 (m_getf [(0, 0)] 25) := snd_getf dX22_apply_22 fd_X22_53
theorem s_X22_apply_25 : Snd PG.nam M151 25 (m_iload 4 27) := snd_iload dX22_apply_25
theorem s_X22_apply_27 : Snd PG.nam M151 27 (m_aald 28) := snd_aald dX22_apply_27
theorem s_X22_apply_28 : Snd PG.nam M151 28 (m_callV false [(18, 152)] 1 31) := snd_callV (nam := PG.nam) (List.forall_mem_cons.mpr ⟨dr_V (ym := PG.nam 152) dX22_apply_28 (Or.inl w1251) mi_152 rfl (lw_all_tbl qs22), (fun q hq => absurd hq List.not_mem_nil)⟩) (by decide)
theorem s_X22_apply_31 : Snd PG.nam M151 31 (m_astore 5 33) := snd_astore dX22_apply_31 (by decide)
theorem s_X22_apply_33 : Snd PG.nam M151 33 (m_aload 5 35) := snd_aload dX22_apply_33
theorem s_X22_apply_35 : Snd PG.nam M151 35 (m_ifn 44 38) := snd_ifnull dX22_apply_35 (by decide)
theorem s_X22_apply_38 : Snd PG.nam M151 38 (m_aload 3 39) := snd_aload_n dX22_apply_38 rfl
theorem s_X22_apply_39 : Snd PG.nam M151 39 (m_aload 5 41) := snd_aload dX22_apply_39
theorem s_X22_apply_41 : Snd PG.nam M151 41 (m_callV true [(19, 154)] 1 44) := snd_callV (nam := PG.nam) (List.forall_mem_cons.mpr ⟨dr_V (ym := PG.nam 154) dX22_apply_41 (Or.inl w1262) mi_154 rfl w1203, (fun q hq => absurd hq List.not_mem_nil)⟩) (by decide)
theorem s_X22_apply_44 : Snd PG.nam M151 44 (m_iinc 4 (nI 1) 47) := snd_iinc dX22_apply_44 (by decide) (by decide)
theorem s_X22_apply_47 : Snd PG.nam M151 47 (m_goto 11) := snd_goto dX22_apply_47 (by decide)
theorem s_X22_apply_50 : Snd PG.nam M151 50 (m_aload 1 51) := snd_aload_n dX22_apply_50 rfl
theorem s_X22_apply_51 : Snd PG.nam M151 51 (m_aload 3 52) := snd_aload_n dX22_apply_51 rfl
theorem s_X22_apply_52 : Snd PG.nam M151 52 (m_callV false [(19, 155)] 1 55) := snd_callV (nam := PG.nam) (List.forall_mem_cons.mpr ⟨dr_V (ym := PG.nam 155) dX22_apply_52 (Or.inl w1263) mi_155 rfl w1265, (fun q hq => absurd hq List.not_mem_nil)⟩) (by decide)
theorem s_X22_apply_55 : Snd PG.nam M151 55 (m_aret) := snd_aret dX22_apply_55 rfl (Or.inl ⟨_, rfl⟩)
theorem T151 : ∀ q ∈ S151, Snd PG.nam M151 q.1 q.2 := List.forall_mem_cons.mpr ⟨s_X22_apply_0, List.forall_mem_cons.mpr ⟨s_X22_apply_3, List.forall_mem_cons.mpr ⟨s_X22_apply_4, List.forall_mem_cons.mpr ⟨s_X22_apply_7, List.forall_mem_cons.mpr ⟨s_X22_apply_8, List.forall_mem_cons.mpr ⟨s_X22_apply_9, List.forall_mem_cons.mpr ⟨s_X22_apply_11, List.forall_mem_cons.mpr ⟨s_X22_apply_13, List.forall_mem_cons.mpr ⟨s_X22_apply_14, List.forall_mem_cons.mpr ⟨s_X22_apply_17, List.forall_mem_cons.mpr ⟨s_X22_apply_20, List.forall_mem_cons.mpr ⟨s_X22_apply_21, List.forall_mem_cons.mpr ⟨s_X22_apply_22, List.forall_mem_cons.mpr ⟨s_X22_apply_25, List.forall_mem_cons.mpr ⟨s_X22_apply_27, List.forall_mem_cons.mpr ⟨s_X22_apply_28, List.forall_mem_cons.mpr ⟨s_X22_apply_31, List.forall_mem_cons.mpr ⟨s_X22_apply_33, List.forall_mem_cons.mpr ⟨s_X22_apply_35, List.forall_mem_cons.mpr ⟨s_X22_apply_38, List.forall_mem_cons.mpr ⟨s_X22_apply_39, List.forall_mem_cons.mpr ⟨s_X22_apply_41, List.forall_mem_cons.mpr ⟨s_X22_apply_44, List.forall_mem_cons.mpr ⟨s_X22_apply_47, List.forall_mem_cons.mpr ⟨s_X22_apply_50, List.forall_mem_cons.mpr ⟨s_X22_apply_51, List.forall_mem_cons.mpr ⟨s_X22_apply_52, List.forall_mem_cons.mpr ⟨s_X22_apply_55, (fun q hq => absurd hq List.not_mem_nil)⟩⟩⟩⟩⟩⟩⟩⟩⟩⟩⟩⟩⟩⟩⟩⟩⟩⟩⟩⟩⟩⟩⟩⟩⟩⟩⟩⟩
theorem s_X22_match_0 : Snd PG.nam M152 0 (m_new 20 [.null] 3) := snd_new dX22_match_0 rfl w1255 w1187 w103 rfl (by decide +kernel)
theorem s_X22_match_3 : Snd PG.nam M152 3 (m_dup 4) := snd_dup dX22_match_3
theorem s_X22_match_4 : Snd PG.nam M152 4 (m_callI 156 0 7) := snd_callI (nam := PG.nam) (yy := 156) dX22_match_4 (Or.inr ⟨_, w1256⟩) mi_156 rfl w1190 (by decide)
theorem s_X22_match_7 : Snd PG.nam M152 7 (m_astore 2 8) := snd_astore_n dX22_match_7 rfl (by decide)
theorem s_X22_match_8 : Snd PG.nam M152 8 (m_const (.int (nI 0)) 9) := snd_iconst dX22_match_8 (by decide)
theorem s_X22_match_9 : Snd PG.nam M152 9 (m_istore 3 10) := snd_istore_n dX22_match_9 rfl (by decide)
theorem s_X22_match_10 : Snd PG.nam M152 10 (m_iload 3 11) := snd_iload_n dX22_match_10 rfl
theorem s_X22_match_11 : Snd PG.nam M152 11 (m_const (.int (nI 3)) 12) := snd_iconst dX22_match_11 (by decide)
theorem s_X22_match_12 : Snd PG.nam M152 12 (m_icmp (fun x z => if x < z then 15 else 86)) := snd_icmp_ge dX22_match_12 (by decide)
theorem s_X22_match_15 : Snd PG.nam M152 15 (m_aload 0 16) := snd_aload_n dX22_match_15 rfl
theorem s_X22_match_16 : Snd PG.nam M152 16 (m_getf [(18, 1)] 19) := snd_getf dX22_match_16 fd_X22_7
theorem s_X22_match_19 : Snd PG.nam M152 19 (m_iload 3 20) := snd_iload_n dX22_match_19 rfl
theorem s_X22_match_20 : Snd PG.nam M152 20 (m_aald 21) := snd_aald dX22_match_20
theorem s_X22_match_21 : Snd PG.nam M152 21 (m_aload 2 22) := snd_aload_n dX22_match_21 rfl
theorem s_X22_match_22 : Snd PG.nam M152 22 (m_callV false [(13, 139)] 1 25) := snd_callV (nam := PG.nam) (List.forall_mem_cons.mpr ⟨dr_V (ym := PG.nam 139) dX22_match_22 (Or.inl w1257) mi_139 rfl w1259, (fun q hq => absurd hq List.not_mem_nil)⟩) (by decide)
theorem s_X22_match_25 : Snd PG.nam M152 25 (m_astore 4 27) := snd_astore dX22_match_25 (by decide)
theorem s_X22_match_27 : Snd PG.nam M152 27 (m_aload 4 29) := snd_aload dX22_match_27
theorem s_X22_match_29 : Snd PG.nam M152 29 (m_ifn 48 32) := snd_ifnull dX22_match_29 (by decide)
theorem s_X22_match_32 : Snd PG.nam M152 32 (m_aload 4 34) := snd_aload dX22_match_32
theorem s_X22_match_34 : Snd PG.nam M152 34 (m_aload 1 35) := snd_aload_n dX22_match_34 rfl
theorem s_X22_match_35 : Snd PG.nam M152 35 (m_getf [(2, 0)] 38) := snd_getf dX22_match_35 fd_X22_22
theorem s_X22_match_38 : Snd PG.nam M152 38 (m_iload 3 39) := snd_iload_n dX22_match_38 rfl
theorem s_X22_match_39 : Snd PG.nam M152 39 (m_aald 40) := snd_aald dX22_match_39
theorem s_X22_match_40 : Snd PG.nam M152 40 (m_callV false [(3, 98), (4, 102)] 1 43) := snd_callV (nam := PG.nam) (List.forall_mem_cons.mpr ⟨dr_U (ym := PG.nam 98) dX22_match_40 w1261 w582 (Or.inl w581) (by decide) (by decide +kernel) w584 rfl w583, (List.forall_mem_cons.mpr ⟨dr_U (ym := PG.nam 102) dX22_match_40 w1261 w582 (Or.inl w581) (by decide) (by decide +kernel) w588 rfl w587, (fun q hq => absurd hq List.not_mem_nil)⟩)⟩) (by decide)
theorem s_X22_match_43 : Snd PG.nam M152 43 (m_ifz (fun x => if x = 0 then 46 else 48)) := snd_if_ne dX22_match_43 (by decide)
theorem s_X22_match_46 : Snd PG.nam M152 46 (m_const .null 47) := snd_null dX22_match_46
theorem s_X22_match_47 : Snd PG.nam M152 47 (m_aret) := snd_aret dX22_match_47 rfl (Or.inl ⟨_, rfl⟩)
theorem s_X22_match_48 : Snd PG.nam M152 48 (m_aload 0 49) := snd_aload_n dX22_match_48 rfl
theorem s_X22_match_49 : Snd PG.nam M152 49 (m_getf [(18, 1)] 52) := snd_getf dX22_match_49 fd_X22_7
theorem s_X22_match_52 : Snd PG.nam M152 52 (m_iload 3 53) := snd_iload_n dX22_match_52 rfl
theorem s_X22_match_53 : Snd PG.nam M152 53 (m_aald 54) := snd_aald dX22_match_53
theorem s_X22_match_54 : Snd PG.nam M152 54 (m_getf [(13, 0)] 57) := snd_getf dX22_match_54 fd_X22_34
theorem s_X22_match_57 : Snd PG.nam M152 57 (m_ifn 60 80) := snd_ifnonnull dX22_match_57 (by decide)
theorem s_X22_match_60 : Snd PG.nam M152 60 (m_aload 2 61) := snd_aload_n dX22_match_60 rfl
theorem s_X22_match_61 : Snd PG.nam M152 61 (m_getf [(20, 0)] 64) := snd_getf dX22_match_61 fd_X22_38
theorem s_X22_match_64 : Snd PG.nam M152 64 (m_aload 0 65) := snd_aload_n dX22_match_64 rfl
theorem s_X22_match_65 : Snd PG.nam M152 65 (m_getf [(18, 1)] 68) := snd_getf dX22_match_65 fd_X22_7
theorem s_X22_match_68 : Snd PG.nam M152 68 (m_iload 3 69) := snd_iload_n dX22_match_68 rfl
theorem s_X22_match_69 : Snd PG.nam M152 69 (m_aald 70) := snd_aald dX22_match_69
theorem s_X22_match_70 : Snd PG.nam M152 70 (m_getf [(13, 1)] 73) := snd_getf dX22_match_70 fd_X22_41
theorem s_X22_match_73 : Snd PG.nam M152 73 (m_aload 1 74) := snd_aload_n dX22_match_73 rfl
theorem s_X22_match_74 : Snd PG.nam M152 74 (m_getf [(2, 0)] 77) := snd_getf dX22_match_74 fd_X22_22
theorem s_X22_match_77 : Snd PG.nam M152 77 (m_iload 3 78) := snd_iload_n dX22_match_77 rfl
theorem s_X22_match_78 : Snd PG.nam M152 78 (m_aald 79) := snd_aald dX22_match_78
theorem s_X22_match_79 : Snd PG.nam M152 79 (m_aast "TripleStore$Term" [3, 4] 80) := snd_aast dX22_match_79 (List.forall_mem_cons.mpr ⟨⟨_, rfl, Or.inl w1870⟩, (List.forall_mem_cons.mpr ⟨⟨_, rfl, Or.inl w1871⟩, (fun ci hci => absurd hci List.not_mem_nil)⟩)⟩)
theorem s_X22_match_80 : Snd PG.nam M152 80 (m_iinc 3 (nI 1) 83) := snd_iinc dX22_match_80 (by decide) (by decide)
theorem s_X22_match_83 : Snd PG.nam M152 83 (m_goto 10) := snd_goto dX22_match_83 (by decide)
theorem s_X22_match_86 : Snd PG.nam M152 86 (m_aload 2 87) := snd_aload_n dX22_match_86 rfl
theorem s_X22_match_87 : Snd PG.nam M152 87 (m_aret) := snd_aret dX22_match_87 rfl (Or.inl ⟨_, rfl⟩)
theorem T152 : ∀ q ∈ S152, Snd PG.nam M152 q.1 q.2 := List.forall_mem_cons.mpr ⟨s_X22_match_0, List.forall_mem_cons.mpr ⟨s_X22_match_3, List.forall_mem_cons.mpr ⟨s_X22_match_4, List.forall_mem_cons.mpr ⟨s_X22_match_7, List.forall_mem_cons.mpr ⟨s_X22_match_8, List.forall_mem_cons.mpr ⟨s_X22_match_9, List.forall_mem_cons.mpr ⟨s_X22_match_10, List.forall_mem_cons.mpr ⟨s_X22_match_11, List.forall_mem_cons.mpr ⟨s_X22_match_12, List.forall_mem_cons.mpr ⟨s_X22_match_15, List.forall_mem_cons.mpr ⟨s_X22_match_16, List.forall_mem_cons.mpr ⟨s_X22_match_19, List.forall_mem_cons.mpr ⟨s_X22_match_20, List.forall_mem_cons.mpr ⟨s_X22_match_21, List.forall_mem_cons.mpr ⟨s_X22_match_22, List.forall_mem_cons.mpr ⟨s_X22_match_25, List.forall_mem_cons.mpr ⟨s_X22_match_27, List.forall_mem_cons.mpr ⟨s_X22_match_29, List.forall_mem_cons.mpr ⟨s_X22_match_32, List.forall_mem_cons.mpr ⟨s_X22_match_34, List.forall_mem_cons.mpr ⟨s_X22_match_35, List.forall_mem_cons.mpr ⟨s_X22_match_38, List.forall_mem_cons.mpr ⟨s_X22_match_39, List.forall_mem_cons.mpr ⟨s_X22_match_40, List.forall_mem_cons.mpr ⟨s_X22_match_43, List.forall_mem_cons.mpr ⟨s_X22_match_46, List.forall_mem_cons.mpr ⟨s_X22_match_47, List.forall_mem_cons.mpr ⟨s_X22_match_48, List.forall_mem_cons.mpr ⟨s_X22_match_49, List.forall_mem_cons.mpr ⟨s_X22_match_52, List.forall_mem_cons.mpr ⟨s_X22_match_53, List.forall_mem_cons.mpr ⟨s_X22_match_54, List.forall_mem_cons.mpr ⟨s_X22_match_57, List.forall_mem_cons.mpr ⟨s_X22_match_60, List.forall_mem_cons.mpr ⟨s_X22_match_61, List.forall_mem_cons.mpr ⟨s_X22_match_64, List.forall_mem_cons.mpr ⟨s_X22_match_65, List.forall_mem_cons.mpr ⟨s_X22_match_68, List.forall_mem_cons.mpr ⟨s_X22_match_69, List.forall_mem_cons.mpr ⟨s_X22_match_70, List.forall_mem_cons.mpr ⟨s_X22_match_73, List.forall_mem_cons.mpr ⟨s_X22_match_74, List.forall_mem_cons.mpr ⟨s_X22_match_77, List.forall_mem_cons.mpr ⟨s_X22_match_78, List.forall_mem_cons.mpr ⟨s_X22_match_79, List.forall_mem_cons.mpr ⟨s_X22_match_80, List.forall_mem_cons.mpr ⟨s_X22_match_83, List.forall_mem_cons.mpr ⟨s_X22_match_86, List.forall_mem_cons.mpr ⟨s_X22_match_87, (fun q hq => absurd hq List.not_mem_nil)⟩⟩⟩⟩⟩⟩⟩⟩⟩⟩⟩⟩⟩⟩⟩⟩⟩⟩⟩⟩⟩⟩⟩⟩⟩⟩⟩⟩⟩⟩⟩⟩⟩⟩⟩⟩⟩⟩⟩⟩⟩⟩⟩⟩⟩⟩⟩⟩⟩
theorem s_X23_init_0 : Snd PG.nam M153 0 (m_aload 0 1) := snd_aload_n dX23_init_0 rfl
theorem s_X23_init_1 : Snd PG.nam M153 1 (m_oi 4) := snd_oi dX23_init_1 w1166 w113 w114
theorem s_X23_init_4 : Snd PG.nam M153 4 (m_aload 0 5) := snd_aload_n dX23_init_4 rfl
theorem s_X23_init_5 : Snd PG.nam M153 5 (m_const (.int (nI 150)) 8) := snd_sipush dX23_init_5 (by decide)
theorem s_X23_init_8 : Snd PG.nam M153 8 (m_anew "TripleStore$Solution" 11) := snd_anew dX23_init_8 w1167 w1168
theorem s_X23_init_11 : Snd PG.nam M153 11 (m_putf [(19, 0)] (.array (.object "TripleStore$Solution")) 14) := snd_putF dX23_init_11 fd_X23_11 rfl
theorem s_X23_init_14 : Snd PG.nam M153 14 (m_vret) := snd_vret dX23_init_14 rfl
theorem T153 : ∀ q ∈ S153, Snd PG.nam M153 q.1 q.2 := List.forall_mem_cons.mpr ⟨s_X23_init_0, List.forall_mem_cons.mpr ⟨s_X23_init_1, List.forall_mem_cons.mpr ⟨s_X23_init_4, List.forall_mem_cons.mpr ⟨s_X23_init_5, List.forall_mem_cons.mpr ⟨s_X23_init_8, List.forall_mem_cons.mpr ⟨s_X23_init_11, List.forall_mem_cons.mpr ⟨s_X23_init_14, (fun q hq => absurd hq List.not_mem_nil)⟩⟩⟩⟩⟩⟩⟩
theorem s_X23_add_0 : Snd PG.nam M154 0 (m_aload 0 1) := snd_aload_n dX23_add_0 rfl
theorem s_X23_add_1 : Snd PG.nam M154 1 (m_getf [(19, 1)] 4) := snd_getf dX23_add_1 fd_X23_17
theorem s_X23_add_4 : Snd PG.nam M154 4 (m_const (.int (nI 150)) 7) := snd_sipush dX23_add_4 (by decide)
theorem s_X23_add_7 : Snd PG.nam M154 7 (m_icmp (fun x z => if x = z then 10 else 18)) := snd_icmp_ne dX23_add_7 (by decide)
theorem s_X23_add_10 : Snd PG.nam M154 10 (m_thr 25) := snd_thr exc_J14 rfl dX23_add_10 dX23_add_13 dX23_add_14 dX23_add_17 w1205 w1206 w85 (by decide)
theorem s_X23_add_18 : Snd PG.nam M154 18 (m_aload 0 19) := snd_aload_n dX23_add_18 rfl
theorem s_X23_add_19 : Snd PG.nam M154 19 (m_getf [(19, 0)] 22) := snd_getf dX23_add_19 fd_X23_11
theorem s_X23_add_22 : Snd PG.nam M154 22 (m_aload 0 23) := snd_aload_n dX23_add_22 rfl
theorem s_X23_add_23 : Snd PG.nam M154 23 (m_getf [(19, 1)] 26) := snd_getf dX23_add_23 fd_X23_17
theorem s_X23_add_26 : Snd PG.nam M154 26 (m_aload 1 27) := snd_aload_n dX23_add_26 rfl
theorem s_X23_add_27 : Snd PG.nam M154 27 (m_aast "TripleStore$Solution" [20] 28) := snd_aast dX23_add_27 (List.forall_mem_cons.mpr ⟨⟨_, rfl, Or.inr rfl⟩, (fun ci hci => absurd hci List.not_mem_nil)⟩)
theorem s_X23_add_28 : Snd PG.nam M154 28 (m_aload 0 29) := snd_aload_n dX23_add_28 rfl
theorem s_X23_add_29 : Snd PG.nam M154 29 (m_dup 30) := snd_dup dX23_add_29
theorem s_X23_add_30 : Snd PG.nam M154 30 (m_getf [(19, 1)] 33) := snd_getf dX23_add_30 fd_X23_17
theorem s_X23_add_33 : Snd PG.nam M154 33 (m_const (.int (nI 1)) 34) := snd_iconst dX23_add_33 (by decide)
theorem s_X23_add_34 : Snd PG.nam M154 34 (m_ibin (fun a b => a + b) 35) := snd_iadd dX23_add_34
theorem s_X23_add_35 : Snd PG.nam M154 35 (m_putf [(19, 1)] .int 38) := snd_putf dX23_add_35 fd_X23_17
theorem s_X23_add_38 : Snd PG.nam M154 38 (m_vret) := snd_vret dX23_add_38 rfl
theorem T154 : ∀ q ∈ S154, Snd PG.nam M154 q.1 q.2 := List.forall_mem_cons.mpr ⟨s_X23_add_0, List.forall_mem_cons.mpr ⟨s_X23_add_1, List.forall_mem_cons.mpr ⟨s_X23_add_4, List.forall_mem_cons.mpr ⟨s_X23_add_7, List.forall_mem_cons.mpr ⟨s_X23_add_10, List.forall_mem_cons.mpr ⟨s_X23_add_18, List.forall_mem_cons.mpr ⟨s_X23_add_19, List.forall_mem_cons.mpr ⟨s_X23_add_22, List.forall_mem_cons.mpr ⟨s_X23_add_23, List.forall_mem_cons.mpr ⟨s_X23_add_26, List.forall_mem_cons.mpr ⟨s_X23_add_27, List.forall_mem_cons.mpr ⟨s_X23_add_28, List.forall_mem_cons.mpr ⟨s_X23_add_29, List.forall_mem_cons.mpr ⟨s_X23_add_30, List.forall_mem_cons.mpr ⟨s_X23_add_33, List.forall_mem_cons.mpr ⟨s_X23_add_34, List.forall_mem_cons.mpr ⟨s_X23_add_35, List.forall_mem_cons.mpr ⟨s_X23_add_38, (fun q hq => absurd hq List.not_mem_nil)⟩⟩⟩⟩⟩⟩⟩⟩⟩⟩⟩⟩⟩⟩⟩⟩⟩⟩
theorem s_X23_joined_0 : Snd PG.nam M155 0 (m_new 19 [.null, .int 0] 3) := snd_new dX23_joined_0 rfl w1267 w1162 w102 rfl (by decide +kernel)
theorem s_X23_joined_3 : Snd PG.nam M155 3 (m_dup 4) := snd_dup dX23_joined_3
theorem s_X23_joined_4 : Snd PG.nam M155 4 (m_callI 153 0 7) := snd_callI (nam := PG.nam) (yy := 153) dX23_joined_4 (Or.inl w1268) mi_153 rfl w1165 (by decide)
theorem s_X23_joined_7 : Snd PG.nam M155 7 (m_astore 2 8) := snd_astore_n dX23_joined_7 rfl (by decide)
theorem s_X23_joined_8 : Snd PG.nam M155 8 (m_const (.int (nI 0)) 9) := snd_iconst dX23_joined_8 (by decide)
theorem s_X23_joined_9 : Snd PG.nam M155 9 (m_istore 3 10) := snd_istore_n dX23_joined_9 rfl (by decide)
theorem s_X23_joined_10 : Snd PG.nam M155 10 (m_iload 3 11) := snd_iload_n dX23_joined_10 rfl
theorem s_X23_joined_11 : Snd PG.nam M155 11 (m_aload 0 12) := snd_aload_n dX23_joined_11 rfl
theorem s_X23_joined_12 : Snd PG.nam M155 12 (m_getf [(19, 1)] 15) := snd_getf dX23_joined_12 fd_X23_17
theorem s_X23_joined_15 : Snd PG.nam M155 15 (m_icmp (fun x z => if x < z then 18 else 81)) := snd_icmp_ge dX23_joined_15 (by decide)
theorem s_X23_joined_18 : Snd PG.nam M155 18 (m_const (.int (nI 0)) 19) := snd_iconst dX23_joined_18 (by decide)
theorem s_X23_joined_19 : Snd PG.nam M155 19 (m_istore 4 21) := snd_istore dX23_joined_19 (by decide)
theorem s_X23_joined_21 : Snd PG.nam M155 21 (m_iload 4 23) := snd_iload dX23_joined_21
theorem s_X23_joined_23 : Snd PG.nam M155 23 (m_aload 1 24) := snd_aload_n dX23_joined_23 rfl
theorem s_X23_joined_24 : Snd PG.nam M155 24 (m_getf [(19, 1)] 27) := snd_getf dX23_joined_24 fd_X23_17
theorem s_X23_joined_27 : Snd PG.nam M155 27 (m_icmp (fun x z => if x < z then 30 else 75)) := snd_icmp_ge dX23_joined_27 (by decide)
theorem s_X23_joined_30 : Snd PG.nam M155 30 (m_aload 0 31) := snd_aload_n dX23_joined_30 rfl
theorem s_X23_joined_31 : Snd PG.nam M155 31 (m_getf [(19, 0)] 34) := snd_getf dX23_joined_31 fd_X23_11
theorem s_X23_joined_34 : Snd PG.nam M155 34 (m_iload 3 35) := snd_iload_n dX23_joined_34 rfl
theorem s_X23_joined_35 : Snd PG.nam M155 35 (m_aald 36) := snd_aald dX23_joined_35
theorem s_X23_joined_36 : Snd PG.nam M155 36 (m_aload 1 37) := snd_aload_n dX23_joined_36 rfl
theorem s_X23_joined_37 : Snd PG.nam M155 37 (m_getf [(19, 0)] 40) := snd_getf dX23_joined_37 fd_X23_11
theorem s_X23_joined_40 : Snd PG.nam M155 40 (m_iload 4 42) := snd_iload dX23_joined_40
theorem s_X23_joined_42 : Snd PG.nam M155 42 (m_aald 43) := snd_aald dX23_joined_42
theorem s_X23_joined_43 : Snd PG.nam M155 43 (m_callV false [(20, 157)] 1 46) := snd_callV (nam := PG.nam) (List.forall_mem_cons.mpr ⟨dr_V (ym := PG.nam 157) dX23_joined_43 (Or.inl w1269) mi_157 rfl w1224, (fun q hq => absurd hq List.not_mem_nil)⟩) (by decide)
theorem s_X23_joined_46 : Snd PG.nam M155 46 (m_ifz (fun x => if x = 0 then 69 else 49)) := snd_if_eq dX23_joined_46 (by decide)
theorem s_X23_joined_49 : Snd PG.nam M155 49 (m_aload 2 50) := snd_aload_n dX23_joined_49 rfl
theorem s_X23_joined_50 : Snd PG.nam M155 50 (m_aload 0 51) := snd_aload_n dX23_joined_50 rfl
theorem s_X23_joined_51 : Snd PG.nam M155 51 (m_getf [(19, 0)] 54) := snd_getf dX23_joined_51 fd_X23_11
theorem s_X23_joined_54 : Snd PG.nam M155 54 (m_iload 3 55) := snd_iload_n dX23_joined_54 rfl
theorem s_X23_joined_55 : Snd PG.nam M155 55 (m_aald 56) := snd_aald dX23_joined_55
theorem s_X23_joined_56 : Snd PG.nam M155 56 (m_aload 1 57) := snd_aload_n dX23_joined_56 rfl
theorem s_X23_joined_57 : Snd PG.nam M155 57 (m_getf [(19, 0)] 60) := snd_getf dX23_joined_57 fd_X23_11
theorem s_X23_joined_60 : Snd PG.nam M155 60 (m_iload 4 62) := snd_iload dX23_joined_60
theorem s_X23_joined_62 : Snd PG.nam M155 62 (m_aald 63) := snd_aald dX23_joined_62
theorem s_X23_joined_63 : Snd PG.nam M155 63 (m_callV false [(20, 159)] 1 66) := snd_callV (nam := PG.nam) (List.forall_mem_cons.mpr ⟨dr_V (ym := PG.nam 159) dX23_joined_63 (Or.inl w1270) mi_159 rfl w1241, (fun q hq => absurd hq List.not_mem_nil)⟩) (by decide)
theorem s_X23_joined_66 : Snd PG.nam M155 66 (m_callV true [(19, 154)] 1 69) := snd_callV (nam := PG.nam) (List.forall_mem_cons.mpr ⟨dr_V (ym := PG.nam 154) dX23_joined_66 (Or.inl w1271) mi_154 rfl w1203, (fun q hq => absurd hq List.not_mem_nil)⟩) (by decide)
theorem s_X23_joined_69 : Snd PG.nam M155 69 (m_iinc 4 (nI 1) 72) := snd_iinc dX23_joined_69 (by decide) (by decide)
theorem s_X23_joined_72 : Snd PG.nam M155 72 (m_goto 21) := snd_goto dX23_joined_72 (by decide)
theorem s_X23_joined_75 : Snd PG.nam M155 75 (m_iinc 3 (nI 1) 78) := snd_iinc dX23_joined_75 (by decide) (by decide)
theorem s_X23_joined_78 : Snd PG.nam M155 78 (m_goto 10) := snd_goto dX23_joined_78 (by decide)
theorem s_X23_joined_81 : Snd PG.nam M155 81 (m_aload 2 82) := snd_aload_n dX23_joined_81 rfl
theorem s_X23_joined_82 : Snd PG.nam M155 82 (m_aret) := snd_aret dX23_joined_82 rfl (Or.inl ⟨_, rfl⟩)
theorem T155 : ∀ q ∈ S155, Snd PG.nam M155 q.1 q.2 := List.forall_mem_cons.mpr ⟨s_X23_joined_0, List.forall_mem_cons.mpr ⟨s_X23_joined_3, List.forall_mem_cons.mpr ⟨s_X23_joined_4, List.forall_mem_cons.mpr ⟨s_X23_joined_7, List.forall_mem_cons.mpr ⟨s_X23_joined_8, List.forall_mem_cons.mpr ⟨s_X23_joined_9, List.forall_mem_cons.mpr ⟨s_X23_joined_10, List.forall_mem_cons.mpr ⟨s_X23_joined_11, List.forall_mem_cons.mpr ⟨s_X23_joined_12, List.forall_mem_cons.mpr ⟨s_X23_joined_15, List.forall_mem_cons.mpr ⟨s_X23_joined_18, List.forall_mem_cons.mpr ⟨s_X23_joined_19, List.forall_mem_cons.mpr ⟨s_X23_joined_21, List.forall_mem_cons.mpr ⟨s_X23_joined_23, List.forall_mem_cons.mpr ⟨s_X23_joined_24, List.forall_mem_cons.mpr ⟨s_X23_joined_27, List.forall_mem_cons.mpr ⟨s_X23_joined_30, List.forall_mem_cons.mpr ⟨s_X23_joined_31, List.forall_mem_cons.mpr ⟨s_X23_joined_34, List.forall_mem_cons.mpr ⟨s_X23_joined_35, List.forall_mem_cons.mpr ⟨s_X23_joined_36, List.forall_mem_cons.mpr ⟨s_X23_joined_37, List.forall_mem_cons.mpr ⟨s_X23_joined_40, List.forall_mem_cons.mpr ⟨s_X23_joined_42, List.forall_mem_cons.mpr ⟨s_X23_joined_43, List.forall_mem_cons.mpr ⟨s_X23_joined_46, List.forall_mem_cons.mpr ⟨s_X23_joined_49, List.forall_mem_cons.mpr ⟨s_X23_joined_50, List.forall_mem_cons.mpr ⟨s_X23_joined_51, List.forall_mem_cons.mpr ⟨s_X23_joined_54, List.forall_mem_cons.mpr ⟨s_X23_joined_55, List.forall_mem_cons.mpr ⟨s_X23_joined_56, List.forall_mem_cons.mpr ⟨s_X23_joined_57, List.forall_mem_cons.mpr ⟨s_X23_joined_60, List.forall_mem_cons.mpr ⟨s_X23_joined_62, List.forall_mem_cons.mpr ⟨s_X23_joined_63, List.forall_mem_cons.mpr ⟨s_X23_joined_66, List.forall_mem_cons.mpr ⟨s_X23_joined_69, List.forall_mem_cons.mpr ⟨s_X23_joined_72, List.forall_mem_cons.mpr ⟨s_X23_joined_75, List.forall_mem_cons.mpr ⟨s_X23_joined_78, List.forall_mem_cons.mpr ⟨s_X23_joined_81, List.forall_mem_cons.mpr ⟨s_X23_joined_82, (fun q hq => absurd hq List.not_mem_nil)⟩⟩⟩⟩⟩⟩⟩⟩⟩⟩⟩⟩⟩⟩⟩⟩⟩⟩⟩⟩⟩⟩⟩⟩⟩⟩⟩⟩⟩⟩⟩⟩⟩⟩⟩⟩⟩⟩⟩⟩⟩⟩⟩
theorem s_X24_init_0 : Snd PG.nam M156 0 (m_aload 0 1) := snd_aload_n dX24_init_0 rfl
theorem s_X24_init_1 : Snd PG.nam M156 1 (m_oi 4) := snd_oi dX24_init_1 w1191 w113 w114
theorem s_X24_init_4 : Snd PG.nam M156 4 (m_aload 0 5) := snd_aload_n dX24_init_4 rfl
theorem s_X24_init_5 : Snd PG.nam M156 5 (m_const (.int (nI 6)) 7) := snd_bipush dX24_init_5 (by decide)
theorem s_X24_init_7 : Snd PG.nam M156 7 (m_anew "TripleStore$Term" 10) := snd_anew dX24_init_7 w1192 w565
theorem s_X24_init_10 : Snd PG.nam M156 10 (m_putf [(20, 0)] (.array (.object "TripleStore$Term")) 13) := snd_putF dX24_init_10 fd_X24_9 rfl
theorem s_X24_init_13 : Snd PG.nam M156 13 (m_vret) := snd_vret dX24_init_13 rfl
theorem T156 : ∀ q ∈ S156, Snd PG.nam M156 q.1 q.2 := List.forall_mem_cons.mpr ⟨s_X24_init_0, List.forall_mem_cons.mpr ⟨s_X24_init_1, List.forall_mem_cons.mpr ⟨s_X24_init_4, List.forall_mem_cons.mpr ⟨s_X24_init_5, List.forall_mem_cons.mpr ⟨s_X24_init_7, List.forall_mem_cons.mpr ⟨s_X24_init_10, List.forall_mem_cons.mpr ⟨s_X24_init_13, (fun q hq => absurd hq List.not_mem_nil)⟩⟩⟩⟩⟩⟩⟩
theorem s_X24_compatible_0 : Snd PG.nam M157 0 (m_const (.int (nI 0)) 1) := snd_iconst dX24_compatible_0 (by decide)
theorem s_X24_compatible_1 : Snd PG.nam M157 1 (m_istore 2 2) := snd_istore_n dX24_compatible_1 rfl (by decide)
theorem s_X24_compatible_2 : Snd PG.nam M157 2 (m_iload 2 3) := snd_iload_n dX24_compatible_2 rfl
theorem s_X24_compatible_3 : Snd PG.nam M157 3 (m_const (.int (nI 6)) 5) := snd_bipush dX24_compatible_3 (by decide)
theorem s_X24_compatible_5 : Snd PG.nam M157 5 (m_icmp (fun x z => if x < z then 8 else 52)) := snd_icmp_ge dX24_compatible_5 (by decide)
theorem s_X24_compatible_8 : Snd PG.nam M157 8 (m_aload 0 9) := snd_aload_n dX24_compatible_8 rfl
theorem s_X24_compatible_9 : Snd PG.nam M157 9 (m_getf [(20, 0)] 12) := snd_getf dX24_compatible_9 fd_X24_9
theorem s_X24_compatible_12 : Snd PG.nam M157 12 (m_iload 2 13) := snd_iload_n dX24_compatible_12 rfl
theorem s_X24_compatible_13 : Snd PG.nam M157 13 (m_aald 14) := snd_aald dX24_compatible_13
theorem s_X24_compatible_14 : Snd PG.nam M157 14 (m_ifn 46 17) := snd_ifnull dX24_compatible_14 (by decide)
theorem s_X24_compatible_17 : Snd PG.nam M157 17 (m_aload 1 18) := snd_aload_n dX24_compatible_17 rfl
theorem s_X24_compatible_18 : Snd PG.nam M157 18 (m_getf [(20, 0)] 21) := snd_getf dX24_compatible_18 fd_X24_9
theorem s_X24_compatible_21 : Snd PG.nam M157 21 (m_iload 2 22) := snd_iload_n dX24_compatible_21 rfl
theorem s_X24_compatible_22 : Snd PG.nam M157 22 (m_aald 23) := snd_aald dX24_compatible_22
theorem s_X24_compatible_23 : Snd PG.nam M157 23 (m_ifn 46 26) := snd_ifnull dX24_compatible_23 (by decide)
theorem s_X24_compatible_26 : Snd PG.nam M157 26 (m_aload 0 27) := snd_aload_n dX24_compatible_26 rfl
theorem s_X24_compatible_27 : Snd PG.nam M157 27 (m_getf [(20, 0)] 30) := snd_getf dX24_compatible_27 fd_X24_9
theorem s_X24_compatible_30 : Snd PG.nam M157 30 (m_iload 2 31) := snd_iload_n dX24_compatible_30 rfl
theorem s_X24_compatible_31 : Snd PG.nam M157 31 (m_aald 32) := snd_aald dX24_compatible_31
theorem s_X24_compatible_32 : Snd PG.nam M157 32 (m_aload 1 33) := snd_aload_n dX24_compatible_32 rfl
theorem s_X24_compatible_33 : Snd PG.nam M157 33 (m_getf [(20, 0)] 36) := snd_getf dX24_compatible_33 fd_X24_9
theorem s_X24_compatible_36 : Snd PG.nam M157 36 (m_iload 2 37) := snd_iload_n dX24_compatible_36 rfl
theorem s_X24_compatible_37 : Snd PG.nam M157 37 (m_aald 38) := snd_aald dX24_compatible_37
theorem s_X24_compatible_38 : Snd PG.nam M157 38 (m_callV false [(3, 98), (4, 102)] 1 41) := snd_callV (nam := PG.nam) (List.forall_mem_cons.mpr ⟨dr_U (ym := PG.nam 98) dX24_compatible_38 w1226 w582 (Or.inl w581) (by decide) (by decide +kernel) w584 rfl w583, (List.forall_mem_cons.mpr ⟨dr_U (ym := PG.nam 102) dX24_compatible_38 w1226 w582 (Or.inl w581) (by decide) (by decide +kernel) w588 rfl w587, (fun q hq => absurd hq List.not_mem_nil)⟩)⟩) (by decide)
theorem s_X24_compatible_41 : Snd PG.nam M157 41 (m_ifz (fun x => if x = 0 then 44 else 46)) := snd_if_ne dX24_compatible_41 (by decide)
theorem s_X24_compatible_44 : Snd PG.nam M157 44 (m_const (.int (nI 0)) 45) := snd_iconst dX24_compatible_44 (by decide)
theorem s_X24_compatible_45 : Snd PG.nam M157 45 (m_iret .boolean) := snd_iret dX24_compatible_45 rfl
theorem s_X24_compatible_46 : Snd PG.nam M157 46 (m_iinc 2 (nI 1) 49) := snd_iinc dX24_compatible_46 (by decide) (by decide)
theorem s_X24_compatible_49 : Snd PG.nam M157 49 (m_goto 2) := snd_goto dX24_compatible_49 (by decide)
theorem s_X24_compatible_52 : Snd PG.nam M157 52 (m_const (.int (nI 1)) 53) := snd_iconst dX24_compatible_52 (by decide)
theorem s_X24_compatible_53 : Snd PG.nam M157 53 (m_iret .boolean) := snd_iret dX24_compatible_53 rfl
theorem T157 : ∀ q ∈ S157, Snd PG.nam M157 q.1 q.2 := List.forall_mem_cons.mpr ⟨s_X24_compatible_0, List.forall_mem_cons.mpr ⟨s_X24_compatible_1, List.forall_mem_cons.mpr ⟨s_X24_compatible_2, List.forall_mem_cons.mpr ⟨s_X24_compatible_3, List.forall_mem_cons.mpr ⟨s_X24_compatible_5, List.forall_mem_cons.mpr ⟨s_X24_compatible_8, List.forall_mem_cons.mpr ⟨s_X24_compatible_9, List.forall_mem_cons.mpr ⟨s_X24_compatible_12, List.forall_mem_cons.mpr ⟨s_X24_compatible_13, List.forall_mem_cons.mpr ⟨s_X24_compatible_14, List.forall_mem_cons.mpr ⟨s_X24_compatible_17, List.forall_mem_cons.mpr ⟨s_X24_compatible_18, List.forall_mem_cons.mpr ⟨s_X24_compatible_21, List.forall_mem_cons.mpr ⟨s_X24_compatible_22, List.forall_mem_cons.mpr ⟨s_X24_compatible_23, List.forall_mem_cons.mpr ⟨s_X24_compatible_26, List.forall_mem_cons.mpr ⟨s_X24_compatible_27, List.forall_mem_cons.mpr ⟨s_X24_compatible_30, List.forall_mem_cons.mpr ⟨s_X24_compatible_31, List.forall_mem_cons.mpr ⟨s_X24_compatible_32, List.forall_mem_cons.mpr ⟨s_X24_compatible_33, List.forall_mem_cons.mpr ⟨s_X24_compatible_36, List.forall_mem_cons.mpr ⟨s_X24_compatible_37, List.forall_mem_cons.mpr ⟨s_X24_compatible_38, List.forall_mem_cons.mpr ⟨s_X24_compatible_41, List.forall_mem_cons.mpr ⟨s_X24_compatible_44, List.forall_mem_cons.mpr ⟨s_X24_compatible_45, List.forall_mem_cons.mpr ⟨s_X24_compatible_46, List.forall_mem_cons.mpr ⟨s_X24_compatible_49, List.forall_mem_cons.mpr ⟨s_X24_compatible_52, List.forall_mem_cons.mpr ⟨s_X24_compatible_53, (fun q hq => absurd hq List.not_mem_nil)⟩⟩⟩⟩⟩⟩⟩⟩⟩⟩⟩⟩⟩⟩⟩⟩⟩⟩⟩⟩⟩⟩⟩⟩⟩⟩⟩⟩⟩⟩⟩
theorem s_X24_shares_0 : Snd PG.nam M158 0 (m_const (.int (nI 0)) 1) := snd_iconst dX24_shares_0 (by decide)
theorem s_X24_shares_1 : Snd PG.nam M158 1 (m_istore 2 2) := snd_istore_n dX24_shares_1 rfl (by decide)
theorem s_X24_shares_2 : Snd PG.nam M158 2 (m_iload 2 3) := snd_iload_n dX24_shares_2 rfl
theorem s_X24_shares_3 : Snd PG.nam M158 3 (m_const (.int (nI 6)) 5) := snd_bipush dX24_shares_3 (by decide)
theorem s_X24_shares_5 : Snd PG.nam M158 5 (m_icmp (fun x z => if x < z then 8 else 34)) := snd_icmp_ge dX24_shares_5 (by decide)
theorem s_X24_shares_8 : Snd PG.nam M158 8 (m_aload 0 9) := snd_aload_n dX24_shares_8 rfl
theorem s_X24_shares_9 : Snd PG.nam M158 9 (m_getf [(20, 0)] 12) := snd_getf dX24_shares_9 fd_X24_9
theorem s_X24_shares_12 : Snd PG.nam M158 12 (m_iload 2 13) := snd_iload_n dX24_shares_12 rfl
theorem s_X24_shares_13 : Snd PG.nam M158 13 (m_aald 14) := snd_aald dX24_shares_13
theorem s_X24_shares_14 : Snd PG.nam M158 14 (m_ifn 28 17) := snd_ifnull dX24_shares_14 (by decide)
theorem s_X24_shares_17 : Snd PG.nam M158 17 (m_aload 1 18) := snd_aload_n dX24_shares_17 rfl
theorem s_X24_shares_18 : Snd PG.nam M158 18 (m_getf [(20, 0)] 21) := snd_getf dX24_shares_18 fd_X24_9
theorem s_X24_shares_21 : Snd PG.nam M158 21 (m_iload 2 22) := snd_iload_n dX24_shares_21 rfl
theorem s_X24_shares_22 : Snd PG.nam M158 22 (m_aald 23) := snd_aald dX24_shares_22
theorem s_X24_shares_23 : Snd PG.nam M158 23 (m_ifn 28 26) := snd_ifnull dX24_shares_23 (by decide)
theorem s_X24_shares_26 : Snd PG.nam M158 26 (m_const (.int (nI 1)) 27) := snd_iconst dX24_shares_26 (by decide)
theorem s_X24_shares_27 : Snd PG.nam M158 27 (m_iret .boolean) := snd_iret dX24_shares_27 rfl
theorem s_X24_shares_28 : Snd PG.nam M158 28 (m_iinc 2 (nI 1) 31) := snd_iinc dX24_shares_28 (by decide) (by decide)
theorem s_X24_shares_31 : Snd PG.nam M158 31 (m_goto 2) := snd_goto dX24_shares_31 (by decide)
theorem s_X24_shares_34 : Snd PG.nam M158 34 (m_const (.int (nI 0)) 35) := snd_iconst dX24_shares_34 (by decide)
theorem s_X24_shares_35 : Snd PG.nam M158 35 (m_iret .boolean) := snd_iret dX24_shares_35 rfl
theorem T158 : ∀ q ∈ S158, Snd PG.nam M158 q.1 q.2 := List.forall_mem_cons.mpr ⟨s_X24_shares_0, List.forall_mem_cons.mpr ⟨s_X24_shares_1, List.forall_mem_cons.mpr ⟨s_X24_shares_2, List.forall_mem_cons.mpr ⟨s_X24_shares_3, List.forall_mem_cons.mpr ⟨s_X24_shares_5, List.forall_mem_cons.mpr ⟨s_X24_shares_8, List.forall_mem_cons.mpr ⟨s_X24_shares_9, List.forall_mem_cons.mpr ⟨s_X24_shares_12, List.forall_mem_cons.mpr ⟨s_X24_shares_13, List.forall_mem_cons.mpr ⟨s_X24_shares_14, List.forall_mem_cons.mpr ⟨s_X24_shares_17, List.forall_mem_cons.mpr ⟨s_X24_shares_18, List.forall_mem_cons.mpr ⟨s_X24_shares_21, List.forall_mem_cons.mpr ⟨s_X24_shares_22, List.forall_mem_cons.mpr ⟨s_X24_shares_23, List.forall_mem_cons.mpr ⟨s_X24_shares_26, List.forall_mem_cons.mpr ⟨s_X24_shares_27, List.forall_mem_cons.mpr ⟨s_X24_shares_28, List.forall_mem_cons.mpr ⟨s_X24_shares_31, List.forall_mem_cons.mpr ⟨s_X24_shares_34, List.forall_mem_cons.mpr ⟨s_X24_shares_35, (fun q hq => absurd hq List.not_mem_nil)⟩⟩⟩⟩⟩⟩⟩⟩⟩⟩⟩⟩⟩⟩⟩⟩⟩⟩⟩⟩⟩
theorem s_X24_join_0 : Snd PG.nam M159 0 (m_new 20 [.null] 3) := snd_new dX24_join_0 rfl w1243 w1187 w103 rfl (by decide +kernel)
theorem s_X24_join_3 : Snd PG.nam M159 3 (m_dup 4) := snd_dup dX24_join_3
theorem s_X24_join_4 : Snd PG.nam M159 4 (m_callI 156 0 7) := snd_callI (nam := PG.nam) (yy := 156) dX24_join_4 (Or.inl w1244) mi_156 rfl w1190 (by decide)
theorem s_X24_join_7 : Snd PG.nam M159 7 (m_astore 2 8) := snd_astore_n dX24_join_7 rfl (by decide)
theorem s_X24_join_8 : Snd PG.nam M159 8 (m_const (.int (nI 0)) 9) := snd_iconst dX24_join_8 (by decide)
theorem s_X24_join_9 : Snd PG.nam M159 9 (m_istore 3 10) := snd_istore_n dX24_join_9 rfl (by decide)
theorem s_X24_join_10 : Snd PG.nam M159 10 (m_iload 3 11) := snd_iload_n dX24_join_10 rfl
theorem s_X24_join_11 : Snd PG.nam M159 11 (m_const (.int (nI 6)) 13) := snd_bipush dX24_join_11 (by decide)
theorem s_X24_join_13 : Snd PG.nam M159 13 (m_icmp (fun x z => if x < z then 16 else 52)) := snd_icmp_ge dX24_join_13 (by decide)
theorem s_X24_join_16 : Snd PG.nam M159 16 (m_aload 2 17) := snd_aload_n dX24_join_16 rfl
theorem s_X24_join_17 : Snd PG.nam M159 17 (m_getf [(20, 0)] 20) := snd_getf dX24_join_17 fd_X24_9
theorem s_X24_join_20 : Snd PG.nam M159 20 (m_iload 3 21) := snd_iload_n dX24_join_20 rfl
theorem s_X24_join_21 : Snd PG.nam M159 21 (m_aload 0 22) := snd_aload_n dX24_join_21 rfl
theorem s_X24_join_22 : Snd PG.nam M159 22 (m_getf [(20, 0)] 25) := snd_getf dX24_join_22 fd_X24_9
theorem s_X24_join_25 : Snd PG.nam M159 25 (m_iload 3 26) := snd_iload_n dX24_join_25 rfl
theorem s_X24_join_26 : Snd PG.nam M159 26 (m_aald 27) := snd_aald dX24_join_26
theorem s_X24_join_27 : Snd PG.nam M159 27 (m_ifn 39 30) := snd_ifnull dX24_join_27 (by decide)
theorem s_X24_join_30 : Snd PG.nam M159 30 (m_aload 0 31) := snd_aload_n dX24_join_30 rfl
theorem s_X24_join_31 : Snd PG.nam M159 31 (m_getf [(20, 0)] 34) := snd_getf dX24_join_31 fd_X24_9
theorem s_X24_join_34 : Snd PG.nam M159 34 (m_iload 3 35) := snd_iload_n dX24_join_34 rfl
theorem s_X24_join_35 : Snd PG.nam M159 35 (m_aald 36) := snd_aald dX24_join_35
theorem s_X24_join_36 : Snd PG.nam M159 36 (m_goto 45) := snd_goto dX24_join_36 (by decide)
theorem s_X24_join_39 : Snd PG.nam M159 39 (m_aload 1 40) := snd_aload_n dX24_join_39 rfl
theorem s_X24_join_40 : Snd PG.nam M159 40 (m_getf [(20, 0)] 43) := snd_getf dX24_join_40 fd_X24_9
theorem s_X24_join_43 : Snd PG.nam M159 43 (m_iload 3 44) := snd_iload_n dX24_join_43 rfl
theorem s_X24_join_44 : Snd PG.nam M159 44 (m_aald 45) := snd_aald dX24_join_44
theorem s_X24_join_45 : Snd PG.nam M159 45 (m_aast "TripleStore$Term" [3, 4] 46) := snd_aast dX24_join_45 (List.forall_mem_cons.mpr ⟨⟨_, rfl, Or.inl w1870⟩, (List.forall_mem_cons.mpr ⟨⟨_, rfl, Or.inl w1871⟩, (fun ci hci => absurd hci List.not_mem_nil)⟩)⟩)
theorem s_X24_join_46 : Snd PG.nam M159 46 (m_iinc 3 (nI 1) 49) := snd_iinc dX24_join_46 (by decide) (by decide)
theorem s_X24_join_49 : Snd PG.nam M159 49 (m_goto 10) := snd_goto dX24_join_49 (by decide)
theorem s_X24_join_52 : Snd PG.nam M159 52 (m_aload 2 53) := snd_aload_n dX24_join_52 rfl
theorem s_X24_join_53 : Snd PG.nam M159 53 (m_aret) := snd_aret dX24_join_53 rfl (Or.inl ⟨_, rfl⟩)
theorem T159 : ∀ q ∈ S159, Snd PG.nam M159 q.1 q.2 := List.forall_mem_cons.mpr ⟨s_X24_join_0, List.forall_mem_cons.mpr ⟨s_X24_join_3, List.forall_mem_cons.mpr ⟨s_X24_join_4, List.forall_mem_cons.mpr ⟨s_X24_join_7, List.forall_mem_cons.mpr ⟨s_X24_join_8, List.forall_mem_cons.mpr ⟨s_X24_join_9, List.forall_mem_cons.mpr ⟨s_X24_join_10, List.forall_mem_cons.mpr ⟨s_X24_join_11, List.forall_mem_cons.mpr ⟨s_X24_join_13, List.forall_mem_cons.mpr ⟨s_X24_join_16, List.forall_mem_cons.mpr ⟨s_X24_join_17, List.forall_mem_cons.mpr ⟨s_X24_join_20, List.forall_mem_cons.mpr ⟨s_X24_join_21, List.forall_mem_cons.mpr ⟨s_X24_join_22, List.forall_mem_cons.mpr ⟨s_X24_join_25, List.forall_mem_cons.mpr ⟨s_X24_join_26, List.forall_mem_cons.mpr ⟨s_X24_join_27, List.forall_mem_cons.mpr ⟨s_X24_join_30, List.forall_mem_cons.mpr ⟨s_X24_join_31, List.forall_mem_cons.mpr ⟨s_X24_join_34, List.forall_mem_cons.mpr ⟨s_X24_join_35, List.forall_mem_cons.mpr ⟨s_X24_join_36, List.forall_mem_cons.mpr ⟨s_X24_join_39, List.forall_mem_cons.mpr ⟨s_X24_join_40, List.forall_mem_cons.mpr ⟨s_X24_join_43, List.forall_mem_cons.mpr ⟨s_X24_join_44, List.forall_mem_cons.mpr ⟨s_X24_join_45, List.forall_mem_cons.mpr ⟨s_X24_join_46, List.forall_mem_cons.mpr ⟨s_X24_join_49, List.forall_mem_cons.mpr ⟨s_X24_join_52, List.forall_mem_cons.mpr ⟨s_X24_join_53, (fun q hq => absurd hq List.not_mem_nil)⟩⟩⟩⟩⟩⟩⟩⟩⟩⟩⟩⟩⟩⟩⟩⟩⟩⟩⟩⟩⟩⟩⟩⟩⟩⟩⟩⟩⟩⟩⟩
theorem s_X25_init_0 : Snd PG.nam M160 0 (m_aload 0 1) := snd_aload_n dX25_init_0 rfl
theorem s_X25_init_1 : Snd PG.nam M160 1 (m_oi 4) := snd_oi dX25_init_1 w1318 w113 w114
theorem s_X25_init_4 : Snd PG.nam M160 4 (m_aload 0 5) := snd_aload_n dX25_init_4 rfl
theorem s_X25_init_5 : Snd PG.nam M160 5 (m_aload 1 6) := snd_aload_n dX25_init_5 rfl
theorem s_X25_init_6 : Snd PG.nam M160 6 (m_getf [(8, 4)] 9) := snd_getf dX25_init_6 fd_X25_7
theorem s_X25_init_9 : Snd PG.nam M160 9 (m_ifz (fun x => if x < 0 then 12 else 16)) := snd_if_ge dX25_init_9 (by decide)
theorem s_X25_init_12 : Snd PG.nam M160 12 (m_const .null 13) := snd_null dX25_init_12
theorem s_X25_init_13 : Snd PG.nam M160 13 (m_goto 25) := snd_goto dX25_init_13 (by decide)
theorem s_X25_init_16 : Snd PG.nam M160 16 (m_aload 2 17) := snd_aload_n dX25_init_16 rfl
theorem s_X25_init_17 : Snd PG.nam M160 17 (m_getf [(20, 0)] 20) := snd_getf dX25_init_17 fd_X25_13
theorem s_X25_init_20 : Snd PG.nam M160 20 (m_aload 1 21) := snd_aload_n dX25_init_20 rfl
theorem s_X25_init_21 : Snd PG.nam M160 21 (m_getf [(8, 4)] 24) := snd_getf dX25_init_21 fd_X25_7
theorem s_X25_init_24 : Snd PG.nam M160 24 (m_aald 25) := snd_aald dX25_init_24
theorem s_X25_init_25 : Snd PG.nam M160 25 (m_putf [(21, 0)] (.object "TripleStore$Term") 28) := snd_putF dX25_init_25 fd_X25_19 rfl
theorem s_X25_init_28 : Snd PG.nam M160 28 (m_aload 0 29) := snd_aload_n dX25_init_28 rfl
theorem s_X25_init_29 : Snd PG.nam M160 29 (m_aload 1 30) := snd_aload_n dX25_init_29 rfl
theorem s_X25_init_30 : Snd PG.nam M160 30 (m_getf [(8, 2)] 33) := snd_getf dX25_init_30 fd_X25_24
theorem s_X25_init_33 : Snd PG.nam M160 33 (m_anew "TripleStore$Term" 36) := snd_anew dX25_init_33 w1319 w565
theorem s_X25_init_36 : Snd PG.nam M160 36 (m_putf [(21, 1)] (.array (.object "TripleStore$Term")) 39) := snd_putF dX25_init_36 fd_X25_29 rfl
theorem s_X25_init_39 : Snd PG.nam M160 39 (m_const (.int (nI 0)) 40) := snd_iconst dX25_init_39 (by decide)
theorem s_X25_init_40 : Snd PG.nam M160 40 (m_istore 3 41) := snd_istore_n dX25_init_40 rfl (by decide)
theorem s_X25_init_41 : Snd PG.nam M160 41 (m_iload 3 42) := snd_iload_n dX25_init_41 rfl
theorem s_X25_init_42 : Snd PG.nam M160 42 (m_aload 0 43) := snd_aload_n dX25_init_42 rfl
theorem s_X25_init_43 : Snd PG.nam M160 43 (m_getf [(21, 1)] 46) := snd_getf dX25_init_43 fd_X25_29
theorem s_X25_init_46 : Snd PG.nam M160 46 (m_alen 47) := snd_alen dX25_init_46
theorem s_X25_init_47 : Snd PG.nam M160 47 (m_icmp (fun x z => if x < z then 50 else 73)) := snd_icmp_ge dX25_init_47 (by decide)
theorem s_X25_init_50 : Snd PG.nam M160 50 (m_aload 0 51) := snd_aload_n dX25_init_50 rfl
theorem s_X25_init_51 : Snd PG.nam M160 51 (m_getf [(21, 1)] 54) := snd_getf dX25_init_51 fd_X25_29
theorem s_X25_init_54 : Snd PG.nam M160 54 (m_iload 3 55) := snd_iload_n dX25_init_54 rfl
theorem s_X25_init_55 : Snd PG.nam M160 55 (m_aload 2 56) := snd_aload_n dX25_init_55 rfl
theorem s_X25_init_56 : Snd PG.nam M160 56 (m_getf [(20, 0)] 59) := snd_getf dX25_init_56 fd_X25_13
theorem s_X25_init_59 : Snd PG.nam M160 59 (m_aload 1 60) := snd_aload_n dX25_init_59 rfl
theorem s_X25_init_60 : Snd PG.nam M160 60 (m_getf [(8, 1)] 63) := snd_getf dX25_init_60 fd_X25_32
theorem s_X25_init_63 : Snd PG.nam M160 63 (m_iload 3 64) := snd_iload_n dX25_init_63 rfl
theorem s_X25_init_64 : Snd PG.nam M160 64 (m_iald [.int] 65) := snd_iald dX25_init_64
theorem s_X25_init_65 : Snd PG.nam M160 65 (m_aald 66) := snd_aald dX25_init_65
theorem s_X25_init_66 : Snd PG.nam M160 66 (m_aast "TripleStore$Term" [3, 4] 67) := snd_aast dX25_init_66 (List.forall_mem_cons.mpr ⟨⟨_, rfl, Or.inl w1870⟩, (List.forall_mem_cons.mpr ⟨⟨_, rfl, Or.inl w1871⟩, (fun ci hci => absurd hci List.not_mem_nil)⟩)⟩)
theorem s_X25_init_67 : Snd PG.nam M160 67 (m_iinc 3 (nI 1) 70) := snd_iinc dX25_init_67 (by decide) (by decide)
theorem s_X25_init_70 : Snd PG.nam M160 70 (m_goto 41) := snd_goto dX25_init_70 (by decide)
theorem s_X25_init_73 : Snd PG.nam M160 73 (m_vret) := snd_vret dX25_init_73 rfl
theorem T160 : ∀ q ∈ S160, Snd PG.nam M160 q.1 q.2 := List.forall_mem_cons.mpr ⟨s_X25_init_0, List.forall_mem_cons.mpr ⟨s_X25_init_1, List.forall_mem_cons.mpr ⟨s_X25_init_4, List.forall_mem_cons.mpr ⟨s_X25_init_5, List.forall_mem_cons.mpr ⟨s_X25_init_6, List.forall_mem_cons.mpr ⟨s_X25_init_9, List.forall_mem_cons.mpr ⟨s_X25_init_12, List.forall_mem_cons.mpr ⟨s_X25_init_13, List.forall_mem_cons.mpr ⟨s_X25_init_16, List.forall_mem_cons.mpr ⟨s_X25_init_17, List.forall_mem_cons.mpr ⟨s_X25_init_20, List.forall_mem_cons.mpr ⟨s_X25_init_21, List.forall_mem_cons.mpr ⟨s_X25_init_24, List.forall_mem_cons.mpr ⟨s_X25_init_25, List.forall_mem_cons.mpr ⟨s_X25_init_28, List.forall_mem_cons.mpr ⟨s_X25_init_29, List.forall_mem_cons.mpr ⟨s_X25_init_30, List.forall_mem_cons.mpr ⟨s_X25_init_33, List.forall_mem_cons.mpr ⟨s_X25_init_36, List.forall_mem_cons.mpr ⟨s_X25_init_39, List.forall_mem_cons.mpr ⟨s_X25_init_40, List.forall_mem_cons.mpr ⟨s_X25_init_41, List.forall_mem_cons.mpr ⟨s_X25_init_42, List.forall_mem_cons.mpr ⟨s_X25_init_43, List.forall_mem_cons.mpr ⟨s_X25_init_46, List.forall_mem_cons.mpr ⟨s_X25_init_47, List.forall_mem_cons.mpr ⟨s_X25_init_50, List.forall_mem_cons.mpr ⟨s_X25_init_51, List.forall_mem_cons.mpr ⟨s_X25_init_54, List.forall_mem_cons.mpr ⟨s_X25_init_55, List.forall_mem_cons.mpr ⟨s_X25_init_56, List.forall_mem_cons.mpr ⟨s_X25_init_59, List.forall_mem_cons.mpr ⟨s_X25_init_60, List.forall_mem_cons.mpr ⟨s_X25_init_63, List.forall_mem_cons.mpr ⟨s_X25_init_64, List.forall_mem_cons.mpr ⟨s_X25_init_65, List.forall_mem_cons.mpr ⟨s_X25_init_66, List.forall_mem_cons.mpr ⟨s_X25_init_67, List.forall_mem_cons.mpr ⟨s_X25_init_70, List.forall_mem_cons.mpr ⟨s_X25_init_73, (fun q hq => absurd hq List.not_mem_nil)⟩⟩⟩⟩⟩⟩⟩⟩⟩⟩⟩⟩⟩⟩⟩⟩⟩⟩⟩⟩⟩⟩⟩⟩⟩⟩⟩⟩⟩⟩⟩⟩⟩⟩⟩⟩⟩⟩⟩⟩
theorem s_X25_cellsTo_0 : Snd PG.nam M161 0 (m_const (.int (nI 0)) 1) := snd_iconst dX25_cellsTo_0 (by decide)
theorem s_X25_cellsTo_1 : Snd PG.nam M161 1 (m_istore 2 2) := snd_istore_n dX25_cellsTo_1 rfl (by decide)
theorem s_X25_cellsTo_2 : Snd PG.nam M161 2 (m_iload 2 3) := snd_iload_n dX25_cellsTo_2 rfl
theorem s_X25_cellsTo_3 : Snd PG.nam M161 3 (m_aload 0 4) := snd_aload_n dX25_cellsTo_3 rfl
theorem s_X25_cellsTo_4 : Snd PG.nam M161 4 (m_getf [(21, 1)] 7) := snd_getf dX25_cellsTo_4 fd_X25_29
theorem s_X25_cellsTo_7 : Snd PG.nam M161 7 (m_alen 8) := snd_alen dX25_cellsTo_7
theorem s_X25_cellsTo_8 : Snd PG.nam M161 8 (m_icmp (fun x z => if x < z then 11 else 39)) := snd_icmp_ge dX25_cellsTo_8 (by decide)
theorem s_X25_cellsTo_11 : Snd PG.nam M161 11 (m_aload 0 12) := snd_aload_n dX25_cellsTo_11 rfl
theorem s_X25_cellsTo_12 : Snd PG.nam M161 12 (m_getf [(21, 1)] 15) := snd_getf dX25_cellsTo_12 fd_X25_29
theorem s_X25_cellsTo_15 : Snd PG.nam M161 15 (m_iload 2 16) := snd_iload_n dX25_cellsTo_15 rfl
theorem s_X25_cellsTo_16 : Snd PG.nam M161 16 (m_aald 17) := snd_aald dX25_cellsTo_16
theorem s_X25_cellsTo_17 : Snd PG.nam M161 17 (m_aload 1 18) := snd_aload_n dX25_cellsTo_17 rfl
theorem s_X25_cellsTo_18 : Snd PG.nam M161 18 (m_getf [(21, 1)] 21) := snd_getf dX25_cellsTo_18 fd_X25_29
theorem s_X25_cellsTo_21 : Snd PG.nam M161 21 (m_iload 2 22) := snd_iload_n dX25_cellsTo_21 rfl
theorem s_X25_cellsTo_22 : Snd PG.nam M161 22 (m_aald 23) := snd_aald dX25_cellsTo_22
theorem s_X25_cellsTo_23 : Snd PG.nam M161 23 (m_callS false 162 2 26) := snd_callS (nam := PG.nam) (yy := 162) dX25_cellsTo_23 (Or.inl w1336) w1337 ⟨by decide, by decide +kernel⟩ (by decide)
theorem s_X25_cellsTo_26 : Snd PG.nam M161 26 (m_istore 3 27) := snd_istore_n dX25_cellsTo_26 rfl (by decide)
theorem s_X25_cellsTo_27 : Snd PG.nam M161 27 (m_iload 3 28) := snd_iload_n dX25_cellsTo_27 rfl
theorem s_X25_cellsTo_28 : Snd PG.nam M161 28 (m_ifz (fun x => if x = 0 then 33 else 31)) := snd_if_eq dX25_cellsTo_28 (by decide)
theorem s_X25_cellsTo_31 : Snd PG.nam M161 31 (m_iload 3 32) := snd_iload_n dX25_cellsTo_31 rfl
theorem s_X25_cellsTo_32 : Snd PG.nam M161 32 (m_iret .int) := snd_iret dX25_cellsTo_32 rfl
theorem s_X25_cellsTo_33 : Snd PG.nam M161 33 (m_iinc 2 (nI 1) 36) := snd_iinc dX25_cellsTo_33 (by decide) (by decide)
theorem s_X25_cellsTo_36 : Snd PG.nam M161 36 (m_goto 2) := snd_goto dX25_cellsTo_36 (by decide)
theorem s_X25_cellsTo_39 : Snd PG.nam M161 39 (m_const (.int (nI 0)) 40) := snd_iconst dX25_cellsTo_39 (by decide)
theorem s_X25_cellsTo_40 : Snd PG.nam M161 40 (m_iret .int) := snd_iret dX25_cellsTo_40 rfl
theorem T161 : ∀ q ∈ S161, Snd PG.nam M161 q.1 q.2 := List.forall_mem_cons.mpr ⟨s_X25_cellsTo_0, List.forall_mem_cons.mpr ⟨s_X25_cellsTo_1, List.forall_mem_cons.mpr ⟨s_X25_cellsTo_2, List.forall_mem_cons.mpr ⟨s_X25_cellsTo_3, List.forall_mem_cons.mpr ⟨s_X25_cellsTo_4, List.forall_mem_cons.mpr ⟨s_X25_cellsTo_7, List.forall_mem_cons.mpr ⟨s_X25_cellsTo_8, List.forall_mem_cons.mpr ⟨s_X25_cellsTo_11, List.forall_mem_cons.mpr ⟨s_X25_cellsTo_12, List.forall_mem_cons.mpr ⟨s_X25_cellsTo_15, List.forall_mem_cons.mpr ⟨s_X25_cellsTo_16, List.forall_mem_cons.mpr ⟨s_X25_cellsTo_17, List.forall_mem_cons.mpr ⟨s_X25_cellsTo_18, List.forall_mem_cons.mpr ⟨s_X25_cellsTo_21, List.forall_mem_cons.mpr ⟨s_X25_cellsTo_22, List.forall_mem_cons.mpr ⟨s_X25_cellsTo_23, List.forall_mem_cons.mpr ⟨s_X25_cellsTo_26, List.forall_mem_cons.mpr ⟨s_X25_cellsTo_27, List.forall_mem_cons.mpr ⟨s_X25_cellsTo_28, List.forall_mem_cons.mpr ⟨s_X25_cellsTo_31, List.forall_mem_cons.mpr ⟨s_X25_cellsTo_32, List.forall_mem_cons.mpr ⟨s_X25_cellsTo_33, List.forall_mem_cons.mpr ⟨s_X25_cellsTo_36, List.forall_mem_cons.mpr ⟨s_X25_cellsTo_39, List.forall_mem_cons.mpr ⟨s_X25_cellsTo_40, (fun q hq => absurd hq List.not_mem_nil)⟩⟩⟩⟩⟩⟩⟩⟩⟩⟩⟩⟩⟩⟩⟩⟩⟩⟩⟩⟩⟩⟩⟩⟩⟩
theorem s_X25_compare_0 : Snd PG.nam M162 0 (m_aload 0 1) := snd_aload_n dX25_compare_0 rfl
theorem s_X25_compare_1 : Snd PG.nam M162 1 (m_ifn 8 4) := snd_ifnull dX25_compare_1 (by decide)
theorem s_X25_compare_4 : Snd PG.nam M162 4 (m_aload 1 5) := snd_aload_n dX25_compare_4 rfl
theorem s_X25_compare_5 : Snd PG.nam M162 5 (m_ifn 8 27) := snd_ifnonnull dX25_compare_5 (by decide)
theorem s_X25_compare_8 : Snd PG.nam M162 8 (m_aload 0 9) := snd_aload_n dX25_compare_8 rfl
theorem s_X25_compare_9 : Snd PG.nam M162 9 (m_aload 1 10) := snd_aload_n dX25_compare_9 rfl
theorem s_X25_compare_10 : Snd PG.nam M162 10 (m_acmp 13 17) := snd_acmp_ne dX25_compare_10 (by decide)
theorem s_X25_compare_13 : Snd PG.nam M162 13 (m_const (.int (nI 0)) 14) := snd_iconst dX25_compare_13 (by decide)
theorem s_X25_compare_14 : Snd PG.nam M162 14 (m_goto 26) := snd_goto dX25_compare_14 (by decide)
theorem s_X25_compare_17 : Snd PG.nam M162 17 (m_aload 0 18) := snd_aload_n dX25_compare_17 rfl
theorem s_X25_compare_18 : Snd PG.nam M162 18 (m_ifn 21 25) := snd_ifnonnull dX25_compare_18 (by decide)
theorem s_X25_compare_21 : Snd PG.nam M162 21 (m_const (.int (-1)) 22) := snd_iconst dX25_compare_21 (by decide)
theorem s_X25_compare_22 : Snd PG.nam M162 22 (m_goto 26) := snd_goto dX25_compare_22 (by decide)
theorem s_X25_compare_25 : Snd PG.nam M162 25 (m_const (.int (nI 1)) 26) := snd_iconst dX25_compare_25 (by decide)
theorem s_X25_compare_26 : Snd PG.nam M162 26 (m_iret .int) := snd_iret dX25_compare_26 rfl
theorem s_X25_compare_27 : Snd PG.nam M162 27 (m_aload 0 28) := snd_aload_n dX25_compare_27 rfl
theorem s_X25_compare_28 : Snd PG.nam M162 28 (m_aload 1 29) := snd_aload_n dX25_compare_28 rfl
theorem s_X25_compare_29 : Snd PG.nam M162 29 (m_callV false [(3, 99), (4, 103)] 1 32) := snd_callV (nam := PG.nam) (List.forall_mem_cons.mpr ⟨dr_U (ym := PG.nam 99) dX25_compare_29 w1339 w1300 (Or.inl w1299) (by decide) (by decide +kernel) w1302 rfl w1301, (List.forall_mem_cons.mpr ⟨dr_U (ym := PG.nam 103) dX25_compare_29 w1339 w1300 (Or.inl w1299) (by decide) (by decide +kernel) w1305 rfl w1304, (fun q hq => absurd hq List.not_mem_nil)⟩)⟩) (by decide)
theorem s_X25_compare_32 : Snd PG.nam M162 32 (m_ifz (fun x => if x = 0 then 37 else 35)) := snd_if_eq dX25_compare_32 (by decide)
theorem s_X25_compare_35 : Snd PG.nam M162 35 (m_const (.int (-1)) 36) := snd_iconst dX25_compare_35 (by decide)
theorem s_X25_compare_36 : Snd PG.nam M162 36 (m_iret .int) := snd_iret dX25_compare_36 rfl
theorem s_X25_compare_37 : Snd PG.nam M162 37 (m_aload 0 38) := snd_aload_n dX25_compare_37 rfl
theorem s_X25_compare_38 : Snd PG.nam M162 38 (m_aload 1 39) := snd_aload_n dX25_compare_38 rfl
theorem s_X25_compare_39 : Snd PG.nam M162 39 (m_callV false [(3, 98), (4, 102)] 1 42) := snd_callV (nam := PG.nam) (List.forall_mem_cons.mpr ⟨dr_U (ym := PG.nam 98) dX25_compare_39 w1340 w582 (Or.inl w581) (by decide) (by decide +kernel) w584 rfl w583, (List.forall_mem_cons.mpr ⟨dr_U (ym := PG.nam 102) dX25_compare_39 w1340 w582 (Or.inl w581) (by decide) (by decide +kernel) w588 rfl w587, (fun q hq => absurd hq List.not_mem_nil)⟩)⟩) (by decide)
theorem s_X25_compare_42 : Snd PG.nam M162 42 (m_ifz (fun x => if x = 0 then 49 else 45)) := snd_if_eq dX25_compare_42 (by decide)
theorem s_X25_compare_45 : Snd PG.nam M162 45 (m_const (.int (nI 0)) 46) := snd_iconst dX25_compare_45 (by decide)
theorem s_X25_compare_46 : Snd PG.nam M162 46 (m_goto 50) := snd_goto dX25_compare_46 (by decide)
theorem s_X25_compare_49 : Snd PG.nam M162 49 (m_const (.int (nI 1)) 50) := snd_iconst dX25_compare_49 (by decide)
theorem s_X25_compare_50 : Snd PG.nam M162 50 (m_iret .int) := snd_iret dX25_compare_50 rfl
theorem T162 : ∀ q ∈ S162, Snd PG.nam M162 q.1 q.2 := List.forall_mem_cons.mpr ⟨s_X25_compare_0, List.forall_mem_cons.mpr ⟨s_X25_compare_1, List.forall_mem_cons.mpr ⟨s_X25_compare_4, List.forall_mem_cons.mpr ⟨s_X25_compare_5, List.forall_mem_cons.mpr ⟨s_X25_compare_8, List.forall_mem_cons.mpr ⟨s_X25_compare_9, List.forall_mem_cons.mpr ⟨s_X25_compare_10, List.forall_mem_cons.mpr ⟨s_X25_compare_13, List.forall_mem_cons.mpr ⟨s_X25_compare_14, List.forall_mem_cons.mpr ⟨s_X25_compare_17, List.forall_mem_cons.mpr ⟨s_X25_compare_18, List.forall_mem_cons.mpr ⟨s_X25_compare_21, List.forall_mem_cons.mpr ⟨s_X25_compare_22, List.forall_mem_cons.mpr ⟨s_X25_compare_25, List.forall_mem_cons.mpr ⟨s_X25_compare_26, List.forall_mem_cons.mpr ⟨s_X25_compare_27, List.forall_mem_cons.mpr ⟨s_X25_compare_28, List.forall_mem_cons.mpr ⟨s_X25_compare_29, List.forall_mem_cons.mpr ⟨s_X25_compare_32, List.forall_mem_cons.mpr ⟨s_X25_compare_35, List.forall_mem_cons.mpr ⟨s_X25_compare_36, List.forall_mem_cons.mpr ⟨s_X25_compare_37, List.forall_mem_cons.mpr ⟨s_X25_compare_38, List.forall_mem_cons.mpr ⟨s_X25_compare_39, List.forall_mem_cons.mpr ⟨s_X25_compare_42, List.forall_mem_cons.mpr ⟨s_X25_compare_45, List.forall_mem_cons.mpr ⟨s_X25_compare_46, List.forall_mem_cons.mpr ⟨s_X25_compare_49, List.forall_mem_cons.mpr ⟨s_X25_compare_50, (fun q hq => absurd hq List.not_mem_nil)⟩⟩⟩⟩⟩⟩⟩⟩⟩⟩⟩⟩⟩⟩⟩⟩⟩⟩⟩⟩⟩⟩⟩⟩⟩⟩⟩⟩⟩
theorem s_X25_before_0 : Snd PG.nam M163 0 (m_aload 0 1) := snd_aload_n dX25_before_0 rfl
theorem s_X25_before_1 : Snd PG.nam M163 1 (m_getf [(21, 0)] 4) := snd_getf dX25_before_1 fd_X25_19
theorem s_X25_before_4 : Snd PG.nam M163 4 (m_aload 1 5) := snd_aload_n dX25_before_4 rfl
theorem s_X25_before_5 : Snd PG.nam M163 5 (m_getf [(21, 0)] 8) := snd_getf dX25_before_5 fd_X25_19
theorem s_X25_before_8 : Snd PG.nam M163 8 (m_callS false 162 2 11) := snd_callS (nam := PG.nam) (yy := 162) dX25_before_8 (Or.inl w1336) w1337 ⟨by decide, by decide +kernel⟩ (by decide)
theorem s_X25_before_11 : Snd PG.nam M163 11 (m_istore 3 12) := snd_istore_n dX25_before_11 rfl (by decide)
theorem s_X25_before_12 : Snd PG.nam M163 12 (m_iload 3 13) := snd_iload_n dX25_before_12 rfl
theorem s_X25_before_13 : Snd PG.nam M163 13 (m_ifz (fun x => if x = 0 then 42 else 16)) := snd_if_eq dX25_before_13 (by decide)
theorem s_X25_before_16 : Snd PG.nam M163 16 (m_iload 2 17) := snd_iload_n dX25_before_16 rfl
theorem s_X25_before_17 : Snd PG.nam M163 17 (m_ifz (fun x => if x = 0 then 32 else 20)) := snd_if_eq dX25_before_17 (by decide)
theorem s_X25_before_20 : Snd PG.nam M163 20 (m_iload 3 21) := snd_iload_n dX25_before_20 rfl
theorem s_X25_before_21 : Snd PG.nam M163 21 (m_ifz (fun x => if 0 < x then 24 else 28)) := snd_if_le dX25_before_21 (by decide)
theorem s_X25_before_24 : Snd PG.nam M163 24 (m_const (.int (nI 1)) 25) := snd_iconst dX25_before_24 (by decide)
theorem s_X25_before_25 : Snd PG.nam M163 25 (m_goto 41) := snd_goto dX25_before_25 (by decide)
theorem s_X25_before_28 : Snd PG.nam M163 28 (m_const (.int (nI 0)) 29) := snd_iconst dX25_before_28 (by decide)
theorem s_X25_before_29 : Snd PG.nam M163 29 (m_goto 41) := snd_goto dX25_before_29 (by decide)
theorem s_X25_before_32 : Snd PG.nam M163 32 (m_iload 3 33) := snd_iload_n dX25_before_32 rfl
theorem s_X25_before_33 : Snd PG.nam M163 33 (m_ifz (fun x => if x < 0 then 36 else 40)) := snd_if_ge dX25_before_33 (by decide)
theorem s_X25_before_36 : Snd PG.nam M163 36 (m_const (.int (nI 1)) 37) := snd_iconst dX25_before_36 (by decide)
theorem s_X25_before_37 : Snd PG.nam M163 37 (m_goto 41) := snd_goto dX25_before_37 (by decide)
theorem s_X25_before_40 : Snd PG.nam M163 40 (m_const (.int (nI 0)) 41) := snd_iconst dX25_before_40 (by decide)
theorem s_X25_before_41 : Snd PG.nam M163 41 (m_iret .boolean) := snd_iret dX25_before_41 rfl
theorem s_X25_before_42 : Snd PG.nam M163 42 (m_aload 0 43) := snd_aload_n dX25_before_42 rfl
theorem s_X25_before_43 : Snd PG.nam M163 43 (m_aload 1 44) := snd_aload_n dX25_before_43 rfl
theorem s_X25_before_44 : Snd PG.nam M163 44 (m_callV false [(21, 161)] 1 47) := snd_callV (nam := PG.nam) (List.forall_mem_cons.mpr ⟨dr_V (ym := PG.nam 161) dX25_before_44 (Or.inl w1345) mi_161 rfl w1334, (fun q hq => absurd hq List.not_mem_nil)⟩) (by decide)
theorem s_X25_before_47 : Snd PG.nam M163 47 (m_ifz (fun x => if x < 0 then 50 else 54)) := snd_if_ge dX25_before_47 (by decide)
theorem s_X25_before_50 : Snd PG.nam M163 50 (m_const (.int (nI 1)) 51) := snd_iconst dX25_before_50 (by decide)
theorem s_X25_before_51 : Snd PG.nam M163 51 (m_goto 55) := snd_goto dX25_before_51 (by decide)
theorem s_X25_before_54 : Snd PG.nam M163 54 (m_const (.int (nI 0)) 55) := snd_iconst dX25_before_54 (by decide)
theorem s_X25_before_55 : Snd PG.nam M163 55 (m_iret .boolean) := snd_iret dX25_before_55 rfl
theorem T163 : ∀ q ∈ S163, Snd PG.nam M163 q.1 q.2 := List.forall_mem_cons.mpr ⟨s_X25_before_0, List.forall_mem_cons.mpr ⟨s_X25_before_1, List.forall_mem_cons.mpr ⟨s_X25_before_4, List.forall_mem_cons.mpr ⟨s_X25_before_5, List.forall_mem_cons.mpr ⟨s_X25_before_8, List.forall_mem_cons.mpr ⟨s_X25_before_11, List.forall_mem_cons.mpr ⟨s_X25_before_12, List.forall_mem_cons.mpr ⟨s_X25_before_13, List.forall_mem_cons.mpr ⟨s_X25_before_16, List.forall_mem_cons.mpr ⟨s_X25_before_17, List.forall_mem_cons.mpr ⟨s_X25_before_20, List.forall_mem_cons.mpr ⟨s_X25_before_21, List.forall_mem_cons.mpr ⟨s_X25_before_24, List.forall_mem_cons.mpr ⟨s_X25_before_25, List.forall_mem_cons.mpr ⟨s_X25_before_28, List.forall_mem_cons.mpr ⟨s_X25_before_29, List.forall_mem_cons.mpr ⟨s_X25_before_32, List.forall_mem_cons.mpr ⟨s_X25_before_33, List.forall_mem_cons.mpr ⟨s_X25_before_36, List.forall_mem_cons.mpr ⟨s_X25_before_37, List.forall_mem_cons.mpr ⟨s_X25_before_40, List.forall_mem_cons.mpr ⟨s_X25_before_41, List.forall_mem_cons.mpr ⟨s_X25_before_42, List.forall_mem_cons.mpr ⟨s_X25_before_43, List.forall_mem_cons.mpr ⟨s_X25_before_44, List.forall_mem_cons.mpr ⟨s_X25_before_47, List.forall_mem_cons.mpr ⟨s_X25_before_50, List.forall_mem_cons.mpr ⟨s_X25_before_51, List.forall_mem_cons.mpr ⟨s_X25_before_54, List.forall_mem_cons.mpr ⟨s_X25_before_55, (fun q hq => absurd hq List.not_mem_nil)⟩⟩⟩⟩⟩⟩⟩⟩⟩⟩⟩⟩⟩⟩⟩⟩⟩⟩⟩⟩⟩⟩⟩⟩⟩⟩⟩⟩⟩⟩
theorem s_J0_init_0 : Snd PG.nam M164 0 (m_aload 0 1) := snd_aload_n dJ0_init_0 rfl
theorem s_J0_init_1 : Snd PG.nam M164 1 (m_oi 4) := snd_oi dJ0_init_1 w125 w113 w114
theorem s_J0_init_4 : Snd PG.nam M164 4 (m_gets (fun _ => .int 1) 7) := snd_gets dJ0_init_4 w126 (fun Ω hO => ok_compact hO)
theorem s_J0_init_7 : Snd PG.nam M164 7 (m_ifz (fun x => if x = 0 then 25 else 10)) := snd_if_eq dJ0_init_7 (by decide)
theorem s_J0_init_10 : Snd PG.nam M164 10 (m_aload 0 11) := snd_aload_n dJ0_init_10 rfl
theorem s_J0_init_11 : Snd PG.nam M164 11 (m_iload 1 12) := snd_iload_n dJ0_init_11 rfl
theorem s_J0_init_12 : Snd PG.nam M164 12 (m_newa .byte 14) := snd_newa dJ0_init_12 w149 rfl (by decide)
theorem s_J0_init_14 : Snd PG.nam M164 14 (m_putf [(22, 0)] (.array .byte) 17) := snd_putf dJ0_init_14 fd_J0_15
theorem s_J0_init_17 : Snd PG.nam M164 17 (m_aload 0 18) := snd_aload_n dJ0_init_17 rfl
theorem s_J0_init_18 : Snd PG.nam M164 18 (m_const (.int (nI 0)) 19) := snd_iconst dJ0_init_18 (by decide)
theorem s_J0_init_19 : Snd PG.nam M164 19 (m_putf [(22, 1)] .byte 22) := snd_putf dJ0_init_19 fd_J0_22
theorem s_J0_init_22 : Snd PG.nam M164 22 (m_goto 38) := snd_goto dJ0_init_22 (by decide)
theorem s_J0_init_25 : Snd PG.nam M164 25 (m_aload 0 26) := snd_aload_n dJ0_init_25 rfl
theorem s_J0_init_26 : Snd PG.nam M164 26 (m_iload 1 27) := snd_iload_n dJ0_init_26 rfl
theorem s_J0_init_30 : Snd PG.nam M164 30 (m_putf [(22, 0)] (.array .byte) 33) := snd_putf dJ0_init_30 fd_J0_15
theorem s_J0_init_33 : Snd PG.nam M164 33 (m_aload 0 34) := snd_aload_n dJ0_init_33 rfl
theorem s_J0_init_34 : Snd PG.nam M164 34 (m_const (.int (nI 1)) 35) := snd_iconst dJ0_init_34 (by decide)
theorem s_J0_init_35 : Snd PG.nam M164 35 (m_putf [(22, 1)] .byte 38) := snd_putf dJ0_init_35 fd_J0_22
theorem s_J0_init_38 : Snd PG.nam M164 38 (m_vret) := snd_vret dJ0_init_38 rfl
theorem T164 : ∀ q ∈ S164, Snd PG.nam M164 q.1 q.2 := List.forall_mem_cons.mpr ⟨s_J0_init_0, List.forall_mem_cons.mpr ⟨s_J0_init_1, List.forall_mem_cons.mpr ⟨s_J0_init_4, List.forall_mem_cons.mpr ⟨s_J0_init_7, List.forall_mem_cons.mpr ⟨s_J0_init_10, List.forall_mem_cons.mpr ⟨s_J0_init_11, List.forall_mem_cons.mpr ⟨s_J0_init_12, List.forall_mem_cons.mpr ⟨s_J0_init_14, List.forall_mem_cons.mpr ⟨s_J0_init_17, List.forall_mem_cons.mpr ⟨s_J0_init_18, List.forall_mem_cons.mpr ⟨s_J0_init_19, List.forall_mem_cons.mpr ⟨s_J0_init_22, List.forall_mem_cons.mpr ⟨s_J0_init_25, List.forall_mem_cons.mpr ⟨s_J0_init_26, List.forall_mem_cons.mpr ⟨s_J0_init_30, List.forall_mem_cons.mpr ⟨s_J0_init_33, List.forall_mem_cons.mpr ⟨s_J0_init_34, List.forall_mem_cons.mpr ⟨s_J0_init_35, List.forall_mem_cons.mpr ⟨s_J0_init_38, (fun q hq => absurd hq List.not_mem_nil)⟩⟩⟩⟩⟩⟩⟩⟩⟩⟩⟩⟩⟩⟩⟩⟩⟩⟩⟩
theorem s_J0_length_0 : Snd PG.nam M165 0 (m_aload 0 1) := snd_aload_n dJ0_length_0 rfl
theorem s_J0_length_1 : Snd PG.nam M165 1 (m_getf [(22, 3)] 4) := snd_getf dJ0_length_1 fd_J0_79
theorem s_J0_length_4 : Snd PG.nam M165 4 (m_iret .int) := snd_iret dJ0_length_4 rfl
theorem T165 : ∀ q ∈ S165, Snd PG.nam M165 q.1 q.2 := List.forall_mem_cons.mpr ⟨s_J0_length_0, List.forall_mem_cons.mpr ⟨s_J0_length_1, List.forall_mem_cons.mpr ⟨s_J0_length_4, (fun q hq => absurd hq List.not_mem_nil)⟩⟩⟩
theorem s_J0_append_0 : Snd PG.nam M166 0 (m_aload 0 1) := snd_aload_n dJ0_append_0 rfl
theorem s_J0_append_1 : Snd PG.nam M166 1 (m_aload 0 2) := snd_aload_n dJ0_append_1 rfl
theorem s_J0_append_2 : Snd PG.nam M166 2 (m_getf [(22, 3)] 5) := snd_getf dJ0_append_2 fd_J0_79
theorem s_J0_append_5 : Snd PG.nam M166 5 (m_const (.int (nI 1)) 6) := snd_iconst dJ0_append_5 (by decide)
theorem s_J0_append_6 : Snd PG.nam M166 6 (m_ibin (fun a b => a + b) 7) := snd_iadd dJ0_append_6
theorem s_J0_append_7 : Snd PG.nam M166 7 (m_callV true [(22, 167)] 1 10) := snd_callV (nam := PG.nam) (List.forall_mem_cons.mpr ⟨dr_P (ym := PG.nam 167) dJ0_append_7 w316 mi_167 w317 w1830 rfl, (fun q hq => absurd hq List.not_mem_nil)⟩) (by decide)
theorem s_J0_append_10 : Snd PG.nam M166 10 (m_aload 0 11) := snd_aload_n dJ0_append_10 rfl
theorem s_J0_append_11 : Snd PG.nam M166 11 (m_callV false [(22, 168)] 0 14) := snd_callV (nam := PG.nam) (List.forall_mem_cons.mpr ⟨dr_U (ym := PG.nam 168) dJ0_append_11 w351 w353 (Or.inr rfl) (by decide) (by decide +kernel) w352 rfl w354, (fun q hq => absurd hq List.not_mem_nil)⟩) (by decide)
theorem s_J0_append_14 : Snd PG.nam M166 14 (m_ifz (fun x => if x = 0 then 45 else 17)) := snd_if_eq dJ0_append_14 (by decide)
theorem s_J0_append_17 : Snd PG.nam M166 17 (m_iload 1 18) := snd_iload_n dJ0_append_17 rfl
theorem s_J0_append_18 : Snd PG.nam M166 18 (m_callS false 194 1 21) := snd_callS (nam := PG.nam) (yy := 194) dJ0_append_18 (Or.inl w356) w357 ⟨by decide, by decide +kernel⟩ (by decide)
theorem s_J0_append_21 : Snd PG.nam M166 21 (m_ifz (fun x => if x = 0 then 45 else 24)) := snd_if_eq dJ0_append_21 (by decide)
theorem s_J0_append_24 : Snd PG.nam M166 24 (m_aload 0 25) := snd_aload_n dJ0_append_24 rfl
theorem s_J0_append_25 : Snd PG.nam M166 25 (m_getf [(22, 0)] 28) := snd_getf dJ0_append_25 fd_J0_15
theorem s_J0_append_28 : Snd PG.nam M166 28 (m_aload 0 29) := snd_aload_n dJ0_append_28 rfl
theorem s_J0_append_29 : Snd PG.nam M166 29 (m_dup 30) := snd_dup dJ0_append_29
theorem s_J0_append_30 : Snd PG.nam M166 30 (m_getf [(22, 3)] 33) := snd_getf dJ0_append_30 fd_J0_79
theorem s_J0_append_33 : Snd PG.nam M166 33 (m_dup_x1 34) := snd_dup_x1 dJ0_append_33
theorem s_J0_append_34 : Snd PG.nam M166 34 (m_const (.int (nI 1)) 35) := snd_iconst dJ0_append_34 (by decide)
theorem s_J0_append_35 : Snd PG.nam M166 35 (m_ibin (fun a b => a + b) 36) := snd_iadd dJ0_append_35
theorem s_J0_append_36 : Snd PG.nam M166 36 (m_putf [(22, 3)] .int 39) := snd_putf dJ0_append_36 fd_J0_79
theorem s_J0_append_39 : Snd PG.nam M166 39 (m_iload 1 40) := snd_iload_n dJ0_append_39 rfl
theorem s_J0_append_40 : Snd PG.nam M166 40 (m_iun (fun a => a.toInt8.toInt32) 41) := snd_i2b dJ0_append_40
theorem s_J0_append_41 : Snd PG.nam M166 41 (m_iast [.byte, .boolean] 42) := snd_bast dJ0_append_41
theorem s_J0_append_42 : Snd PG.nam M166 42 (m_goto 75) := snd_goto dJ0_append_42 (by decide)
theorem s_J0_append_45 : Snd PG.nam M166 45 (m_aload 0 46) := snd_aload_n dJ0_append_45 rfl
theorem s_J0_append_46 : Snd PG.nam M166 46 (m_callV false [(22, 168)] 0 49) := snd_callV (nam := PG.nam) (List.forall_mem_cons.mpr ⟨dr_U (ym := PG.nam 168) dJ0_append_46 w351 w353 (Or.inr rfl) (by decide) (by decide +kernel) w352 rfl w354, (fun q hq => absurd hq List.not_mem_nil)⟩) (by decide)
theorem s_J0_append_49 : Snd PG.nam M166 49 (m_ifz (fun x => if x = 0 then 56 else 52)) := snd_if_eq dJ0_append_49 (by decide)
theorem s_J0_append_52 : Snd PG.nam M166 52 (m_aload 0 53) := snd_aload_n dJ0_append_52 rfl
theorem s_J0_append_56 : Snd PG.nam M166 56 (m_aload 0 57) := snd_aload_n dJ0_append_56 rfl
theorem s_J0_append_57 : Snd PG.nam M166 57 (m_getf [(22, 0)] 60) := snd_getf dJ0_append_57 fd_J0_15
theorem s_J0_append_60 : Snd PG.nam M166 60 (m_aload 0 61) := snd_aload_n dJ0_append_60 rfl
theorem s_J0_append_61 : Snd PG.nam M166 61 (m_dup 62) := snd_dup dJ0_append_61
theorem s_J0_append_62 : Snd PG.nam M166 62 (m_getf [(22, 3)] 65) := snd_getf dJ0_append_62 fd_J0_79
theorem s_J0_append_65 : Snd PG.nam M166 65 (m_dup_x1 66) := snd_dup_x1 dJ0_append_65
theorem s_J0_append_66 : Snd PG.nam M166 66 (m_const (.int (nI 1)) 67) := snd_iconst dJ0_append_66 (by decide)
theorem s_J0_append_67 : Snd PG.nam M166 67 (m_ibin (fun a b => a + b) 68) := snd_iadd dJ0_append_67
theorem s_J0_append_68 : Snd PG.nam M166 68 (m_putf [(22, 3)] .int 71) := snd_putf dJ0_append_68 fd_J0_79
theorem s_J0_append_71 : Snd PG.nam M166 71 (m_iload 1 72) := snd_iload_n dJ0_append_71 rfl
theorem s_J0_append_75 : Snd PG.nam M166 75 (m_aload 0 76) := snd_aload_n dJ0_append_75 rfl
theorem s_J0_append_76 : Snd PG.nam M166 76 (m_aret) := snd_aret dJ0_append_76 rfl (Or.inl ⟨_, rfl⟩)
theorem T166 : ∀ q ∈ S166, Snd PG.nam M166 q.1 q.2 := List.forall_mem_cons.mpr ⟨s_J0_append_0, List.forall_mem_cons.mpr ⟨s_J0_append_1, List.forall_mem_cons.mpr ⟨s_J0_append_2, List.forall_mem_cons.mpr ⟨s_J0_append_5, List.forall_mem_cons.mpr ⟨s_J0_append_6, List.forall_mem_cons.mpr ⟨s_J0_append_7, List.forall_mem_cons.mpr ⟨s_J0_append_10, List.forall_mem_cons.mpr ⟨s_J0_append_11, List.forall_mem_cons.mpr ⟨s_J0_append_14, List.forall_mem_cons.mpr ⟨s_J0_append_17, List.forall_mem_cons.mpr ⟨s_J0_append_18, List.forall_mem_cons.mpr ⟨s_J0_append_21, List.forall_mem_cons.mpr ⟨s_J0_append_24, List.forall_mem_cons.mpr ⟨s_J0_append_25, List.forall_mem_cons.mpr ⟨s_J0_append_28, List.forall_mem_cons.mpr ⟨s_J0_append_29, List.forall_mem_cons.mpr ⟨s_J0_append_30, List.forall_mem_cons.mpr ⟨s_J0_append_33, List.forall_mem_cons.mpr ⟨s_J0_append_34, List.forall_mem_cons.mpr ⟨s_J0_append_35, List.forall_mem_cons.mpr ⟨s_J0_append_36, List.forall_mem_cons.mpr ⟨s_J0_append_39, List.forall_mem_cons.mpr ⟨s_J0_append_40, List.forall_mem_cons.mpr ⟨s_J0_append_41, List.forall_mem_cons.mpr ⟨s_J0_append_42, List.forall_mem_cons.mpr ⟨s_J0_append_45, List.forall_mem_cons.mpr ⟨s_J0_append_46, List.forall_mem_cons.mpr ⟨s_J0_append_49, List.forall_mem_cons.mpr ⟨s_J0_append_52, List.forall_mem_cons.mpr ⟨s_J0_append_56, List.forall_mem_cons.mpr ⟨s_J0_append_57, List.forall_mem_cons.mpr ⟨s_J0_append_60, List.forall_mem_cons.mpr ⟨s_J0_append_61, List.forall_mem_cons.mpr ⟨s_J0_append_62, List.forall_mem_cons.mpr ⟨s_J0_append_65, List.forall_mem_cons.mpr ⟨s_J0_append_66, List.forall_mem_cons.mpr ⟨s_J0_append_67, List.forall_mem_cons.mpr ⟨s_J0_append_68, List.forall_mem_cons.mpr ⟨s_J0_append_71, List.forall_mem_cons.mpr ⟨s_J0_append_75, List.forall_mem_cons.mpr ⟨s_J0_append_76, (fun q hq => absurd hq List.not_mem_nil)⟩⟩⟩⟩⟩⟩⟩⟩⟩⟩⟩⟩⟩⟩⟩⟩⟩⟩⟩⟩⟩⟩⟩⟩⟩⟩⟩⟩⟩⟩⟩⟩⟩⟩⟩⟩⟩⟩⟩⟩⟩
theorem s_J0_ensureCapacityInternal_0 : Snd PG.nam M167 0 (m_aload 0 1) := snd_aload_n dJ0_ensureCapacityInternal_0 rfl
theorem s_J0_ensureCapacityInternal_1 : Snd PG.nam M167 1 (m_getf [(22, 0)] 4) := snd_getf dJ0_ensureCapacityInternal_1 fd_J0_15
theorem s_J0_ensureCapacityInternal_4 : Snd PG.nam M167 4 (m_alen 5) := snd_alen dJ0_ensureCapacityInternal_4
theorem s_J0_ensureCapacityInternal_5 : Snd PG.nam M167 5 (m_aload 0 6) := snd_aload_n dJ0_ensureCapacityInternal_5 rfl
theorem s_J0_ensureCapacityInternal_6 : Snd PG.nam M167 6 (m_getf [(22, 1)] 9) := snd_getf dJ0_ensureCapacityInternal_6 fd_J0_22
theorem s_J0_ensureCapacityInternal_9 : Snd PG.nam M167 9 (m_ibin (fun a b => a >>> (b &&& 31)) 10) := snd_ishr dJ0_ensureCapacityInternal_9
theorem s_J0_ensureCapacityInternal_10 : Snd PG.nam M167 10 (m_istore 2 11) := snd_istore_n dJ0_ensureCapacityInternal_10 rfl (by decide)
theorem s_J0_ensureCapacityInternal_11 : Snd PG.nam M167 11 (m_iload 1 12) := snd_iload_n dJ0_ensureCapacityInternal_11 rfl
theorem s_J0_ensureCapacityInternal_12 : Snd PG.nam M167 12 (m_iload 2 13) := snd_iload_n dJ0_ensureCapacityInternal_12 rfl
theorem s_J0_ensureCapacityInternal_13 : Snd PG.nam M167 13 (m_ibin (fun a b => a - b) 14) := snd_isub dJ0_ensureCapacityInternal_13
theorem s_J0_ensureCapacityInternal_14 : Snd PG.nam M167 14 (m_ifz (fun x => if 0 < x then 17 else 38)) := snd_if_le dJ0_ensureCapacityInternal_14 (by decide)
theorem s_J0_ensureCapacityInternal_17 : Snd PG.nam M167 17 (m_aload 0 18) := snd_aload_n dJ0_ensureCapacityInternal_17 rfl
theorem s_J0_ensureCapacityInternal_18 : Snd PG.nam M167 18 (m_aload 0 19) := snd_aload_n dJ0_ensureCapacityInternal_18 rfl
theorem s_J0_ensureCapacityInternal_19 : Snd PG.nam M167 19 (m_getf [(22, 0)] 22) := snd_getf dJ0_ensureCapacityInternal_19 fd_J0_15
theorem s_J0_ensureCapacityInternal_22 : Snd PG.nam M167 22 (m_aload 0 23) := snd_aload_n dJ0_ensureCapacityInternal_22 rfl
theorem s_J0_ensureCapacityInternal_23 : Snd PG.nam M167 23 (m_iload 1 24) := snd_iload_n dJ0_ensureCapacityInternal_23 rfl
theorem s_J0_ensureCapacityInternal_27 : Snd PG.nam M167 27 (m_aload 0 28) := snd_aload_n dJ0_ensureCapacityInternal_27 rfl
theorem s_J0_ensureCapacityInternal_28 : Snd PG.nam M167 28 (m_getf [(22, 1)] 31) := snd_getf dJ0_ensureCapacityInternal_28 fd_J0_22
theorem s_J0_ensureCapacityInternal_31 : Snd PG.nam M167 31 (m_ibin (fun a b => a <<< (b &&& 31)) 32) := snd_ishl dJ0_ensureCapacityInternal_31
theorem s_J0_ensureCapacityInternal_35 : Snd PG.nam M167 35 (m_putf [(22, 0)] (.array .byte) 38) := snd_putf dJ0_ensureCapacityInternal_35 fd_J0_15
theorem s_J0_ensureCapacityInternal_38 : Snd PG.nam M167 38 (m_vret) := snd_vret dJ0_ensureCapacityInternal_38 rfl
theorem T167 : ∀ q ∈ S167, Snd PG.nam M167 q.1 q.2 := List.forall_mem_cons.mpr ⟨s_J0_ensureCapacityInternal_0, List.forall_mem_cons.mpr ⟨s_J0_ensureCapacityInternal_1, List.forall_mem_cons.mpr ⟨s_J0_ensureCapacityInternal_4, List.forall_mem_cons.mpr ⟨s_J0_ensureCapacityInternal_5, List.forall_mem_cons.mpr ⟨s_J0_ensureCapacityInternal_6, List.forall_mem_cons.mpr ⟨s_J0_ensureCapacityInternal_9, List.forall_mem_cons.mpr ⟨s_J0_ensureCapacityInternal_10, List.forall_mem_cons.mpr ⟨s_J0_ensureCapacityInternal_11, List.forall_mem_cons.mpr ⟨s_J0_ensureCapacityInternal_12, List.forall_mem_cons.mpr ⟨s_J0_ensureCapacityInternal_13, List.forall_mem_cons.mpr ⟨s_J0_ensureCapacityInternal_14, List.forall_mem_cons.mpr ⟨s_J0_ensureCapacityInternal_17, List.forall_mem_cons.mpr ⟨s_J0_ensureCapacityInternal_18, List.forall_mem_cons.mpr ⟨s_J0_ensureCapacityInternal_19, List.forall_mem_cons.mpr ⟨s_J0_ensureCapacityInternal_22, List.forall_mem_cons.mpr ⟨s_J0_ensureCapacityInternal_23, List.forall_mem_cons.mpr ⟨s_J0_ensureCapacityInternal_27, List.forall_mem_cons.mpr ⟨s_J0_ensureCapacityInternal_28, List.forall_mem_cons.mpr ⟨s_J0_ensureCapacityInternal_31, List.forall_mem_cons.mpr ⟨s_J0_ensureCapacityInternal_35, List.forall_mem_cons.mpr ⟨s_J0_ensureCapacityInternal_38, (fun q hq => absurd hq List.not_mem_nil)⟩⟩⟩⟩⟩⟩⟩⟩⟩⟩⟩⟩⟩⟩⟩⟩⟩⟩⟩⟩⟩
theorem s_J0_isLatin1_0 : Snd PG.nam M168 0 (m_gets (fun _ => .int 1) 3) := snd_gets dJ0_isLatin1_0 w126 (fun Ω hO => ok_compact hO)
theorem s_J0_isLatin1_3 : Snd PG.nam M168 3 (m_ifz (fun x => if x = 0 then 17 else 6)) := snd_if_eq dJ0_isLatin1_3 (by decide)
theorem s_J0_isLatin1_6 : Snd PG.nam M168 6 (m_aload 0 7) := snd_aload_n dJ0_isLatin1_6 rfl
theorem s_J0_isLatin1_7 : Snd PG.nam M168 7 (m_getf [(22, 1)] 10) := snd_getf dJ0_isLatin1_7 fd_J0_22
theorem s_J0_isLatin1_10 : Snd PG.nam M168 10 (m_ifz (fun x => if x = 0 then 13 else 17)) := snd_if_ne dJ0_isLatin1_10 (by decide)
theorem s_J0_isLatin1_13 : Snd PG.nam M168 13 (m_const (.int (nI 1)) 14) := snd_iconst dJ0_isLatin1_13 (by decide)
theorem s_J0_isLatin1_14 : Snd PG.nam M168 14 (m_goto 18) := snd_goto dJ0_isLatin1_14 (by decide)
theorem s_J0_isLatin1_17 : Snd PG.nam M168 17 (m_const (.int (nI 0)) 18) := snd_iconst dJ0_isLatin1_17 (by decide)
theorem s_J0_isLatin1_18 : Snd PG.nam M168 18 (m_iret .boolean) := snd_iret dJ0_isLatin1_18 rfl
theorem T168 : ∀ q ∈ S168, Snd PG.nam M168 q.1 q.2 := List.forall_mem_cons.mpr ⟨s_J0_isLatin1_0, List.forall_mem_cons.mpr ⟨s_J0_isLatin1_3, List.forall_mem_cons.mpr ⟨s_J0_isLatin1_6, List.forall_mem_cons.mpr ⟨s_J0_isLatin1_7, List.forall_mem_cons.mpr ⟨s_J0_isLatin1_10, List.forall_mem_cons.mpr ⟨s_J0_isLatin1_13, List.forall_mem_cons.mpr ⟨s_J0_isLatin1_14, List.forall_mem_cons.mpr ⟨s_J0_isLatin1_17, List.forall_mem_cons.mpr ⟨s_J0_isLatin1_18, (fun q hq => absurd hq List.not_mem_nil)⟩⟩⟩⟩⟩⟩⟩⟩⟩
theorem s_J0_getValue_0 : Snd PG.nam M169 0 (m_aload 0 1) := snd_aload_n dJ0_getValue_0 rfl
theorem s_J0_getValue_1 : Snd PG.nam M169 1 (m_getf [(22, 0)] 4) := snd_getf dJ0_getValue_1 fd_J0_15
theorem s_J0_getValue_4 : Snd PG.nam M169 4 (m_aret) := snd_aret dJ0_getValue_4 rfl (Or.inr ⟨_, rfl⟩)
theorem T169 : ∀ q ∈ S169, Snd PG.nam M169 q.1 q.2 := List.forall_mem_cons.mpr ⟨s_J0_getValue_0, List.forall_mem_cons.mpr ⟨s_J0_getValue_1, List.forall_mem_cons.mpr ⟨s_J0_getValue_4, (fun q hq => absurd hq List.not_mem_nil)⟩⟩⟩
theorem s_J0_setLength_0 : Snd PG.nam M170 0 (m_iload 1 1) := snd_iload_n dJ0_setLength_0 rfl
theorem s_J0_setLength_1 : Snd PG.nam M170 1 (m_ifz (fun x => if x < 0 then 4 else 13)) := snd_if_ge dJ0_setLength_1 (by decide)
theorem s_J0_setLength_7 : Snd PG.nam M170 7 (m_dup 8) := snd_dup dJ0_setLength_7
theorem s_J0_setLength_8 : Snd PG.nam M170 8 (m_iload 1 9) := snd_iload_n dJ0_setLength_8 rfl
theorem s_J0_setLength_13 : Snd PG.nam M170 13 (m_aload 0 14) := snd_aload_n dJ0_setLength_13 rfl
theorem s_J0_setLength_14 : Snd PG.nam M170 14 (m_iload 1 15) := snd_iload_n dJ0_setLength_14 rfl
theorem s_J0_setLength_15 : Snd PG.nam M170 15 (m_callV true [(22, 167)] 1 18) := snd_callV (nam := PG.nam) (List.forall_mem_cons.mpr ⟨dr_P (ym := PG.nam 167) dJ0_setLength_15 w316 mi_167 w317 w1830 rfl, (fun q hq => absurd hq List.not_mem_nil)⟩) (by decide)
theorem s_J0_setLength_18 : Snd PG.nam M170 18 (m_aload 0 19) := snd_aload_n dJ0_setLength_18 rfl
theorem s_J0_setLength_19 : Snd PG.nam M170 19 (m_getf [(22, 3)] 22) := snd_getf dJ0_setLength_19 fd_J0_79
theorem s_J0_setLength_22 : Snd PG.nam M170 22 (m_iload 1 23) := snd_iload_n dJ0_setLength_22 rfl
theorem s_J0_setLength_23 : Snd PG.nam M170 23 (m_icmp (fun x z => if x < z then 26 else 63)) := snd_icmp_ge dJ0_setLength_23 (by decide)
theorem s_J0_setLength_26 : Snd PG.nam M170 26 (m_aload 0 27) := snd_aload_n dJ0_setLength_26 rfl
theorem s_J0_setLength_27 : Snd PG.nam M170 27 (m_callV false [(22, 168)] 0 30) := snd_callV (nam := PG.nam) (List.forall_mem_cons.mpr ⟨dr_U (ym := PG.nam 168) dJ0_setLength_27 w351 w353 (Or.inr rfl) (by decide) (by decide +kernel) w352 rfl w354, (fun q hq => absurd hq List.not_mem_nil)⟩) (by decide)
theorem s_J0_setLength_30 : Snd PG.nam M170 30 (m_ifz (fun x => if x = 0 then 48 else 33)) := snd_if_eq dJ0_setLength_30 (by decide)
theorem s_J0_setLength_33 : Snd PG.nam M170 33 (m_aload 0 34) := snd_aload_n dJ0_setLength_33 rfl
theorem s_J0_setLength_34 : Snd PG.nam M170 34 (m_getf [(22, 0)] 37) := snd_getf dJ0_setLength_34 fd_J0_15
theorem s_J0_setLength_37 : Snd PG.nam M170 37 (m_aload 0 38) := snd_aload_n dJ0_setLength_37 rfl
theorem s_J0_setLength_38 : Snd PG.nam M170 38 (m_getf [(22, 3)] 41) := snd_getf dJ0_setLength_38 fd_J0_79
theorem s_J0_setLength_41 : Snd PG.nam M170 41 (m_iload 1 42) := snd_iload_n dJ0_setLength_41 rfl
theorem s_J0_setLength_45 : Snd PG.nam M170 45 (m_goto 76) := snd_goto dJ0_setLength_45 (by decide)
theorem s_J0_setLength_48 : Snd PG.nam M170 48 (m_aload 0 49) := snd_aload_n dJ0_setLength_48 rfl
theorem s_J0_setLength_49 : Snd PG.nam M170 49 (m_getf [(22, 0)] 52) := snd_getf dJ0_setLength_49 fd_J0_15
theorem s_J0_setLength_52 : Snd PG.nam M170 52 (m_aload 0 53) := snd_aload_n dJ0_setLength_52 rfl
theorem s_J0_setLength_53 : Snd PG.nam M170 53 (m_getf [(22, 3)] 56) := snd_getf dJ0_setLength_53 fd_J0_79
theorem s_J0_setLength_56 : Snd PG.nam M170 56 (m_iload 1 57) := snd_iload_n dJ0_setLength_56 rfl
theorem s_J0_setLength_60 : Snd PG.nam M170 60 (m_goto 76) := snd_goto dJ0_setLength_60 (by decide)
theorem s_J0_setLength_63 : Snd PG.nam M170 63 (m_aload 0 64) := snd_aload_n dJ0_setLength_63 rfl
theorem s_J0_setLength_64 : Snd PG.nam M170 64 (m_getf [(22, 3)] 67) := snd_getf dJ0_setLength_64 fd_J0_79
theorem s_J0_setLength_67 : Snd PG.nam M170 67 (m_iload 1 68) := snd_iload_n dJ0_setLength_67 rfl
theorem s_J0_setLength_68 : Snd PG.nam M170 68 (m_icmp (fun x z => if z < x then 71 else 76)) := snd_icmp_le dJ0_setLength_68 (by decide)
theorem s_J0_setLength_71 : Snd PG.nam M170 71 (m_aload 0 72) := snd_aload_n dJ0_setLength_71 rfl
theorem s_J0_setLength_72 : Snd PG.nam M170 72 (m_const (.int (nI 1)) 73) := snd_iconst dJ0_setLength_72 (by decide)
theorem s_J0_setLength_73 : Snd PG.nam M170 73 (m_putf [(22, 2)] .boolean 76) := snd_putf dJ0_setLength_73 fd_J0_73
theorem s_J0_setLength_76 : Snd PG.nam M170 76 (m_aload 0 77) := snd_aload_n dJ0_setLength_76 rfl
theorem s_J0_setLength_77 : Snd PG.nam M170 77 (m_iload 1 78) := snd_iload_n dJ0_setLength_77 rfl
theorem s_J0_setLength_78 : Snd PG.nam M170 78 (m_putf [(22, 3)] .int 81) := snd_putf dJ0_setLength_78 fd_J0_79
theorem s_J0_setLength_81 : Snd PG.nam M170 81 (m_vret) := snd_vret dJ0_setLength_81 rfl
theorem T170 : ∀ q ∈ S170, Snd PG.nam M170 q.1 q.2 := List.forall_mem_cons.mpr ⟨s_J0_setLength_0, List.forall_mem_cons.mpr ⟨s_J0_setLength_1, List.forall_mem_cons.mpr ⟨s_J0_setLength_7, List.forall_mem_cons.mpr ⟨s_J0_setLength_8, List.forall_mem_cons.mpr ⟨s_J0_setLength_13, List.forall_mem_cons.mpr ⟨s_J0_setLength_14, List.forall_mem_cons.mpr ⟨s_J0_setLength_15, List.forall_mem_cons.mpr ⟨s_J0_setLength_18, List.forall_mem_cons.mpr ⟨s_J0_setLength_19, List.forall_mem_cons.mpr ⟨s_J0_setLength_22, List.forall_mem_cons.mpr ⟨s_J0_setLength_23, List.forall_mem_cons.mpr ⟨s_J0_setLength_26, List.forall_mem_cons.mpr ⟨s_J0_setLength_27, List.forall_mem_cons.mpr ⟨s_J0_setLength_30, List.forall_mem_cons.mpr ⟨s_J0_setLength_33, List.forall_mem_cons.mpr ⟨s_J0_setLength_34, List.forall_mem_cons.mpr ⟨s_J0_setLength_37, List.forall_mem_cons.mpr ⟨s_J0_setLength_38, List.forall_mem_cons.mpr ⟨s_J0_setLength_41, List.forall_mem_cons.mpr ⟨s_J0_setLength_45, List.forall_mem_cons.mpr ⟨s_J0_setLength_48, List.forall_mem_cons.mpr ⟨s_J0_setLength_49, List.forall_mem_cons.mpr ⟨s_J0_setLength_52, List.forall_mem_cons.mpr ⟨s_J0_setLength_53, List.forall_mem_cons.mpr ⟨s_J0_setLength_56, List.forall_mem_cons.mpr ⟨s_J0_setLength_60, List.forall_mem_cons.mpr ⟨s_J0_setLength_63, List.forall_mem_cons.mpr ⟨s_J0_setLength_64, List.forall_mem_cons.mpr ⟨s_J0_setLength_67, List.forall_mem_cons.mpr ⟨s_J0_setLength_68, List.forall_mem_cons.mpr ⟨s_J0_setLength_71, List.forall_mem_cons.mpr ⟨s_J0_setLength_72, List.forall_mem_cons.mpr ⟨s_J0_setLength_73, List.forall_mem_cons.mpr ⟨s_J0_setLength_76, List.forall_mem_cons.mpr ⟨s_J0_setLength_77, List.forall_mem_cons.mpr ⟨s_J0_setLength_78, List.forall_mem_cons.mpr ⟨s_J0_setLength_81, (fun q hq => absurd hq List.not_mem_nil)⟩⟩⟩⟩⟩⟩⟩⟩⟩⟩⟩⟩⟩⟩⟩⟩⟩⟩⟩⟩⟩⟩⟩⟩⟩⟩⟩⟩⟩⟩⟩⟩⟩⟩⟩⟩⟩
theorem s_J1_init_0 : Snd PG.nam M171 0 (m_aload 0 1) := snd_aload_n dJ1_init_0 rfl
theorem s_J1_init_1 : Snd PG.nam M171 1 (m_iload 1 2) := snd_iload_n dJ1_init_1 rfl
theorem s_J1_init_2 : Snd PG.nam M171 2 (m_callI 164 1 5) := snd_callI (nam := PG.nam) (yy := 164) dJ1_init_2 (Or.inl w122) mi_164 rfl w124 (by decide)
theorem s_J1_init_5 : Snd PG.nam M171 5 (m_vret) := snd_vret dJ1_init_5 rfl
theorem T171 : ∀ q ∈ S171, Snd PG.nam M171 q.1 q.2 := List.forall_mem_cons.mpr ⟨s_J1_init_0, List.forall_mem_cons.mpr ⟨s_J1_init_1, List.forall_mem_cons.mpr ⟨s_J1_init_2, List.forall_mem_cons.mpr ⟨s_J1_init_5, (fun q hq => absurd hq List.not_mem_nil)⟩⟩⟩⟩
theorem s_J1_length_0 : Snd PG.nam M172 0 (m_aload 0 1) := snd_aload_n dJ1_length_0 rfl
theorem s_J1_length_1 : Snd PG.nam M172 1 (m_callV false [(22, 165)] 0 4) := snd_callV (nam := PG.nam) (List.forall_mem_cons.mpr ⟨dr_Sp (ym := PG.nam 165) dJ1_length_1 w306 mi_165 w1828 w148 (by decide) rfl, (fun q hq => absurd hq List.not_mem_nil)⟩) (by decide)
theorem s_J1_length_4 : Snd PG.nam M172 4 (m_iret .int) := snd_iret dJ1_length_4 rfl
theorem T172 : ∀ q ∈ S172, Snd PG.nam M172 q.1 q.2 := List.forall_mem_cons.mpr ⟨s_J1_length_0, List.forall_mem_cons.mpr ⟨s_J1_length_1, List.forall_mem_cons.mpr ⟨s_J1_length_4, (fun q hq => absurd hq List.not_mem_nil)⟩⟩⟩
theorem s_J1_append_0 : Snd PG.nam M173 0 (m_aload 0 1) := snd_aload_n dJ1_append_0 rfl
theorem s_J1_append_1 : Snd PG.nam M173 1 (m_iload 1 2) := snd_iload_n dJ1_append_1 rfl
theorem s_J1_append_2 : Snd PG.nam M173 2 (m_callV false [(22, 166)] 1 5) := snd_callV (nam := PG.nam) (List.forall_mem_cons.mpr ⟨dr_Sp (ym := PG.nam 166) dJ1_append_2 w313 mi_166 w1829 w148 (by decide) rfl, (fun q hq => absurd hq List.not_mem_nil)⟩) (by decide)
theorem s_J1_append_5 : Snd PG.nam M173 5 (m_pop 6) := snd_pop dJ1_append_5
theorem s_J1_append_6 : Snd PG.nam M173 6 (m_aload 0 7) := snd_aload_n dJ1_append_6 rfl
theorem s_J1_append_7 : Snd PG.nam M173 7 (m_aret) := snd_aret dJ1_append_7 rfl (Or.inl ⟨_, rfl⟩)
theorem T173 : ∀ q ∈ S173, Snd PG.nam M173 q.1 q.2 := List.forall_mem_cons.mpr ⟨s_J1_append_0, List.forall_mem_cons.mpr ⟨s_J1_append_1, List.forall_mem_cons.mpr ⟨s_J1_append_2, List.forall_mem_cons.mpr ⟨s_J1_append_5, List.forall_mem_cons.mpr ⟨s_J1_append_6, List.forall_mem_cons.mpr ⟨s_J1_append_7, (fun q hq => absurd hq List.not_mem_nil)⟩⟩⟩⟩⟩⟩
theorem s_J1_toString_0 : Snd PG.nam M174 0 (m_new 23 [.null, .int 0, .int 0, .int 0] 3) := snd_new dJ1_toString_0 rfl w410 w411 w66 rfl (by decide +kernel)
theorem s_J1_toString_3 : Snd PG.nam M174 3 (m_dup 4) := snd_dup dJ1_toString_3
theorem s_J1_toString_4 : Snd PG.nam M174 4 (m_aload 0 5) := snd_aload_n dJ1_toString_4 rfl
theorem s_J1_toString_5 : Snd PG.nam M174 5 (m_callI 176 1 8) := snd_callI (nam := PG.nam) (yy := 176) dJ1_toString_5 (Or.inl w412) mi_176 rfl w414 (by decide)
theorem s_J1_toString_8 : Snd PG.nam M174 8 (m_aret) := snd_aret dJ1_toString_8 rfl (Or.inl ⟨_, rfl⟩)
theorem T174 : ∀ q ∈ S174, Snd PG.nam M174 q.1 q.2 := List.forall_mem_cons.mpr ⟨s_J1_toString_0, List.forall_mem_cons.mpr ⟨s_J1_toString_3, List.forall_mem_cons.mpr ⟨s_J1_toString_4, List.forall_mem_cons.mpr ⟨s_J1_toString_5, List.forall_mem_cons.mpr ⟨s_J1_toString_8, (fun q hq => absurd hq List.not_mem_nil)⟩⟩⟩⟩⟩
theorem s_J1_setLength_0 : Snd PG.nam M175 0 (m_aload 0 1) := snd_aload_n dJ1_setLength_0 rfl
theorem s_J1_setLength_1 : Snd PG.nam M175 1 (m_iload 1 2) := snd_iload_n dJ1_setLength_1 rfl
theorem s_J1_setLength_2 : Snd PG.nam M175 2 (m_callV true [(22, 170)] 1 5) := snd_callV (nam := PG.nam) (List.forall_mem_cons.mpr ⟨dr_Sp (ym := PG.nam 170) dJ1_setLength_2 w734 mi_170 w1839 w148 (by decide) rfl, (fun q hq => absurd hq List.not_mem_nil)⟩) (by decide)
theorem s_J1_setLength_5 : Snd PG.nam M175 5 (m_vret) := snd_vret dJ1_setLength_5 rfl
theorem T175 : ∀ q ∈ S175, Snd PG.nam M175 q.1 q.2 := List.forall_mem_cons.mpr ⟨s_J1_setLength_0, List.forall_mem_cons.mpr ⟨s_J1_setLength_1, List.forall_mem_cons.mpr ⟨s_J1_setLength_2, List.forall_mem_cons.mpr ⟨s_J1_setLength_5, (fun q hq => absurd hq List.not_mem_nil)⟩⟩⟩⟩
theorem s_J2_init_0 : Snd PG.nam M176 0 (m_aload 0 1) := snd_aload_n dJ2_init_0 rfl
theorem s_J2_init_1 : Snd PG.nam M176 1 (m_aload 1 2) := snd_aload_n dJ2_init_1 rfl
theorem s_J2_init_2 : Snd PG.nam M176 2 (m_const .null 3) := snd_null dJ2_init_2
theorem s_J2_init_3 : Snd PG.nam M176 3 (m_callI 177 2 6) := snd_callI (nam := PG.nam) (yy := 177) dJ2_init_3 (Or.inl w415) mi_177 rfl w417 (by decide)
theorem s_J2_init_6 : Snd PG.nam M176 6 (m_vret) := snd_vret dJ2_init_6 rfl
theorem T176 : ∀ q ∈ S176, Snd PG.nam M176 q.1 q.2 := List.forall_mem_cons.mpr ⟨s_J2_init_0, List.forall_mem_cons.mpr ⟨s_J2_init_1, List.forall_mem_cons.mpr ⟨s_J2_init_2, List.forall_mem_cons.mpr ⟨s_J2_init_3, List.forall_mem_cons.mpr ⟨s_J2_init_6, (fun q hq => absurd hq List.not_mem_nil)⟩⟩⟩⟩⟩
theorem s_J2_init_2_0 : Snd PG.nam M177 0 (m_aload 0 1) := snd_aload_n dJ2_init_2_0 rfl
theorem s_J2_init_2_1 : Snd PG.nam M177 1 (m_oi 4) := snd_oi dJ2_init_2_1 w418 w113 w114
theorem s_J2_init_2_4 : Snd PG.nam M177 4 (m_aload 1 5) := snd_aload_n dJ2_init_2_4 rfl
theorem s_J2_init_2_5 : Snd PG.nam M177 5 (m_callV false [(22, 169)] 0 8) := snd_callV (nam := PG.nam) (List.forall_mem_cons.mpr ⟨dr_U (ym := PG.nam 169) dJ2_init_2_5 w419 w421 (Or.inr rfl) (by decide) (by decide +kernel) w420 rfl w422, (fun q hq => absurd hq List.not_mem_nil)⟩) (by decide)
theorem s_J2_init_2_8 : Snd PG.nam M177 8 (m_astore 3 9) := snd_astore_n dJ2_init_2_8 rfl (by decide)
theorem s_J2_init_2_9 : Snd PG.nam M177 9 (m_aload 1 10) := snd_aload_n dJ2_init_2_9 rfl
theorem s_J2_init_2_10 : Snd PG.nam M177 10 (m_callV false [(22, 172)] 0 13) := snd_callV (nam := PG.nam) (List.forall_mem_cons.mpr ⟨dr_U2 (ym := PG.nam 172) dJ2_init_2_10 w424 w1828 w307 w308 (by decide) (by decide +kernel) w303 rfl w1833, (fun q hq => absurd hq List.not_mem_nil)⟩) (by decide)
theorem s_J2_init_2_13 : Snd PG.nam M177 13 (m_istore 4 15) := snd_istore dJ2_init_2_13 (by decide)
theorem s_J2_init_2_15 : Snd PG.nam M177 15 (m_aload 1 16) := snd_aload_n dJ2_init_2_15 rfl
theorem s_J2_init_2_16 : Snd PG.nam M177 16 (m_callV false [(22, 168)] 0 19) := snd_callV (nam := PG.nam) (List.forall_mem_cons.mpr ⟨dr_U (ym := PG.nam 168) dJ2_init_2_16 w425 w353 (Or.inr rfl) (by decide) (by decide +kernel) w352 rfl w354, (fun q hq => absurd hq List.not_mem_nil)⟩) (by decide)
theorem s_J2_init_2_19 : Snd PG.nam M177 19 (m_ifz (fun x => if x = 0 then 41 else 22)) := snd_if_eq dJ2_init_2_19 (by decide)
theorem s_J2_init_2_22 : Snd PG.nam M177 22 (m_aload 0 23) := snd_aload_n dJ2_init_2_22 rfl
theorem s_J2_init_2_23 : Snd PG.nam M177 23 (m_const (.int (nI 0)) 24) := snd_iconst dJ2_init_2_23 (by decide)
theorem s_J2_init_2_24 : Snd PG.nam M177 24 (m_putf [(23, 1)] .byte 27) := snd_putF dJ2_init_2_24 fd_J2_15 rfl
theorem s_J2_init_2_27 : Snd PG.nam M177 27 (m_aload 0 28) := snd_aload_n dJ2_init_2_27 rfl
theorem s_J2_init_2_28 : Snd PG.nam M177 28 (m_aload 3 29) := snd_aload_n dJ2_init_2_28 rfl
theorem s_J2_init_2_29 : Snd PG.nam M177 29 (m_const (.int (nI 0)) 30) := snd_iconst dJ2_init_2_29 (by decide)
theorem s_J2_init_2_30 : Snd PG.nam M177 30 (m_iload 4 32) := snd_iload dJ2_init_2_30
theorem s_J2_init_2_32 : Snd PG.nam M177 32 (m_callS false 191 3 35) := snd_callS (nam := PG.nam) (yy := 191) dJ2_init_2_32 (Or.inl w426) w427 ⟨by decide, by decide +kernel⟩ (by decide)
theorem s_J2_init_2_35 : Snd PG.nam M177 35 (m_putf [(23, 0)] (.array .byte) 38) := snd_putF dJ2_init_2_35 fd_J2_9 rfl
theorem s_J2_init_2_38 : Snd PG.nam M177 38 (m_goto 97) := snd_goto dJ2_init_2_38 (by decide)
theorem s_J2_init_2_41 : Snd PG.nam M177 41 (m_gets (fun _ => .int 1) 44) := snd_gets dJ2_init_2_41 w497 (fun Ω hO => ok_compact hO)
theorem s_J2_init_2_44 : Snd PG.nam M177 44 (m_ifz (fun x => if x = 0 then 79 else 47)) := snd_if_eq dJ2_init_2_44 (by decide)
theorem s_J2_init_2_47 : Snd PG.nam M177 47 (m_aload 1 48) := snd_aload_n dJ2_init_2_47 rfl
theorem s_J2_init_2_48 : Snd PG.nam M177 48 (m_getf [(22, 2)] 51) := snd_getf dJ2_init_2_48 fd_J2_1048
theorem s_J2_init_2_51 : Snd PG.nam M177 51 (m_ifz (fun x => if x = 0 then 79 else 54)) := snd_if_eq dJ2_init_2_51 (by decide)
theorem s_J2_init_2_54 : Snd PG.nam M177 54 (m_aload 0 55) := snd_aload_n dJ2_init_2_54 rfl
theorem s_J2_init_2_55 : Snd PG.nam M177 55 (m_aload 3 56) := snd_aload_n dJ2_init_2_55 rfl
theorem s_J2_init_2_56 : Snd PG.nam M177 56 (m_const (.int (nI 0)) 57) := snd_iconst dJ2_init_2_56 (by decide)
theorem s_J2_init_2_57 : Snd PG.nam M177 57 (m_iload 4 59) := snd_iload dJ2_init_2_57
theorem s_J2_init_2_62 : Snd PG.nam M177 62 (m_putf [(23, 0)] (.array .byte) 65) := snd_putF dJ2_init_2_62 fd_J2_9 rfl
theorem s_J2_init_2_65 : Snd PG.nam M177 65 (m_aload 0 66) := snd_aload_n dJ2_init_2_65 rfl
theorem s_J2_init_2_66 : Snd PG.nam M177 66 (m_aload 0 67) := snd_aload_n dJ2_init_2_66 rfl
theorem s_J2_init_2_67 : Snd PG.nam M177 67 (m_getf [(23, 0)] 70) := snd_getf dJ2_init_2_67 fd_J2_9
theorem s_J2_init_2_70 : Snd PG.nam M177 70 (m_iload 4 72) := snd_iload dJ2_init_2_70
theorem s_J2_init_2_75 : Snd PG.nam M177 75 (m_putf [(23, 1)] .byte 78) := snd_putF dJ2_init_2_75 fd_J2_15 rfl
theorem s_J2_init_2_78 : Snd PG.nam M177 78 (m_vret) := snd_vret dJ2_init_2_78 rfl
theorem s_J2_init_2_79 : Snd PG.nam M177 79 (m_aload 0 80) := snd_aload_n dJ2_init_2_79 rfl
theorem s_J2_init_2_80 : Snd PG.nam M177 80 (m_const (.int (nI 1)) 81) := snd_iconst dJ2_init_2_80 (by decide)
theorem s_J2_init_2_81 : Snd PG.nam M177 81 (m_putf [(23, 1)] .byte 84) := snd_putF dJ2_init_2_81 fd_J2_15 rfl
theorem s_J2_init_2_84 : Snd PG.nam M177 84 (m_aload 0 85) := snd_aload_n dJ2_init_2_84 rfl
theorem s_J2_init_2_85 : Snd PG.nam M177 85 (m_aload 3 86) := snd_aload_n dJ2_init_2_85 rfl
theorem s_J2_init_2_86 : Snd PG.nam M177 86 (m_const (.int (nI 0)) 87) := snd_iconst dJ2_init_2_86 (by decide)
theorem s_J2_init_2_87 : Snd PG.nam M177 87 (m_iload 4 89) := snd_iload dJ2_init_2_87
theorem s_J2_init_2_89 : Snd PG.nam M177 89 (m_const (.int (nI 1)) 90) := snd_iconst dJ2_init_2_89 (by decide)
theorem s_J2_init_2_90 : Snd PG.nam M177 90 (m_ibin (fun a b => a <<< (b &&& 31)) 91) := snd_ishl dJ2_init_2_90
theorem s_J2_init_2_91 : Snd PG.nam M177 91 (m_callS false 191 3 94) := snd_callS (nam := PG.nam) (yy := 191) dJ2_init_2_91 (Or.inl w426) w427 ⟨by decide, by decide +kernel⟩ (by decide)
theorem s_J2_init_2_94 : Snd PG.nam M177 94 (m_putf [(23, 0)] (.array .byte) 97) := snd_putF dJ2_init_2_94 fd_J2_9 rfl
theorem s_J2_init_2_97 : Snd PG.nam M177 97 (m_vret) := snd_vret dJ2_init_2_97 rfl
theorem T177 : ∀ q ∈ S177, Snd PG.nam M177 q.1 q.2 := List.forall_mem_cons.mpr ⟨s_J2_init_2_0, List.forall_mem_cons.mpr ⟨s_J2_init_2_1, List.forall_mem_cons.mpr ⟨s_J2_init_2_4, List.forall_mem_cons.mpr ⟨s_J2_init_2_5, List.forall_mem_cons.mpr ⟨s_J2_init_2_8, List.forall_mem_cons.mpr ⟨s_J2_init_2_9, List.forall_mem_cons.mpr ⟨s_J2_init_2_10, List.forall_mem_cons.mpr ⟨s_J2_init_2_13, List.forall_mem_cons.mpr ⟨s_J2_init_2_15, List.forall_mem_cons.mpr ⟨s_J2_init_2_16, List.forall_mem_cons.mpr ⟨s_J2_init_2_19, List.forall_mem_cons.mpr ⟨s_J2_init_2_22, List.forall_mem_cons.mpr ⟨s_J2_init_2_23, List.forall_mem_cons.mpr ⟨s_J2_init_2_24, List.forall_mem_cons.mpr ⟨s_J2_init_2_27, List.forall_mem_cons.mpr ⟨s_J2_init_2_28, List.forall_mem_cons.mpr ⟨s_J2_init_2_29, List.forall_mem_cons.mpr ⟨s_J2_init_2_30, List.forall_mem_cons.mpr ⟨s_J2_init_2_32, List.forall_mem_cons.mpr ⟨s_J2_init_2_35, List.forall_mem_cons.mpr ⟨s_J2_init_2_38, List.forall_mem_cons.mpr ⟨s_J2_init_2_41, List.forall_mem_cons.mpr ⟨s_J2_init_2_44, List.forall_mem_cons.mpr ⟨s_J2_init_2_47, List.forall_mem_cons.mpr ⟨s_J2_init_2_48, List.forall_mem_cons.mpr ⟨s_J2_init_2_51, List.forall_mem_cons.mpr ⟨s_J2_init_2_54, List.forall_mem_cons.mpr ⟨s_J2_init_2_55, List.forall_mem_cons.mpr ⟨s_J2_init_2_56, List.forall_mem_cons.mpr ⟨s_J2_init_2_57, List.forall_mem_cons.mpr ⟨s_J2_init_2_62, List.forall_mem_cons.mpr ⟨s_J2_init_2_65, List.forall_mem_cons.mpr ⟨s_J2_init_2_66, List.forall_mem_cons.mpr ⟨s_J2_init_2_67, List.forall_mem_cons.mpr ⟨s_J2_init_2_70, List.forall_mem_cons.mpr ⟨s_J2_init_2_75, List.forall_mem_cons.mpr ⟨s_J2_init_2_78, List.forall_mem_cons.mpr ⟨s_J2_init_2_79, List.forall_mem_cons.mpr ⟨s_J2_init_2_80, List.forall_mem_cons.mpr ⟨s_J2_init_2_81, List.forall_mem_cons.mpr ⟨s_J2_init_2_84, List.forall_mem_cons.mpr ⟨s_J2_init_2_85, List.forall_mem_cons.mpr ⟨s_J2_init_2_86, List.forall_mem_cons.mpr ⟨s_J2_init_2_87, List.forall_mem_cons.mpr ⟨s_J2_init_2_89, List.forall_mem_cons.mpr ⟨s_J2_init_2_90, List.forall_mem_cons.mpr ⟨s_J2_init_2_91, List.forall_mem_cons.mpr ⟨s_J2_init_2_94, List.forall_mem_cons.mpr ⟨s_J2_init_2_97, (fun q hq => absurd hq List.not_mem_nil)⟩⟩⟩⟩⟩⟩⟩⟩⟩⟩⟩⟩⟩⟩⟩⟩⟩⟩⟩⟩⟩⟩⟩⟩⟩⟩⟩⟩⟩⟩⟩⟩⟩⟩⟩⟩⟩⟩⟩⟩⟩⟩⟩⟩⟩⟩⟩⟩⟩
theorem s_J2_init_3_0 : Snd PG.nam M178 0 (m_aload 0 1) := snd_aload_n dJ2_init_3_0 rfl
theorem s_J2_init_3_1 : Snd PG.nam M178 1 (m_oi 4) := snd_oi dJ2_init_3_1 w418 w113 w114
theorem s_J2_init_3_4 : Snd PG.nam M178 4 (m_aload 0 5) := snd_aload_n dJ2_init_3_4 rfl
theorem s_J2_init_3_5 : Snd PG.nam M178 5 (m_aload 1 6) := snd_aload_n dJ2_init_3_5 rfl
theorem s_J2_init_3_6 : Snd PG.nam M178 6 (m_putf [(23, 0)] (.array .byte) 9) := snd_putF dJ2_init_3_6 fd_J2_9 rfl
theorem s_J2_init_3_9 : Snd PG.nam M178 9 (m_aload 0 10) := snd_aload_n dJ2_init_3_9 rfl
theorem s_J2_init_3_10 : Snd PG.nam M178 10 (m_iload 2 11) := snd_iload_n dJ2_init_3_10 rfl
theorem s_J2_init_3_11 : Snd PG.nam M178 11 (m_putf [(23, 1)] .byte 14) := snd_putF dJ2_init_3_11 fd_J2_15 rfl
theorem s_J2_init_3_14 : Snd PG.nam M178 14 (m_vret) := snd_vret dJ2_init_3_14 rfl
theorem T178 : ∀ q ∈ S178, Snd PG.nam M178 q.1 q.2 := List.forall_mem_cons.mpr ⟨s_J2_init_3_0, List.forall_mem_cons.mpr ⟨s_J2_init_3_1, List.forall_mem_cons.mpr ⟨s_J2_init_3_4, List.forall_mem_cons.mpr ⟨s_J2_init_3_5, List.forall_mem_cons.mpr ⟨s_J2_init_3_6, List.forall_mem_cons.mpr ⟨s_J2_init_3_9, List.forall_mem_cons.mpr ⟨s_J2_init_3_10, List.forall_mem_cons.mpr ⟨s_J2_init_3_11, List.forall_mem_cons.mpr ⟨s_J2_init_3_14, (fun q hq => absurd hq List.not_mem_nil)⟩⟩⟩⟩⟩⟩⟩⟩⟩
theorem s_J2_length_0 : Snd PG.nam M179 0 (m_aload 0 1) := snd_aload_n dJ2_length_0 rfl
theorem s_J2_length_1 : Snd PG.nam M179 1 (m_getf [(23, 0)] 4) := snd_getf dJ2_length_1 fd_J2_9
theorem s_J2_length_4 : Snd PG.nam M179 4 (m_alen 5) := snd_alen dJ2_length_4
theorem s_J2_length_5 : Snd PG.nam M179 5 (m_aload 0 6) := snd_aload_n dJ2_length_5 rfl
theorem s_J2_length_6 : Snd PG.nam M179 6 (m_callV false [(23, 180)] 0 9) := snd_callV (nam := PG.nam) (List.forall_mem_cons.mpr ⟨dr_V (ym := PG.nam 180) dJ2_length_6 (Or.inl w493) mi_180 rfl w495, (fun q hq => absurd hq List.not_mem_nil)⟩) (by decide)
theorem s_J2_length_9 : Snd PG.nam M179 9 (m_ibin (fun a b => a >>> (b &&& 31)) 10) := snd_ishr dJ2_length_9
theorem s_J2_length_10 : Snd PG.nam M179 10 (m_iret .int) := snd_iret dJ2_length_10 rfl
theorem T179 : ∀ q ∈ S179, Snd PG.nam M179 q.1 q.2 := List.forall_mem_cons.mpr ⟨s_J2_length_0, List.forall_mem_cons.mpr ⟨s_J2_length_1, List.forall_mem_cons.mpr ⟨s_J2_length_4, List.forall_mem_cons.mpr ⟨s_J2_length_5, List.forall_mem_cons.mpr ⟨s_J2_length_6, List.forall_mem_cons.mpr ⟨s_J2_length_9, List.forall_mem_cons.mpr ⟨s_J2_length_10, (fun q hq => absurd hq List.not_mem_nil)⟩⟩⟩⟩⟩⟩⟩
theorem s_J2_coder_0 : Snd PG.nam M180 0 (m_gets (fun _ => .int 1) 3) := snd_gets dJ2_coder_0 w497 (fun Ω hO => ok_compact hO)
theorem s_J2_coder_3 : Snd PG.nam M180 3 (m_ifz (fun x => if x = 0 then 13 else 6)) := snd_if_eq dJ2_coder_3 (by decide)
theorem s_J2_coder_6 : Snd PG.nam M180 6 (m_aload 0 7) := snd_aload_n dJ2_coder_6 rfl
theorem s_J2_coder_7 : Snd PG.nam M180 7 (m_getf [(23, 1)] 10) := snd_getf dJ2_coder_7 fd_J2_15
theorem s_J2_coder_10 : Snd PG.nam M180 10 (m_goto 14) := snd_goto dJ2_coder_10 (by decide)
theorem s_J2_coder_13 : Snd PG.nam M180 13 (m_const (.int (nI 1)) 14) := snd_iconst dJ2_coder_13 (by decide)
theorem s_J2_coder_14 : Snd PG.nam M180 14 (m_iret .byte) := snd_iret dJ2_coder_14 rfl
theorem T180 : ∀ q ∈ S180, Snd PG.nam M180 q.1 q.2 := List.forall_mem_cons.mpr ⟨s_J2_coder_0, List.forall_mem_cons.mpr ⟨s_J2_coder_3, List.forall_mem_cons.mpr ⟨s_J2_coder_6, List.forall_mem_cons.mpr ⟨s_J2_coder_7, List.forall_mem_cons.mpr ⟨s_J2_coder_10, List.forall_mem_cons.mpr ⟨s_J2_coder_13, List.forall_mem_cons.mpr ⟨s_J2_coder_14, (fun q hq => absurd hq List.not_mem_nil)⟩⟩⟩⟩⟩⟩⟩
theorem s_J2_equals_0 : Snd PG.nam M181 0 (m_aload 0 1) := snd_aload_n dJ2_equals_0 rfl
theorem s_J2_equals_1 : Snd PG.nam M181 1 (m_aload 1 2) := snd_aload_n dJ2_equals_1 rfl
theorem s_J2_equals_2 : Snd PG.nam M181 2 (m_acmp 5 7) := snd_acmp_ne dJ2_equals_2 (by decide)
theorem s_J2_equals_5 : Snd PG.nam M181 5 (m_const (.int (nI 1)) 6) := snd_iconst dJ2_equals_5 (by decide)
theorem s_J2_equals_6 : Snd PG.nam M181 6 (m_iret .boolean) := snd_iret dJ2_equals_6 rfl
theorem s_J2_equals_7 : Snd PG.nam M181 7 (m_aload 1 8) := snd_aload_n dJ2_equals_7 rfl
theorem s_J2_equals_8 : Snd PG.nam M181 8 (m_inst [23] [] 11) := snd_inst dJ2_equals_8 w595 (List.forall_mem_cons.mpr ⟨⟨_, rfl, Or.inr rfl⟩, (fun ci hci => absurd hci List.not_mem_nil)⟩) (fun ci hci => absurd hci List.not_mem_nil)
theorem s_J2_equals_11 : Snd PG.nam M181 11 (m_ifz (fun x => if x = 0 then 54 else 14)) := snd_if_eq dJ2_equals_11 (by decide)
theorem s_J2_equals_14 : Snd PG.nam M181 14 (m_aload 1 15) := snd_aload_n dJ2_equals_14 rfl
theorem s_J2_equals_15 : Snd PG.nam M181 15 (m_cast [23] 18) := snd_cast dJ2_equals_15 w595 (List.forall_mem_cons.mpr ⟨⟨_, rfl, Or.inr rfl⟩, (fun ci hci => absurd hci List.not_mem_nil)⟩)
theorem s_J2_equals_18 : Snd PG.nam M181 18 (m_astore 2 19) := snd_astore_n dJ2_equals_18 rfl (by decide)
theorem s_J2_equals_19 : Snd PG.nam M181 19 (m_gets (fun _ => .int 1) 22) := snd_gets dJ2_equals_19 w497 (fun Ω hO => ok_compact hO)
theorem s_J2_equals_22 : Snd PG.nam M181 22 (m_ifz (fun x => if x = 0 then 36 else 25)) := snd_if_eq dJ2_equals_22 (by decide)
theorem s_J2_equals_25 : Snd PG.nam M181 25 (m_aload 0 26) := snd_aload_n dJ2_equals_25 rfl
theorem s_J2_equals_26 : Snd PG.nam M181 26 (m_getf [(23, 1)] 29) := snd_getf dJ2_equals_26 fd_J2_15
theorem s_J2_equals_29 : Snd PG.nam M181 29 (m_aload 2 30) := snd_aload_n dJ2_equals_29 rfl
theorem s_J2_equals_30 : Snd PG.nam M181 30 (m_getf [(23, 1)] 33) := snd_getf dJ2_equals_30 fd_J2_15
theorem s_J2_equals_33 : Snd PG.nam M181 33 (m_icmp (fun x z => if x = z then 36 else 54)) := snd_icmp_ne dJ2_equals_33 (by decide)
theorem s_J2_equals_36 : Snd PG.nam M181 36 (m_aload 0 37) := snd_aload_n dJ2_equals_36 rfl
theorem s_J2_equals_37 : Snd PG.nam M181 37 (m_getf [(23, 0)] 40) := snd_getf dJ2_equals_37 fd_J2_9
theorem s_J2_equals_40 : Snd PG.nam M181 40 (m_aload 2 41) := snd_aload_n dJ2_equals_40 rfl
theorem s_J2_equals_41 : Snd PG.nam M181 41 (m_getf [(23, 0)] 44) := snd_getf dJ2_equals_41 fd_J2_9
theorem s_J2_equals_44 : Snd PG.nam M181 44 (m_callS false 195 2 47) := snd_callS (nam := PG.nam) (yy := 195) dJ2_equals_44 (Or.inl w596) w597 ⟨by decide, by decide +kernel⟩ (by decide)
theorem s_J2_equals_47 : Snd PG.nam M181 47 (m_ifz (fun x => if x = 0 then 54 else 50)) := snd_if_eq dJ2_equals_47 (by decide)
theorem s_J2_equals_50 : Snd PG.nam M181 50 (m_const (.int (nI 1)) 51) := snd_iconst dJ2_equals_50 (by decide)
theorem s_J2_equals_51 : Snd PG.nam M181 51 (m_goto 55) := snd_goto dJ2_equals_51 (by decide)
theorem s_J2_equals_54 : Snd PG.nam M181 54 (m_const (.int (nI 0)) 55) := snd_iconst dJ2_equals_54 (by decide)
theorem s_J2_equals_55 : Snd PG.nam M181 55 (m_iret .boolean) := snd_iret dJ2_equals_55 rfl
theorem T181 : ∀ q ∈ S181, Snd PG.nam M181 q.1 q.2 := List.forall_mem_cons.mpr ⟨s_J2_equals_0, List.forall_mem_cons.mpr ⟨s_J2_equals_1, List.forall_mem_cons.mpr ⟨s_J2_equals_2, List.forall_mem_cons.mpr ⟨s_J2_equals_5, List.forall_mem_cons.mpr ⟨s_J2_equals_6, List.forall_mem_cons.mpr ⟨s_J2_equals_7, List.forall_mem_cons.mpr ⟨s_J2_equals_8, List.forall_mem_cons.mpr ⟨s_J2_equals_11, List.forall_mem_cons.mpr ⟨s_J2_equals_14, List.forall_mem_cons.mpr ⟨s_J2_equals_15, List.forall_mem_cons.mpr ⟨s_J2_equals_18, List.forall_mem_cons.mpr ⟨s_J2_equals_19, List.forall_mem_cons.mpr ⟨s_J2_equals_22, List.forall_mem_cons.mpr ⟨s_J2_equals_25, List.forall_mem_cons.mpr ⟨s_J2_equals_26, List.forall_mem_cons.mpr ⟨s_J2_equals_29, List.forall_mem_cons.mpr ⟨s_J2_equals_30, List.forall_mem_cons.mpr ⟨s_J2_equals_33, List.forall_mem_cons.mpr ⟨s_J2_equals_36, List.forall_mem_cons.mpr ⟨s_J2_equals_37, List.forall_mem_cons.mpr ⟨s_J2_equals_40, List.forall_mem_cons.mpr ⟨s_J2_equals_41, List.forall_mem_cons.mpr ⟨s_J2_equals_44, List.forall_mem_cons.mpr ⟨s_J2_equals_47, List.forall_mem_cons.mpr ⟨s_J2_equals_50, List.forall_mem_cons.mpr ⟨s_J2_equals_51, List.forall_mem_cons.mpr ⟨s_J2_equals_54, List.forall_mem_cons.mpr ⟨s_J2_equals_55, (fun q hq => absurd hq List.not_mem_nil)⟩⟩⟩⟩⟩⟩⟩⟩⟩⟩⟩⟩⟩⟩⟩⟩⟩⟩⟩⟩⟩⟩⟩⟩⟩⟩⟩⟩
theorem s_J2_charAt_0 : Snd PG.nam M182 0 (m_aload 0 1) := snd_aload_n dJ2_charAt_0 rfl
theorem s_J2_charAt_1 : Snd PG.nam M182 1 (m_callV false [(23, 183)] 0 4) := snd_callV (nam := PG.nam) (List.forall_mem_cons.mpr ⟨dr_V (ym := PG.nam 183) dJ2_charAt_1 (Or.inl w770) mi_183 rfl w772, (fun q hq => absurd hq List.not_mem_nil)⟩) (by decide)
theorem s_J2_charAt_4 : Snd PG.nam M182 4 (m_ifz (fun x => if x = 0 then 16 else 7)) := snd_if_eq dJ2_charAt_4 (by decide)
theorem s_J2_charAt_7 : Snd PG.nam M182 7 (m_aload 0 8) := snd_aload_n dJ2_charAt_7 rfl
theorem s_J2_charAt_8 : Snd PG.nam M182 8 (m_getf [(23, 0)] 11) := snd_getf dJ2_charAt_8 fd_J2_9
theorem s_J2_charAt_11 : Snd PG.nam M182 11 (m_iload 1 12) := snd_iload_n dJ2_charAt_11 rfl
theorem s_J2_charAt_12 : Snd PG.nam M182 12 (m_callS false 196 2 15) := snd_callS (nam := PG.nam) (yy := 196) dJ2_charAt_12 (Or.inl w774) w775 ⟨by decide, by decide +kernel⟩ (by decide)
theorem s_J2_charAt_15 : Snd PG.nam M182 15 (m_iret .char) := snd_iret dJ2_charAt_15 rfl
theorem s_J2_charAt_16 : Snd PG.nam M182 16 (m_aload 0 17) := snd_aload_n dJ2_charAt_16 rfl
theorem s_J2_charAt_17 : Snd PG.nam M182 17 (m_getf [(23, 0)] 20) := snd_getf dJ2_charAt_17 fd_J2_9
theorem s_J2_charAt_20 : Snd PG.nam M182 20 (m_iload 1 21) := snd_iload_n dJ2_charAt_20 rfl
theorem s_J2_charAt_24 : Snd PG.nam M182 24 (m_iret .char) := snd_iret dJ2_charAt_24 rfl
theorem T182 : ∀ q ∈ S182, Snd PG.nam M182 q.1 q.2 := List.forall_mem_cons.mpr ⟨s_J2_charAt_0, List.forall_mem_cons.mpr ⟨s_J2_charAt_1, List.forall_mem_cons.mpr ⟨s_J2_charAt_4, List.forall_mem_cons.mpr ⟨s_J2_charAt_7, List.forall_mem_cons.mpr ⟨s_J2_charAt_8, List.forall_mem_cons.mpr ⟨s_J2_charAt_11, List.forall_mem_cons.mpr ⟨s_J2_charAt_12, List.forall_mem_cons.mpr ⟨s_J2_charAt_15, List.forall_mem_cons.mpr ⟨s_J2_charAt_16, List.forall_mem_cons.mpr ⟨s_J2_charAt_17, List.forall_mem_cons.mpr ⟨s_J2_charAt_20, List.forall_mem_cons.mpr ⟨s_J2_charAt_24, (fun q hq => absurd hq List.not_mem_nil)⟩⟩⟩⟩⟩⟩⟩⟩⟩⟩⟩⟩
theorem s_J2_isLatin1_0 : Snd PG.nam M183 0 (m_gets (fun _ => .int 1) 3) := snd_gets dJ2_isLatin1_0 w497 (fun Ω hO => ok_compact hO)
theorem s_J2_isLatin1_3 : Snd PG.nam M183 3 (m_ifz (fun x => if x = 0 then 17 else 6)) := snd_if_eq dJ2_isLatin1_3 (by decide)
theorem s_J2_isLatin1_6 : Snd PG.nam M183 6 (m_aload 0 7) := snd_aload_n dJ2_isLatin1_6 rfl
theorem s_J2_isLatin1_7 : Snd PG.nam M183 7 (m_getf [(23, 1)] 10) := snd_getf dJ2_isLatin1_7 fd_J2_15
theorem s_J2_isLatin1_10 : Snd PG.nam M183 10 (m_ifz (fun x => if x = 0 then 13 else 17)) := snd_if_ne dJ2_isLatin1_10 (by decide)
theorem s_J2_isLatin1_13 : Snd PG.nam M183 13 (m_const (.int (nI 1)) 14) := snd_iconst dJ2_isLatin1_13 (by decide)
theorem s_J2_isLatin1_14 : Snd PG.nam M183 14 (m_goto 18) := snd_goto dJ2_isLatin1_14 (by decide)
theorem s_J2_isLatin1_17 : Snd PG.nam M183 17 (m_const (.int (nI 0)) 18) := snd_iconst dJ2_isLatin1_17 (by decide)
theorem s_J2_isLatin1_18 : Snd PG.nam M183 18 (m_iret .boolean) := snd_iret dJ2_isLatin1_18 rfl
theorem T183 : ∀ q ∈ S183, Snd PG.nam M183 q.1 q.2 := List.forall_mem_cons.mpr ⟨s_J2_isLatin1_0, List.forall_mem_cons.mpr ⟨s_J2_isLatin1_3, List.forall_mem_cons.mpr ⟨s_J2_isLatin1_6, List.forall_mem_cons.mpr ⟨s_J2_isLatin1_7, List.forall_mem_cons.mpr ⟨s_J2_isLatin1_10, List.forall_mem_cons.mpr ⟨s_J2_isLatin1_13, List.forall_mem_cons.mpr ⟨s_J2_isLatin1_14, List.forall_mem_cons.mpr ⟨s_J2_isLatin1_17, List.forall_mem_cons.mpr ⟨s_J2_isLatin1_18, (fun q hq => absurd hq List.not_mem_nil)⟩⟩⟩⟩⟩⟩⟩⟩⟩
theorem s_J2_substring_0 : Snd PG.nam M184 0 (m_aload 0 1) := snd_aload_n dJ2_substring_0 rfl
theorem s_J2_substring_1 : Snd PG.nam M184 1 (m_callV false [(23, 179)] 0 4) := snd_callV (nam := PG.nam) (List.forall_mem_cons.mpr ⟨dr_V (ym := PG.nam 179) dJ2_substring_1 (Or.inl w796) mi_179 rfl w491, (fun q hq => absurd hq List.not_mem_nil)⟩) (by decide)
theorem s_J2_substring_4 : Snd PG.nam M184 4 (m_istore 3 5) := snd_istore_n dJ2_substring_4 rfl (by decide)
theorem s_J2_substring_5 : Snd PG.nam M184 5 (m_iload 1 6) := snd_iload_n dJ2_substring_5 rfl
theorem s_J2_substring_6 : Snd PG.nam M184 6 (m_iload 2 7) := snd_iload_n dJ2_substring_6 rfl
theorem s_J2_substring_7 : Snd PG.nam M184 7 (m_iload 3 8) := snd_iload_n dJ2_substring_7 rfl
theorem s_J2_substring_8 : Snd PG.nam M184 8 (m_callS true 187 3 11) := snd_callS (nam := PG.nam) (yy := 187) dJ2_substring_8 (Or.inl w797) w464 ⟨by decide, by decide +kernel⟩ (by decide)
theorem s_J2_substring_11 : Snd PG.nam M184 11 (m_iload 1 12) := snd_iload_n dJ2_substring_11 rfl
theorem s_J2_substring_12 : Snd PG.nam M184 12 (m_ifz (fun x => if x = 0 then 15 else 22)) := snd_if_ne dJ2_substring_12 (by decide)
theorem s_J2_substring_15 : Snd PG.nam M184 15 (m_iload 2 16) := snd_iload_n dJ2_substring_15 rfl
theorem s_J2_substring_16 : Snd PG.nam M184 16 (m_iload 3 17) := snd_iload_n dJ2_substring_16 rfl
theorem s_J2_substring_17 : Snd PG.nam M184 17 (m_icmp (fun x z => if x = z then 20 else 22)) := snd_icmp_ne dJ2_substring_17 (by decide)
theorem s_J2_substring_20 : Snd PG.nam M184 20 (m_aload 0 21) := snd_aload_n dJ2_substring_20 rfl
theorem s_J2_substring_21 : Snd PG.nam M184 21 (m_aret) := snd_aret dJ2_substring_21 rfl (Or.inl ⟨_, rfl⟩)
theorem s_J2_substring_22 : Snd PG.nam M184 22 (m_iload 2 23) := snd_iload_n dJ2_substring_22 rfl
theorem s_J2_substring_23 : Snd PG.nam M184 23 (m_iload 1 24) := snd_iload_n dJ2_substring_23 rfl
theorem s_J2_substring_24 : Snd PG.nam M184 24 (m_ibin (fun a b => a - b) 25) := snd_isub dJ2_substring_24
theorem s_J2_substring_25 : Snd PG.nam M184 25 (m_istore 4 27) := snd_istore dJ2_substring_25 (by decide)
theorem s_J2_substring_27 : Snd PG.nam M184 27 (m_aload 0 28) := snd_aload_n dJ2_substring_27 rfl
theorem s_J2_substring_28 : Snd PG.nam M184 28 (m_callV false [(23, 183)] 0 31) := snd_callV (nam := PG.nam) (List.forall_mem_cons.mpr ⟨dr_V (ym := PG.nam 183) dJ2_substring_28 (Or.inl w770) mi_183 rfl w772, (fun q hq => absurd hq List.not_mem_nil)⟩) (by decide)
theorem s_J2_substring_31 : Snd PG.nam M184 31 (m_ifz (fun x => if x = 0 then 47 else 34)) := snd_if_eq dJ2_substring_31 (by decide)
theorem s_J2_substring_34 : Snd PG.nam M184 34 (m_aload 0 35) := snd_aload_n dJ2_substring_34 rfl
theorem s_J2_substring_35 : Snd PG.nam M184 35 (m_getf [(23, 0)] 38) := snd_getf dJ2_substring_35 fd_J2_9
theorem s_J2_substring_38 : Snd PG.nam M184 38 (m_iload 1 39) := snd_iload_n dJ2_substring_38 rfl
theorem s_J2_substring_39 : Snd PG.nam M184 39 (m_iload 4 41) := snd_iload dJ2_substring_39
theorem s_J2_substring_41 : Snd PG.nam M184 41 (m_callS false 197 3 44) := snd_callS (nam := PG.nam) (yy := 197) dJ2_substring_41 (Or.inl w798) w799 ⟨by decide, by decide +kernel⟩ (by decide)
theorem s_J2_substring_44 : Snd PG.nam M184 44 (m_goto 57) := snd_goto dJ2_substring_44 (by decide)
theorem s_J2_substring_47 : Snd PG.nam M184 47 (m_aload 0 48) := snd_aload_n dJ2_substring_47 rfl
theorem s_J2_substring_48 : Snd PG.nam M184 48 (m_getf [(23, 0)] 51) := snd_getf dJ2_substring_48 fd_J2_9
theorem s_J2_substring_51 : Snd PG.nam M184 51 (m_iload 1 52) := snd_iload_n dJ2_substring_51 rfl
theorem s_J2_substring_52 : Snd PG.nam M184 52 (m_iload 4 54) := snd_iload dJ2_substring_52
theorem s_J2_substring_57 : Snd PG.nam M184 57 (m_aret) := snd_aret dJ2_substring_57 rfl (Or.inl ⟨_, rfl⟩)
theorem T184 : ∀ q ∈ S184, Snd PG.nam M184 q.1 q.2 := List.forall_mem_cons.mpr ⟨s_J2_substring_0, List.forall_mem_cons.mpr ⟨s_J2_substring_1, List.forall_mem_cons.mpr ⟨s_J2_substring_4, List.forall_mem_cons.mpr ⟨s_J2_substring_5, List.forall_mem_cons.mpr ⟨s_J2_substring_6, List.forall_mem_cons.mpr ⟨s_J2_substring_7, List.forall_mem_cons.mpr ⟨s_J2_substring_8, List.forall_mem_cons.mpr ⟨s_J2_substring_11, List.forall_mem_cons.mpr ⟨s_J2_substring_12, List.forall_mem_cons.mpr ⟨s_J2_substring_15, List.forall_mem_cons.mpr ⟨s_J2_substring_16, List.forall_mem_cons.mpr ⟨s_J2_substring_17, List.forall_mem_cons.mpr ⟨s_J2_substring_20, List.forall_mem_cons.mpr ⟨s_J2_substring_21, List.forall_mem_cons.mpr ⟨s_J2_substring_22, List.forall_mem_cons.mpr ⟨s_J2_substring_23, List.forall_mem_cons.mpr ⟨s_J2_substring_24, List.forall_mem_cons.mpr ⟨s_J2_substring_25, List.forall_mem_cons.mpr ⟨s_J2_substring_27, List.forall_mem_cons.mpr ⟨s_J2_substring_28, List.forall_mem_cons.mpr ⟨s_J2_substring_31, List.forall_mem_cons.mpr ⟨s_J2_substring_34, List.forall_mem_cons.mpr ⟨s_J2_substring_35, List.forall_mem_cons.mpr ⟨s_J2_substring_38, List.forall_mem_cons.mpr ⟨s_J2_substring_39, List.forall_mem_cons.mpr ⟨s_J2_substring_41, List.forall_mem_cons.mpr ⟨s_J2_substring_44, List.forall_mem_cons.mpr ⟨s_J2_substring_47, List.forall_mem_cons.mpr ⟨s_J2_substring_48, List.forall_mem_cons.mpr ⟨s_J2_substring_51, List.forall_mem_cons.mpr ⟨s_J2_substring_52, List.forall_mem_cons.mpr ⟨s_J2_substring_57, (fun q hq => absurd hq List.not_mem_nil)⟩⟩⟩⟩⟩⟩⟩⟩⟩⟩⟩⟩⟩⟩⟩⟩⟩⟩⟩⟩⟩⟩⟩⟩⟩⟩⟩⟩⟩⟩⟩⟩
theorem s_J2_hashCode_0 : Snd PG.nam M185 0 (m_aload 0 1) := snd_aload_n dJ2_hashCode_0 rfl
theorem s_J2_hashCode_1 : Snd PG.nam M185 1 (m_getf [(23, 2)] 4) := snd_getf dJ2_hashCode_1 fd_J2_19
theorem s_J2_hashCode_4 : Snd PG.nam M185 4 (m_istore 1 5) := snd_istore_n dJ2_hashCode_4 rfl (by decide)
theorem s_J2_hashCode_5 : Snd PG.nam M185 5 (m_iload 1 6) := snd_iload_n dJ2_hashCode_5 rfl
theorem s_J2_hashCode_6 : Snd PG.nam M185 6 (m_ifz (fun x => if x = 0 then 9 else 58)) := snd_if_ne dJ2_hashCode_6 (by decide)
theorem s_J2_hashCode_9 : Snd PG.nam M185 9 (m_aload 0 10) := snd_aload_n dJ2_hashCode_9 rfl
theorem s_J2_hashCode_10 : Snd PG.nam M185 10 (m_getf [(23, 3)] 13) := snd_getf dJ2_hashCode_10 fd_J2_23
theorem s_J2_hashCode_13 : Snd PG.nam M185 13 (m_ifz (fun x => if x = 0 then 16 else 58)) := snd_if_ne dJ2_hashCode_13 (by decide)
theorem s_J2_hashCode_16 : Snd PG.nam M185 16 (m_aload 0 17) := snd_aload_n dJ2_hashCode_16 rfl
theorem s_J2_hashCode_17 : Snd PG.nam M185 17 (m_callV false [(23, 183)] 0 20) := snd_callV (nam := PG.nam) (List.forall_mem_cons.mpr ⟨dr_V (ym := PG.nam 183) dJ2_hashCode_17 (Or.inl w770) mi_183 rfl w772, (fun q hq => absurd hq List.not_mem_nil)⟩) (by decide)
theorem s_J2_hashCode_20 : Snd PG.nam M185 20 (m_ifz (fun x => if x = 0 then 33 else 23)) := snd_if_eq dJ2_hashCode_20 (by decide)
theorem s_J2_hashCode_23 : Snd PG.nam M185 23 (m_aload 0 24) := snd_aload_n dJ2_hashCode_23 rfl
theorem s_J2_hashCode_24 : Snd PG.nam M185 24 (m_getf [(23, 0)] 27) := snd_getf dJ2_hashCode_24 fd_J2_9
theorem s_J2_hashCode_27 : Snd PG.nam M185 27 (m_callS false 198 1 30) := snd_callS (nam := PG.nam) (yy := 198) dJ2_hashCode_27 (Or.inl w823) w824 ⟨by decide, by decide +kernel⟩ (by decide)
theorem s_J2_hashCode_30 : Snd PG.nam M185 30 (m_goto 40) := snd_goto dJ2_hashCode_30 (by decide)
theorem s_J2_hashCode_33 : Snd PG.nam M185 33 (m_aload 0 34) := snd_aload_n dJ2_hashCode_33 rfl
theorem s_J2_hashCode_34 : Snd PG.nam M185 34 (m_getf [(23, 0)] 37) := snd_getf dJ2_hashCode_34 fd_J2_9
theorem s_J2_hashCode_40 : Snd PG.nam M185 40 (m_istore 1 41) := snd_istore_n dJ2_hashCode_40 rfl (by decide)
theorem s_J2_hashCode_41 : Snd PG.nam M185 41 (m_iload 1 42) := snd_iload_n dJ2_hashCode_41 rfl
theorem s_J2_hashCode_42 : Snd PG.nam M185 42 (m_ifz (fun x => if x = 0 then 45 else 53)) := snd_if_ne dJ2_hashCode_42 (by decide)
theorem s_J2_hashCode_45 : Snd PG.nam M185 45 (m_aload 0 46) := snd_aload_n dJ2_hashCode_45 rfl
theorem s_J2_hashCode_46 : Snd PG.nam M185 46 (m_const (.int (nI 1)) 47) := snd_iconst dJ2_hashCode_46 (by decide)
theorem s_J2_hashCode_47 : Snd PG.nam M185 47 (m_putf [(23, 3)] .boolean 50) := snd_putf dJ2_hashCode_47 fd_J2_23
theorem s_J2_hashCode_50 : Snd PG.nam M185 50 (m_goto 58) := snd_goto dJ2_hashCode_50 (by decide)
theorem s_J2_hashCode_53 : Snd PG.nam M185 53 (m_aload 0 54) := snd_aload_n dJ2_hashCode_53 rfl
theorem s_J2_hashCode_54 : Snd PG.nam M185 54 (m_iload 1 55) := snd_iload_n dJ2_hashCode_54 rfl
theorem s_J2_hashCode_55 : Snd PG.nam M185 55 (m_putf [(23, 2)] .int 58) := snd_putf dJ2_hashCode_55 fd_J2_19
theorem s_J2_hashCode_58 : Snd PG.nam M185 58 (m_iload 1 59) := snd_iload_n dJ2_hashCode_58 rfl
theorem s_J2_hashCode_59 : Snd PG.nam M185 59 (m_iret .int) := snd_iret dJ2_hashCode_59 rfl
theorem T185 : ∀ q ∈ S185, Snd PG.nam M185 q.1 q.2 := List.forall_mem_cons.mpr ⟨s_J2_hashCode_0, List.forall_mem_cons.mpr ⟨s_J2_hashCode_1, List.forall_mem_cons.mpr ⟨s_J2_hashCode_4, List.forall_mem_cons.mpr ⟨s_J2_hashCode_5, List.forall_mem_cons.mpr ⟨s_J2_hashCode_6, List.forall_mem_cons.mpr ⟨s_J2_hashCode_9, List.forall_mem_cons.mpr ⟨s_J2_hashCode_10, List.forall_mem_cons.mpr ⟨s_J2_hashCode_13, List.forall_mem_cons.mpr ⟨s_J2_hashCode_16, List.forall_mem_cons.mpr ⟨s_J2_hashCode_17, List.forall_mem_cons.mpr ⟨s_J2_hashCode_20, List.forall_mem_cons.mpr ⟨s_J2_hashCode_23, List.forall_mem_cons.mpr ⟨s_J2_hashCode_24, List.forall_mem_cons.mpr ⟨s_J2_hashCode_27, List.forall_mem_cons.mpr ⟨s_J2_hashCode_30, List.forall_mem_cons.mpr ⟨s_J2_hashCode_33, List.forall_mem_cons.mpr ⟨s_J2_hashCode_34, List.forall_mem_cons.mpr ⟨s_J2_hashCode_40, List.forall_mem_cons.mpr ⟨s_J2_hashCode_41, List.forall_mem_cons.mpr ⟨s_J2_hashCode_42, List.forall_mem_cons.mpr ⟨s_J2_hashCode_45, List.forall_mem_cons.mpr ⟨s_J2_hashCode_46, List.forall_mem_cons.mpr ⟨s_J2_hashCode_47, List.forall_mem_cons.mpr ⟨s_J2_hashCode_50, List.forall_mem_cons.mpr ⟨s_J2_hashCode_53, List.forall_mem_cons.mpr ⟨s_J2_hashCode_54, List.forall_mem_cons.mpr ⟨s_J2_hashCode_55, List.forall_mem_cons.mpr ⟨s_J2_hashCode_58, List.forall_mem_cons.mpr ⟨s_J2_hashCode_59, (fun q hq => absurd hq List.not_mem_nil)⟩⟩⟩⟩⟩⟩⟩⟩⟩⟩⟩⟩⟩⟩⟩⟩⟩⟩⟩⟩⟩⟩⟩⟩⟩⟩⟩⟩⟩
theorem s_J2_checkIndex_0 : Snd PG.nam M186 0 (m_iload 0 1) := snd_iload_n dJ2_checkIndex_0 rfl
theorem s_J2_checkIndex_1 : Snd PG.nam M186 1 (m_iload 1 2) := snd_iload_n dJ2_checkIndex_1 rfl
theorem s_J2_checkIndex_2 : Snd PG.nam M186 2 (m_gets (fmtV) 5) := snd_gets dJ2_checkIndex_2 w378 (fun Ω hO => hO.2.2.2.2.1)
theorem s_J2_checkIndex_5 : Snd PG.nam M186 5 (m_callS false 199 3 8) := snd_callS (nam := PG.nam) (yy := 199) dJ2_checkIndex_5 (Or.inl w401) w402 ⟨by decide, by decide +kernel⟩ (by decide)
theorem s_J2_checkIndex_8 : Snd PG.nam M186 8 (m_pop 9) := snd_pop dJ2_checkIndex_8
theorem s_J2_checkIndex_9 : Snd PG.nam M186 9 (m_vret) := snd_vret dJ2_checkIndex_9 rfl
theorem T186 : ∀ q ∈ S186, Snd PG.nam M186 q.1 q.2 := List.forall_mem_cons.mpr ⟨s_J2_checkIndex_0, List.forall_mem_cons.mpr ⟨s_J2_checkIndex_1, List.forall_mem_cons.mpr ⟨s_J2_checkIndex_2, List.forall_mem_cons.mpr ⟨s_J2_checkIndex_5, List.forall_mem_cons.mpr ⟨s_J2_checkIndex_8, List.forall_mem_cons.mpr ⟨s_J2_checkIndex_9, (fun q hq => absurd hq List.not_mem_nil)⟩⟩⟩⟩⟩⟩
theorem s_J2_checkBoundsBeginEnd_0 : Snd PG.nam M187 0 (m_iload 0 1) := snd_iload_n dJ2_checkBoundsBeginEnd_0 rfl
theorem s_J2_checkBoundsBeginEnd_1 : Snd PG.nam M187 1 (m_iload 1 2) := snd_iload_n dJ2_checkBoundsBeginEnd_1 rfl
theorem s_J2_checkBoundsBeginEnd_2 : Snd PG.nam M187 2 (m_iload 2 3) := snd_iload_n dJ2_checkBoundsBeginEnd_2 rfl
theorem s_J2_checkBoundsBeginEnd_3 : Snd PG.nam M187 3 (m_gets (fmtV) 6) := snd_gets dJ2_checkBoundsBeginEnd_3 w378 (fun Ω hO => hO.2.2.2.2.1)
theorem s_J2_checkBoundsBeginEnd_6 : Snd PG.nam M187 6 (m_callS false 200 4 9) := snd_callS (nam := PG.nam) (yy := 200) dJ2_checkBoundsBeginEnd_6 (Or.inl w466) w467 ⟨by decide, by decide +kernel⟩ (by decide)
theorem s_J2_checkBoundsBeginEnd_9 : Snd PG.nam M187 9 (m_pop 10) := snd_pop dJ2_checkBoundsBeginEnd_9
theorem s_J2_checkBoundsBeginEnd_10 : Snd PG.nam M187 10 (m_vret) := snd_vret dJ2_checkBoundsBeginEnd_10 rfl
theorem T187 : ∀ q ∈ S187, Snd PG.nam M187 q.1 q.2 := List.forall_mem_cons.mpr ⟨s_J2_checkBoundsBeginEnd_0, List.forall_mem_cons.mpr ⟨s_J2_checkBoundsBeginEnd_1, List.forall_mem_cons.mpr ⟨s_J2_checkBoundsBeginEnd_2, List.forall_mem_cons.mpr ⟨s_J2_checkBoundsBeginEnd_3, List.forall_mem_cons.mpr ⟨s_J2_checkBoundsBeginEnd_6, List.forall_mem_cons.mpr ⟨s_J2_checkBoundsBeginEnd_9, List.forall_mem_cons.mpr ⟨s_J2_checkBoundsBeginEnd_10, (fun q hq => absurd hq List.not_mem_nil)⟩⟩⟩⟩⟩⟩⟩
theorem s_J8_vectorizedHashCode_0 : Snd PG.nam M188 0 (m_iload 4 2) := snd_iload dJ8_vectorizedHashCode_0
theorem s_J8_vectorizedHashCode_2 : Snd PG.nam M188 2 (m_ifz (fun x => if x = (nI 4) then 44 else if x = (nI 5) then 57 else if x = (nI 6) then 129 else if x = (nI 7) then 129 else if x = (nI 8) then 90 else if x = (nI 9) then 103 else if x = (nI 10) then 116 else 129)) := snd_sw (fun Ω d mc ms P h k n lv st x kk => by
    dsimp only at kk
    by_cases h0 : x = (nI 4)
    · rw [if_pos h0] at kk; subst h0; exact V.tableIn (off := 42) dJ8_vectorizedHashCode_2 (by decide +kernel) (by decide +kernel) (by decide +kernel) (by decide) kk
    rw [if_neg h0] at kk
    by_cases h1 : x = (nI 5)
    · rw [if_pos h1] at kk; subst h1; exact V.tableIn (off := 55) dJ8_vectorizedHashCode_2 (by decide +kernel) (by decide +kernel) (by decide +kernel) (by decide) kk
    rw [if_neg h1] at kk
    by_cases h2 : x = (nI 6)
    · rw [if_pos h2] at kk; subst h2; exact V.tableIn (off := 127) dJ8_vectorizedHashCode_2 (by decide +kernel) (by decide +kernel) (by decide +kernel) (by decide) kk
    rw [if_neg h2] at kk
    by_cases h3 : x = (nI 7)
    · rw [if_pos h3] at kk; subst h3; exact V.tableIn (off := 127) dJ8_vectorizedHashCode_2 (by decide +kernel) (by decide +kernel) (by decide +kernel) (by decide) kk
    rw [if_neg h3] at kk
    by_cases h4 : x = (nI 8)
    · rw [if_pos h4] at kk; subst h4; exact V.tableIn (off := 88) dJ8_vectorizedHashCode_2 (by decide +kernel) (by decide +kernel) (by decide +kernel) (by decide) kk
    rw [if_neg h4] at kk
    by_cases h5 : x = (nI 9)
    · rw [if_pos h5] at kk; subst h5; exact V.tableIn (off := 101) dJ8_vectorizedHashCode_2 (by decide +kernel) (by decide +kernel) (by decide +kernel) (by decide) kk
    rw [if_neg h5] at kk
    by_cases h6 : x = (nI 10)
    · rw [if_pos h6] at kk; subst h6; exact V.tableIn (off := 114) dJ8_vectorizedHashCode_2 (by decide +kernel) (by decide +kernel) (by decide +kernel) (by decide) kk
    rw [if_neg h6] at kk
    refine V.tableOut dJ8_vectorizedHashCode_2 ?_ (by decide) kk
    have g0 := sw_ne h0 (v := 4) (by decide +kernel)
    have g1 := sw_ne h1 (v := 5) (by decide +kernel)
    have g2 := sw_ne h2 (v := 6) (by decide +kernel)
    have g3 := sw_ne h3 (v := 7) (by decide +kernel)
    have g4 := sw_ne h4 (v := 8) (by decide +kernel)
    have g5 := sw_ne h5 (v := 9) (by decide +kernel)
    have g6 := sw_ne h6 (v := 10) (by decide +kernel)
    omega)
theorem s_J8_vectorizedHashCode_44 : Snd PG.nam M188 44 (m_iload 3 45) := snd_iload_n dJ8_vectorizedHashCode_44 rfl
theorem s_J8_vectorizedHashCode_45 : Snd PG.nam M188 45 (m_aload 0 46) := snd_aload_n dJ8_vectorizedHashCode_45 rfl
theorem s_J8_vectorizedHashCode_46 : Snd PG.nam M188 46 (m_castB 49) := snd_castB dJ8_vectorizedHashCode_46 w829
theorem s_J8_vectorizedHashCode_49 : Snd PG.nam M188 49 (m_iload 1 50) := snd_iload_n dJ8_vectorizedHashCode_49 rfl
theorem s_J8_vectorizedHashCode_50 : Snd PG.nam M188 50 (m_iload 2 51) := snd_iload_n dJ8_vectorizedHashCode_50 rfl
theorem s_J8_vectorizedHashCode_51 : Snd PG.nam M188 51 (m_callS false 189 4 54) := snd_callS (nam := PG.nam) (yy := 189) dJ8_vectorizedHashCode_51 (Or.inl w830) w831 ⟨by decide, by decide +kernel⟩ (by decide)
theorem s_J8_vectorizedHashCode_54 : Snd PG.nam M188 54 (m_goto 157) := snd_goto dJ8_vectorizedHashCode_54 (by decide)
theorem s_J8_vectorizedHashCode_57 : Snd PG.nam M188 57 (m_aload 0 58) := snd_aload_n dJ8_vectorizedHashCode_57 rfl
theorem s_J8_vectorizedHashCode_61 : Snd PG.nam M188 61 (m_ifz (fun x => if x = 0 then 77 else 64)) := snd_if_eq dJ8_vectorizedHashCode_61 (by decide)
theorem s_J8_vectorizedHashCode_64 : Snd PG.nam M188 64 (m_iload 3 65) := snd_iload_n dJ8_vectorizedHashCode_64 rfl
theorem s_J8_vectorizedHashCode_65 : Snd PG.nam M188 65 (m_aload 0 66) := snd_aload_n dJ8_vectorizedHashCode_65 rfl
theorem s_J8_vectorizedHashCode_66 : Snd PG.nam M188 66 (m_castB 69) := snd_castB dJ8_vectorizedHashCode_66 w829
theorem s_J8_vectorizedHashCode_69 : Snd PG.nam M188 69 (m_iload 1 70) := snd_iload_n dJ8_vectorizedHashCode_69 rfl
theorem s_J8_vectorizedHashCode_70 : Snd PG.nam M188 70 (m_iload 2 71) := snd_iload_n dJ8_vectorizedHashCode_70 rfl
theorem s_J8_vectorizedHashCode_74 : Snd PG.nam M188 74 (m_goto 157) := snd_goto dJ8_vectorizedHashCode_74 (by decide)
theorem s_J8_vectorizedHashCode_77 : Snd PG.nam M188 77 (m_iload 3 78) := snd_iload_n dJ8_vectorizedHashCode_77 rfl
theorem s_J8_vectorizedHashCode_78 : Snd PG.nam M188 78 (m_aload 0 79) := snd_aload_n dJ8_vectorizedHashCode_78 rfl
theorem s_J8_vectorizedHashCode_82 : Snd PG.nam M188 82 (m_iload 1 83) := snd_iload_n dJ8_vectorizedHashCode_82 rfl
theorem s_J8_vectorizedHashCode_83 : Snd PG.nam M188 83 (m_iload 2 84) := snd_iload_n dJ8_vectorizedHashCode_83 rfl
theorem s_J8_vectorizedHashCode_87 : Snd PG.nam M188 87 (m_goto 157) := snd_goto dJ8_vectorizedHashCode_87 (by decide)
theorem s_J8_vectorizedHashCode_90 : Snd PG.nam M188 90 (m_iload 3 91) := snd_iload_n dJ8_vectorizedHashCode_90 rfl
theorem s_J8_vectorizedHashCode_91 : Snd PG.nam M188 91 (m_aload 0 92) := snd_aload_n dJ8_vectorizedHashCode_91 rfl
theorem s_J8_vectorizedHashCode_92 : Snd PG.nam M188 92 (m_castB 95) := snd_castB dJ8_vectorizedHashCode_92 w829
theorem s_J8_vectorizedHashCode_95 : Snd PG.nam M188 95 (m_iload 1 96) := snd_iload_n dJ8_vectorizedHashCode_95 rfl
theorem s_J8_vectorizedHashCode_96 : Snd PG.nam M188 96 (m_iload 2 97) := snd_iload_n dJ8_vectorizedHashCode_96 rfl
theorem s_J8_vectorizedHashCode_100 : Snd PG.nam M188 100 (m_goto 157) := snd_goto dJ8_vectorizedHashCode_100 (by decide)
theorem s_J8_vectorizedHashCode_103 : Snd PG.nam M188 103 (m_iload 3 104) := snd_iload_n dJ8_vectorizedHashCode_103 rfl
theorem s_J8_vectorizedHashCode_104 : Snd PG.nam M188 104 (m_aload 0 105) := snd_aload_n dJ8_vectorizedHashCode_104 rfl
theorem s_J8_vectorizedHashCode_108 : Snd PG.nam M188 108 (m_iload 1 109) := snd_iload_n dJ8_vectorizedHashCode_108 rfl
theorem s_J8_vectorizedHashCode_109 : Snd PG.nam M188 109 (m_iload 2 110) := snd_iload_n dJ8_vectorizedHashCode_109 rfl
theorem s_J8_vectorizedHashCode_113 : Snd PG.nam M188 113 (m_goto 157) := snd_goto dJ8_vectorizedHashCode_113 (by decide)
theorem s_J8_vectorizedHashCode_116 : Snd PG.nam M188 116 (m_iload 3 117) := snd_iload_n dJ8_vectorizedHashCode_116 rfl
theorem s_J8_vectorizedHashCode_117 : Snd PG.nam M188 117 (m_aload 0 118) := snd_aload_n dJ8_vectorizedHashCode_117 rfl
theorem s_J8_vectorizedHashCode_121 : Snd PG.nam M188 121 (m_iload 1 122) := snd_iload_n dJ8_vectorizedHashCode_121 rfl
theorem s_J8_vectorizedHashCode_122 : Snd PG.nam M188 122 (m_iload 2 123) := snd_iload_n dJ8_vectorizedHashCode_122 rfl
theorem s_J8_vectorizedHashCode_126 : Snd PG.nam M188 126 (m_goto 157) := snd_goto dJ8_vectorizedHashCode_126 (by decide)
theorem s_J8_vectorizedHashCode_132 : Snd PG.nam M188 132 (m_dup 133) := snd_dup dJ8_vectorizedHashCode_132
theorem s_J8_vectorizedHashCode_133 : Snd PG.nam M188 133 (m_new 22 [.null, .int 0, .int 0, .int 0] 136) := snd_new dJ8_vectorizedHashCode_133 rfl w865 w118 w65 rfl (by decide +kernel)
theorem s_J8_vectorizedHashCode_136 : Snd PG.nam M188 136 (m_dup 137) := snd_dup dJ8_vectorizedHashCode_136
theorem s_J8_vectorizedHashCode_145 : Snd PG.nam M188 145 (m_iload 4 147) := snd_iload dJ8_vectorizedHashCode_145
theorem s_J8_vectorizedHashCode_150 : Snd PG.nam M188 150 (m_callV false [(22, 174)] 0 153) := snd_callV (nam := PG.nam) (List.forall_mem_cons.mpr ⟨dr_V (ym := PG.nam 174) dJ8_vectorizedHashCode_150 (Or.inl w870) mi_174 rfl w408, (fun q hq => absurd hq List.not_mem_nil)⟩) (by decide)
theorem s_J8_vectorizedHashCode_157 : Snd PG.nam M188 157 (m_iret .int) := snd_iret dJ8_vectorizedHashCode_157 rfl
theorem T188 : ∀ q ∈ S188, Snd PG.nam M188 q.1 q.2 := List.forall_mem_cons.mpr ⟨s_J8_vectorizedHashCode_0, List.forall_mem_cons.mpr ⟨s_J8_vectorizedHashCode_2, List.forall_mem_cons.mpr ⟨s_J8_vectorizedHashCode_44, List.forall_mem_cons.mpr ⟨s_J8_vectorizedHashCode_45, List.forall_mem_cons.mpr ⟨s_J8_vectorizedHashCode_46, List.forall_mem_cons.mpr ⟨s_J8_vectorizedHashCode_49, List.forall_mem_cons.mpr ⟨s_J8_vectorizedHashCode_50, List.forall_mem_cons.mpr ⟨s_J8_vectorizedHashCode_51, List.forall_mem_cons.mpr ⟨s_J8_vectorizedHashCode_54, List.forall_mem_cons.mpr ⟨s_J8_vectorizedHashCode_57, List.forall_mem_cons.mpr ⟨s_J8_vectorizedHashCode_61, List.forall_mem_cons.mpr ⟨s_J8_vectorizedHashCode_64, List.forall_mem_cons.mpr ⟨s_J8_vectorizedHashCode_65, List.forall_mem_cons.mpr ⟨s_J8_vectorizedHashCode_66, List.forall_mem_cons.mpr ⟨s_J8_vectorizedHashCode_69, List.forall_mem_cons.mpr ⟨s_J8_vectorizedHashCode_70, List.forall_mem_cons.mpr ⟨s_J8_vectorizedHashCode_74, List.forall_mem_cons.mpr ⟨s_J8_vectorizedHashCode_77, List.forall_mem_cons.mpr ⟨s_J8_vectorizedHashCode_78, List.forall_mem_cons.mpr ⟨s_J8_vectorizedHashCode_82, List.forall_mem_cons.mpr ⟨s_J8_vectorizedHashCode_83, List.forall_mem_cons.mpr ⟨s_J8_vectorizedHashCode_87, List.forall_mem_cons.mpr ⟨s_J8_vectorizedHashCode_90, List.forall_mem_cons.mpr ⟨s_J8_vectorizedHashCode_91, List.forall_mem_cons.mpr ⟨s_J8_vectorizedHashCode_92, List.forall_mem_cons.mpr ⟨s_J8_vectorizedHashCode_95, List.forall_mem_cons.mpr ⟨s_J8_vectorizedHashCode_96, List.forall_mem_cons.mpr ⟨s_J8_vectorizedHashCode_100, List.forall_mem_cons.mpr ⟨s_J8_vectorizedHashCode_103, List.forall_mem_cons.mpr ⟨s_J8_vectorizedHashCode_104, List.forall_mem_cons.mpr ⟨s_J8_vectorizedHashCode_108, List.forall_mem_cons.mpr ⟨s_J8_vectorizedHashCode_109, List.forall_mem_cons.mpr ⟨s_J8_vectorizedHashCode_113, List.forall_mem_cons.mpr ⟨s_J8_vectorizedHashCode_116, List.forall_mem_cons.mpr ⟨s_J8_vectorizedHashCode_117, List.forall_mem_cons.mpr ⟨s_J8_vectorizedHashCode_121, List.forall_mem_cons.mpr ⟨s_J8_vectorizedHashCode_122, List.forall_mem_cons.mpr ⟨s_J8_vectorizedHashCode_126, List.forall_mem_cons.mpr ⟨s_J8_vectorizedHashCode_132, List.forall_mem_cons.mpr ⟨s_J8_vectorizedHashCode_133, List.forall_mem_cons.mpr ⟨s_J8_vectorizedHashCode_136, List.forall_mem_cons.mpr ⟨s_J8_vectorizedHashCode_145, List.forall_mem_cons.mpr ⟨s_J8_vectorizedHashCode_150, List.forall_mem_cons.mpr ⟨s_J8_vectorizedHashCode_157, (fun q hq => absurd hq List.not_mem_nil)⟩⟩⟩⟩⟩⟩⟩⟩⟩⟩⟩⟩⟩⟩⟩⟩⟩⟩⟩⟩⟩⟩⟩⟩⟩⟩⟩⟩⟩⟩⟩⟩⟩⟩⟩⟩⟩⟩⟩⟩⟩⟩⟩⟩
theorem s_J8_signedHashCode_0 : Snd PG.nam M189 0 (m_iload 2 1) := snd_iload_n dJ8_signedHashCode_0 rfl
theorem s_J8_signedHashCode_1 : Snd PG.nam M189 1 (m_iload 3 2) := snd_iload_n dJ8_signedHashCode_1 rfl
theorem s_J8_signedHashCode_2 : Snd PG.nam M189 2 (m_ibin (fun a b => a + b) 3) := snd_iadd dJ8_signedHashCode_2
theorem s_J8_signedHashCode_3 : Snd PG.nam M189 3 (m_istore 4 5) := snd_istore dJ8_signedHashCode_3 (by decide)
theorem s_J8_signedHashCode_5 : Snd PG.nam M189 5 (m_iload 2 6) := snd_iload_n dJ8_signedHashCode_5 rfl
theorem s_J8_signedHashCode_6 : Snd PG.nam M189 6 (m_istore 5 8) := snd_istore dJ8_signedHashCode_6 (by decide)
theorem s_J8_signedHashCode_8 : Snd PG.nam M189 8 (m_iload 5 10) := snd_iload dJ8_signedHashCode_8
theorem s_J8_signedHashCode_10 : Snd PG.nam M189 10 (m_iload 4 12) := snd_iload dJ8_signedHashCode_10
theorem s_J8_signedHashCode_12 : Snd PG.nam M189 12 (m_icmp (fun x z => if x < z then 15 else 35)) := snd_icmp_ge dJ8_signedHashCode_12 (by decide)
theorem s_J8_signedHashCode_15 : Snd PG.nam M189 15 (m_const (.int (nI 31)) 17) := snd_bipush dJ8_signedHashCode_15 (by decide)
theorem s_J8_signedHashCode_17 : Snd PG.nam M189 17 (m_iload 0 18) := snd_iload_n dJ8_signedHashCode_17 rfl
theorem s_J8_signedHashCode_18 : Snd PG.nam M189 18 (m_ibin (fun a b => a * b) 19) := snd_imul dJ8_signedHashCode_18
theorem s_J8_signedHashCode_19 : Snd PG.nam M189 19 (m_aload 1 20) := snd_aload_n dJ8_signedHashCode_19 rfl
theorem s_J8_signedHashCode_20 : Snd PG.nam M189 20 (m_iload 5 22) := snd_iload dJ8_signedHashCode_20
theorem s_J8_signedHashCode_22 : Snd PG.nam M189 22 (m_iald [.byte, .boolean] 23) := snd_bald dJ8_signedHashCode_22
theorem s_J8_signedHashCode_23 : Snd PG.nam M189 23 (m_const (.int (nI 255)) 26) := snd_sipush dJ8_signedHashCode_23 (by decide)
theorem s_J8_signedHashCode_26 : Snd PG.nam M189 26 (m_ibin (fun a b => a &&& b) 27) := snd_iand dJ8_signedHashCode_26
theorem s_J8_signedHashCode_27 : Snd PG.nam M189 27 (m_ibin (fun a b => a + b) 28) := snd_iadd dJ8_signedHashCode_27
theorem s_J8_signedHashCode_28 : Snd PG.nam M189 28 (m_istore 0 29) := snd_istore_n dJ8_signedHashCode_28 rfl (by decide)
theorem s_J8_signedHashCode_29 : Snd PG.nam M189 29 (m_iinc 5 (nI 1) 32) := snd_iinc dJ8_signedHashCode_29 (by decide) (by decide)
theorem s_J8_signedHashCode_32 : Snd PG.nam M189 32 (m_goto 8) := snd_goto dJ8_signedHashCode_32 (by decide)
theorem s_J8_signedHashCode_35 : Snd PG.nam M189 35 (m_iload 0 36) := snd_iload_n dJ8_signedHashCode_35 rfl
theorem s_J8_signedHashCode_36 : Snd PG.nam M189 36 (m_iret .int) := snd_iret dJ8_signedHashCode_36 rfl
theorem T189 : ∀ q ∈ S189, Snd PG.nam M189 q.1 q.2 := List.forall_mem_cons.mpr ⟨s_J8_signedHashCode_0, List.forall_mem_cons.mpr ⟨s_J8_signedHashCode_1, List.forall_mem_cons.mpr ⟨s_J8_signedHashCode_2, List.forall_mem_cons.mpr ⟨s_J8_signedHashCode_3, List.forall_mem_cons.mpr ⟨s_J8_signedHashCode_5, List.forall_mem_cons.mpr ⟨s_J8_signedHashCode_6, List.forall_mem_cons.mpr ⟨s_J8_signedHashCode_8, List.forall_mem_cons.mpr ⟨s_J8_signedHashCode_10, List.forall_mem_cons.mpr ⟨s_J8_signedHashCode_12, List.forall_mem_cons.mpr ⟨s_J8_signedHashCode_15, List.forall_mem_cons.mpr ⟨s_J8_signedHashCode_17, List.forall_mem_cons.mpr ⟨s_J8_signedHashCode_18, List.forall_mem_cons.mpr ⟨s_J8_signedHashCode_19, List.forall_mem_cons.mpr ⟨s_J8_signedHashCode_20, List.forall_mem_cons.mpr ⟨s_J8_signedHashCode_22, List.forall_mem_cons.mpr ⟨s_J8_signedHashCode_23, List.forall_mem_cons.mpr ⟨s_J8_signedHashCode_26, List.forall_mem_cons.mpr ⟨s_J8_signedHashCode_27, List.forall_mem_cons.mpr ⟨s_J8_signedHashCode_28, List.forall_mem_cons.mpr ⟨s_J8_signedHashCode_29, List.forall_mem_cons.mpr ⟨s_J8_signedHashCode_32, List.forall_mem_cons.mpr ⟨s_J8_signedHashCode_35, List.forall_mem_cons.mpr ⟨s_J8_signedHashCode_36, (fun q hq => absurd hq List.not_mem_nil)⟩⟩⟩⟩⟩⟩⟩⟩⟩⟩⟩⟩⟩⟩⟩⟩⟩⟩⟩⟩⟩⟩⟩
theorem s_J9_min_0 : Snd PG.nam M190 0 (m_iload 0 1) := snd_iload_n dJ9_min_0 rfl
theorem s_J9_min_1 : Snd PG.nam M190 1 (m_iload 1 2) := snd_iload_n dJ9_min_1 rfl
theorem s_J9_min_2 : Snd PG.nam M190 2 (m_icmp (fun x z => if z < x then 9 else 5)) := snd_icmp_gt dJ9_min_2 (by decide)
theorem s_J9_min_5 : Snd PG.nam M190 5 (m_iload 0 6) := snd_iload_n dJ9_min_5 rfl
theorem s_J9_min_6 : Snd PG.nam M190 6 (m_goto 10) := snd_goto dJ9_min_6 (by decide)
theorem s_J9_min_9 : Snd PG.nam M190 9 (m_iload 1 10) := snd_iload_n dJ9_min_9 rfl
theorem s_J9_min_10 : Snd PG.nam M190 10 (m_iret .int) := snd_iret dJ9_min_10 rfl
theorem T190 : ∀ q ∈ S190, Snd PG.nam M190 q.1 q.2 := List.forall_mem_cons.mpr ⟨s_J9_min_0, List.forall_mem_cons.mpr ⟨s_J9_min_1, List.forall_mem_cons.mpr ⟨s_J9_min_2, List.forall_mem_cons.mpr ⟨s_J9_min_5, List.forall_mem_cons.mpr ⟨s_J9_min_6, List.forall_mem_cons.mpr ⟨s_J9_min_9, List.forall_mem_cons.mpr ⟨s_J9_min_10, (fun q hq => absurd hq List.not_mem_nil)⟩⟩⟩⟩⟩⟩⟩
theorem s_J10_copyOfRange_0 : Snd PG.nam M191 0 (m_iload 1 1) := snd_iload_n dJ10_copyOfRange_0 rfl
theorem s_J10_copyOfRange_1 : Snd PG.nam M191 1 (m_ifz (fun x => if x = 0 then 4 else 10)) := snd_if_ne dJ10_copyOfRange_1 (by decide)
theorem s_J10_copyOfRange_4 : Snd PG.nam M191 4 (m_iload 2 5) := snd_iload_n dJ10_copyOfRange_4 rfl
theorem s_J10_copyOfRange_5 : Snd PG.nam M191 5 (m_aload 0 6) := snd_aload_n dJ10_copyOfRange_5 rfl
theorem s_J10_copyOfRange_6 : Snd PG.nam M191 6 (m_alen 7) := snd_alen dJ10_copyOfRange_6
theorem s_J10_copyOfRange_7 : Snd PG.nam M191 7 (m_icmp (fun x z => if x = z then 17 else 10)) := snd_icmp_eq dJ10_copyOfRange_7 (by decide)
theorem s_J10_copyOfRange_10 : Snd PG.nam M191 10 (m_aload 0 11) := snd_aload_n dJ10_copyOfRange_10 rfl
theorem s_J10_copyOfRange_11 : Snd PG.nam M191 11 (m_iload 1 12) := snd_iload_n dJ10_copyOfRange_11 rfl
theorem s_J10_copyOfRange_12 : Snd PG.nam M191 12 (m_iload 2 13) := snd_iload_n dJ10_copyOfRange_12 rfl
theorem s_J10_copyOfRange_13 : Snd PG.nam M191 13 (m_callS false 192 3 16) := snd_callS (nam := PG.nam) (yy := 192) dJ10_copyOfRange_13 (Or.inl w429) w430 ⟨by decide, by decide +kernel⟩ (by decide)
theorem s_J10_copyOfRange_16 : Snd PG.nam M191 16 (m_aret) := snd_aret dJ10_copyOfRange_16 rfl (Or.inr ⟨_, rfl⟩)
theorem s_J10_copyOfRange_17 : Snd PG.nam M191 17 (m_aload 0 18) := snd_aload_n dJ10_copyOfRange_17 rfl
theorem s_J10_copyOfRange_18 : Snd PG.nam M191 18 (m_clone 21) := snd_clone dJ10_copyOfRange_18 w338 w339 w340 w341 w342 w343
theorem s_J10_copyOfRange_21 : Snd PG.nam M191 21 (m_castB 24) := snd_castB dJ10_copyOfRange_21 w344
theorem s_J10_copyOfRange_24 : Snd PG.nam M191 24 (m_aret) := snd_aret dJ10_copyOfRange_24 rfl (Or.inr ⟨_, rfl⟩)
theorem T191 : ∀ q ∈ S191, Snd PG.nam M191 q.1 q.2 := List.forall_mem_cons.mpr ⟨s_J10_copyOfRange_0, List.forall_mem_cons.mpr ⟨s_J10_copyOfRange_1, List.forall_mem_cons.mpr ⟨s_J10_copyOfRange_4, List.forall_mem_cons.mpr ⟨s_J10_copyOfRange_5, List.forall_mem_cons.mpr ⟨s_J10_copyOfRange_6, List.forall_mem_cons.mpr ⟨s_J10_copyOfRange_7, List.forall_mem_cons.mpr ⟨s_J10_copyOfRange_10, List.forall_mem_cons.mpr ⟨s_J10_copyOfRange_11, List.forall_mem_cons.mpr ⟨s_J10_copyOfRange_12, List.forall_mem_cons.mpr ⟨s_J10_copyOfRange_13, List.forall_mem_cons.mpr ⟨s_J10_copyOfRange_16, List.forall_mem_cons.mpr ⟨s_J10_copyOfRange_17, List.forall_mem_cons.mpr ⟨s_J10_copyOfRange_18, List.forall_mem_cons.mpr ⟨s_J10_copyOfRange_21, List.forall_mem_cons.mpr ⟨s_J10_copyOfRange_24, (fun q hq => absurd hq List.not_mem_nil)⟩⟩⟩⟩⟩⟩⟩⟩⟩⟩⟩⟩⟩⟩⟩
theorem s_J10_copyOfRangeByte_0 : Snd PG.nam M192 0 (m_iload 1 1) := snd_iload_n dJ10_copyOfRangeByte_0 rfl
theorem s_J10_copyOfRangeByte_1 : Snd PG.nam M192 1 (m_iload 2 2) := snd_iload_n dJ10_copyOfRangeByte_1 rfl
theorem s_J10_copyOfRangeByte_2 : Snd PG.nam M192 2 (m_callS true 193 2 5) := snd_callS (nam := PG.nam) (yy := 193) dJ10_copyOfRangeByte_2 (Or.inl w432) w433 ⟨by decide, by decide +kernel⟩ (by decide)
theorem s_J10_copyOfRangeByte_5 : Snd PG.nam M192 5 (m_iload 2 6) := snd_iload_n dJ10_copyOfRangeByte_5 rfl
theorem s_J10_copyOfRangeByte_6 : Snd PG.nam M192 6 (m_iload 1 7) := snd_iload_n dJ10_copyOfRangeByte_6 rfl
theorem s_J10_copyOfRangeByte_7 : Snd PG.nam M192 7 (m_ibin (fun a b => a - b) 8) := snd_isub dJ10_copyOfRangeByte_7
theorem s_J10_copyOfRangeByte_8 : Snd PG.nam M192 8 (m_istore 3 9) := snd_istore_n dJ10_copyOfRangeByte_8 rfl (by decide)
theorem s_J10_copyOfRangeByte_9 : Snd PG.nam M192 9 (m_iload 3 10) := snd_iload_n dJ10_copyOfRangeByte_9 rfl
theorem s_J10_copyOfRangeByte_10 : Snd PG.nam M192 10 (m_newa .byte 12) := snd_newa dJ10_copyOfRangeByte_10 w149 rfl (by decide)
theorem s_J10_copyOfRangeByte_12 : Snd PG.nam M192 12 (m_astore 4 14) := snd_astore dJ10_copyOfRangeByte_12 (by decide)
theorem s_J10_copyOfRangeByte_14 : Snd PG.nam M192 14 (m_aload 0 15) := snd_aload_n dJ10_copyOfRangeByte_14 rfl
theorem s_J10_copyOfRangeByte_15 : Snd PG.nam M192 15 (m_iload 1 16) := snd_iload_n dJ10_copyOfRangeByte_15 rfl
theorem s_J10_copyOfRangeByte_16 : Snd PG.nam M192 16 (m_aload 4 18) := snd_aload dJ10_copyOfRangeByte_16
theorem s_J10_copyOfRangeByte_18 : Snd PG.nam M192 18 (m_const (.int (nI 0)) 19) := snd_iconst dJ10_copyOfRangeByte_18 (by decide)
theorem s_J10_copyOfRangeByte_19 : Snd PG.nam M192 19 (m_aload 0 20) := snd_aload_n dJ10_copyOfRangeByte_19 rfl
theorem s_J10_copyOfRangeByte_20 : Snd PG.nam M192 20 (m_alen 21) := snd_alen dJ10_copyOfRangeByte_20
theorem s_J10_copyOfRangeByte_21 : Snd PG.nam M192 21 (m_iload 1 22) := snd_iload_n dJ10_copyOfRangeByte_21 rfl
theorem s_J10_copyOfRangeByte_22 : Snd PG.nam M192 22 (m_ibin (fun a b => a - b) 23) := snd_isub dJ10_copyOfRangeByte_22
theorem s_J10_copyOfRangeByte_23 : Snd PG.nam M192 23 (m_iload 3 24) := snd_iload_n dJ10_copyOfRangeByte_23 rfl
theorem s_J10_copyOfRangeByte_24 : Snd PG.nam M192 24 (m_callS false 190 2 27) := snd_callS (nam := PG.nam) (yy := 190) dJ10_copyOfRangeByte_24 (Or.inl w345) w346 ⟨by decide, by decide +kernel⟩ (by decide)
theorem s_J10_copyOfRangeByte_27 : Snd PG.nam M192 27 (m_acopy 30) := snd_acopy dJ10_copyOfRangeByte_27 w348 w350 w349 w79
theorem s_J10_copyOfRangeByte_30 : Snd PG.nam M192 30 (m_aload 4 32) := snd_aload dJ10_copyOfRangeByte_30
theorem s_J10_copyOfRangeByte_32 : Snd PG.nam M192 32 (m_aret) := snd_aret dJ10_copyOfRangeByte_32 rfl (Or.inr ⟨_, rfl⟩)
theorem T192 : ∀ q ∈ S192, Snd PG.nam M192 q.1 q.2 := List.forall_mem_cons.mpr ⟨s_J10_copyOfRangeByte_0, List.forall_mem_cons.mpr ⟨s_J10_copyOfRangeByte_1, List.forall_mem_cons.mpr ⟨s_J10_copyOfRangeByte_2, List.forall_mem_cons.mpr ⟨s_J10_copyOfRangeByte_5, List.forall_mem_cons.mpr ⟨s_J10_copyOfRangeByte_6, List.forall_mem_cons.mpr ⟨s_J10_copyOfRangeByte_7, List.forall_mem_cons.mpr ⟨s_J10_copyOfRangeByte_8, List.forall_mem_cons.mpr ⟨s_J10_copyOfRangeByte_9, List.forall_mem_cons.mpr ⟨s_J10_copyOfRangeByte_10, List.forall_mem_cons.mpr ⟨s_J10_copyOfRangeByte_12, List.forall_mem_cons.mpr ⟨s_J10_copyOfRangeByte_14, List.forall_mem_cons.mpr ⟨s_J10_copyOfRangeByte_15, List.forall_mem_cons.mpr ⟨s_J10_copyOfRangeByte_16, List.forall_mem_cons.mpr ⟨s_J10_copyOfRangeByte_18, List.forall_mem_cons.mpr ⟨s_J10_copyOfRangeByte_19, List.forall_mem_cons.mpr ⟨s_J10_copyOfRangeByte_20, List.forall_mem_cons.mpr ⟨s_J10_copyOfRangeByte_21, List.forall_mem_cons.mpr ⟨s_J10_copyOfRangeByte_22, List.forall_mem_cons.mpr ⟨s_J10_copyOfRangeByte_23, List.forall_mem_cons.mpr ⟨s_J10_copyOfRangeByte_24, List.forall_mem_cons.mpr ⟨s_J10_copyOfRangeByte_27, List.forall_mem_cons.mpr ⟨s_J10_copyOfRangeByte_30, List.forall_mem_cons.mpr ⟨s_J10_copyOfRangeByte_32, (fun q hq => absurd hq List.not_mem_nil)⟩⟩⟩⟩⟩⟩⟩⟩⟩⟩⟩⟩⟩⟩⟩⟩⟩⟩⟩⟩⟩⟩⟩
theorem s_J10_checkLength_0 : Snd PG.nam M193 0 (m_iload 1 1) := snd_iload_n dJ10_checkLength_0 rfl
theorem s_J10_checkLength_1 : Snd PG.nam M193 1 (m_iload 0 2) := snd_iload_n dJ10_checkLength_1 rfl
theorem s_J10_checkLength_2 : Snd PG.nam M193 2 (m_icmp (fun x z => if x < z then 5 else 37)) := snd_icmp_ge dJ10_checkLength_2 (by decide)
theorem s_J10_checkLength_8 : Snd PG.nam M193 8 (m_dup 9) := snd_dup dJ10_checkLength_8
theorem s_J10_checkLength_9 : Snd PG.nam M193 9 (m_new 22 [.null, .int 0, .int 0, .int 0] 12) := snd_new dJ10_checkLength_9 rfl w436 w118 w65 rfl (by decide +kernel)
theorem s_J10_checkLength_12 : Snd PG.nam M193 12 (m_dup 13) := snd_dup dJ10_checkLength_12
theorem s_J10_checkLength_16 : Snd PG.nam M193 16 (m_iload 0 17) := snd_iload_n dJ10_checkLength_16 rfl
theorem s_J10_checkLength_26 : Snd PG.nam M193 26 (m_iload 1 27) := snd_iload_n dJ10_checkLength_26 rfl
theorem s_J10_checkLength_30 : Snd PG.nam M193 30 (m_callV false [(22, 174)] 0 33) := snd_callV (nam := PG.nam) (List.forall_mem_cons.mpr ⟨dr_V (ym := PG.nam 174) dJ10_checkLength_30 (Or.inl w513) mi_174 rfl w408, (fun q hq => absurd hq List.not_mem_nil)⟩) (by decide)
theorem s_J10_checkLength_37 : Snd PG.nam M193 37 (m_vret) := snd_vret dJ10_checkLength_37 rfl
theorem T193 : ∀ q ∈ S193, Snd PG.nam M193 q.1 q.2 := List.forall_mem_cons.mpr ⟨s_J10_checkLength_0, List.forall_mem_cons.mpr ⟨s_J10_checkLength_1, List.forall_mem_cons.mpr ⟨s_J10_checkLength_2, List.forall_mem_cons.mpr ⟨s_J10_checkLength_8, List.forall_mem_cons.mpr ⟨s_J10_checkLength_9, List.forall_mem_cons.mpr ⟨s_J10_checkLength_12, List.forall_mem_cons.mpr ⟨s_J10_checkLength_16, List.forall_mem_cons.mpr ⟨s_J10_checkLength_26, List.forall_mem_cons.mpr ⟨s_J10_checkLength_30, List.forall_mem_cons.mpr ⟨s_J10_checkLength_37, (fun q hq => absurd hq List.not_mem_nil)⟩⟩⟩⟩⟩⟩⟩⟩⟩⟩
theorem s_J11_canEncode_0 : Snd PG.nam M194 0 (m_iload 0 1) := snd_iload_n dJ11_canEncode_0 rfl
theorem s_J11_canEncode_1 : Snd PG.nam M194 1 (m_const (.int (nI 255)) 4) := snd_sipush dJ11_canEncode_1 (by decide)
theorem s_J11_canEncode_4 : Snd PG.nam M194 4 (m_icmp (fun x z => if z < x then 11 else 7)) := snd_icmp_gt dJ11_canEncode_4 (by decide)
theorem s_J11_canEncode_7 : Snd PG.nam M194 7 (m_const (.int (nI 1)) 8) := snd_iconst dJ11_canEncode_7 (by decide)
theorem s_J11_canEncode_8 : Snd PG.nam M194 8 (m_goto 12) := snd_goto dJ11_canEncode_8 (by decide)
theorem s_J11_canEncode_11 : Snd PG.nam M194 11 (m_const (.int (nI 0)) 12) := snd_iconst dJ11_canEncode_11 (by decide)
theorem s_J11_canEncode_12 : Snd PG.nam M194 12 (m_iret .boolean) := snd_iret dJ11_canEncode_12 rfl
theorem T194 : ∀ q ∈ S194, Snd PG.nam M194 q.1 q.2 := List.forall_mem_cons.mpr ⟨s_J11_canEncode_0, List.forall_mem_cons.mpr ⟨s_J11_canEncode_1, List.forall_mem_cons.mpr ⟨s_J11_canEncode_4, List.forall_mem_cons.mpr ⟨s_J11_canEncode_7, List.forall_mem_cons.mpr ⟨s_J11_canEncode_8, List.forall_mem_cons.mpr ⟨s_J11_canEncode_11, List.forall_mem_cons.mpr ⟨s_J11_canEncode_12, (fun q hq => absurd hq List.not_mem_nil)⟩⟩⟩⟩⟩⟩⟩
theorem s_J11_equals_0 : Snd PG.nam M195 0 (m_aload 0 1) := snd_aload_n dJ11_equals_0 rfl
theorem s_J11_equals_1 : Snd PG.nam M195 1 (m_alen 2) := snd_alen dJ11_equals_1
theorem s_J11_equals_2 : Snd PG.nam M195 2 (m_aload 1 3) := snd_aload_n dJ11_equals_2 rfl
theorem s_J11_equals_3 : Snd PG.nam M195 3 (m_alen 4) := snd_alen dJ11_equals_3
theorem s_J11_equals_4 : Snd PG.nam M195 4 (m_icmp (fun x z => if x = z then 7 else 34)) := snd_icmp_ne dJ11_equals_4 (by decide)
theorem s_J11_equals_7 : Snd PG.nam M195 7 (m_const (.int (nI 0)) 8) := snd_iconst dJ11_equals_7 (by decide)
theorem s_J11_equals_8 : Snd PG.nam M195 8 (m_istore 2 9) := snd_istore_n dJ11_equals_8 rfl (by decide)
theorem s_J11_equals_9 : Snd PG.nam M195 9 (m_iload 2 10) := snd_iload_n dJ11_equals_9 rfl
theorem s_J11_equals_10 : Snd PG.nam M195 10 (m_aload 0 11) := snd_aload_n dJ11_equals_10 rfl
theorem s_J11_equals_11 : Snd PG.nam M195 11 (m_alen 12) := snd_alen dJ11_equals_11
theorem s_J11_equals_12 : Snd PG.nam M195 12 (m_icmp (fun x z => if x < z then 15 else 32)) := snd_icmp_ge dJ11_equals_12 (by decide)
theorem s_J11_equals_15 : Snd PG.nam M195 15 (m_aload 0 16) := snd_aload_n dJ11_equals_15 rfl
theorem s_J11_equals_16 : Snd PG.nam M195 16 (m_iload 2 17) := snd_iload_n dJ11_equals_16 rfl
theorem s_J11_equals_17 : Snd PG.nam M195 17 (m_iald [.byte, .boolean] 18) := snd_bald dJ11_equals_17
theorem s_J11_equals_18 : Snd PG.nam M195 18 (m_aload 1 19) := snd_aload_n dJ11_equals_18 rfl
theorem s_J11_equals_19 : Snd PG.nam M195 19 (m_iload 2 20) := snd_iload_n dJ11_equals_19 rfl
theorem s_J11_equals_20 : Snd PG.nam M195 20 (m_iald [.byte, .boolean] 21) := snd_bald dJ11_equals_20
theorem s_J11_equals_21 : Snd PG.nam M195 21 (m_icmp (fun x z => if x = z then 26 else 24)) := snd_icmp_eq dJ11_equals_21 (by decide)
theorem s_J11_equals_24 : Snd PG.nam M195 24 (m_const (.int (nI 0)) 25) := snd_iconst dJ11_equals_24 (by decide)
theorem s_J11_equals_25 : Snd PG.nam M195 25 (m_iret .boolean) := snd_iret dJ11_equals_25 rfl
theorem s_J11_equals_26 : Snd PG.nam M195 26 (m_iinc 2 (nI 1) 29) := snd_iinc dJ11_equals_26 (by decide) (by decide)
theorem s_J11_equals_29 : Snd PG.nam M195 29 (m_goto 9) := snd_goto dJ11_equals_29 (by decide)
theorem s_J11_equals_32 : Snd PG.nam M195 32 (m_const (.int (nI 1)) 33) := snd_iconst dJ11_equals_32 (by decide)
theorem s_J11_equals_33 : Snd PG.nam M195 33 (m_iret .boolean) := snd_iret dJ11_equals_33 rfl
theorem s_J11_equals_34 : Snd PG.nam M195 34 (m_const (.int (nI 0)) 35) := snd_iconst dJ11_equals_34 (by decide)
theorem s_J11_equals_35 : Snd PG.nam M195 35 (m_iret .boolean) := snd_iret dJ11_equals_35 rfl
theorem T195 : ∀ q ∈ S195, Snd PG.nam M195 q.1 q.2 := List.forall_mem_cons.mpr ⟨s_J11_equals_0, List.forall_mem_cons.mpr ⟨s_J11_equals_1, List.forall_mem_cons.mpr ⟨s_J11_equals_2, List.forall_mem_cons.mpr ⟨s_J11_equals_3, List.forall_mem_cons.mpr ⟨s_J11_equals_4, List.forall_mem_cons.mpr ⟨s_J11_equals_7, List.forall_mem_cons.mpr ⟨s_J11_equals_8, List.forall_mem_cons.mpr ⟨s_J11_equals_9, List.forall_mem_cons.mpr ⟨s_J11_equals_10, List.forall_mem_cons.mpr ⟨s_J11_equals_11, List.forall_mem_cons.mpr ⟨s_J11_equals_12, List.forall_mem_cons.mpr ⟨s_J11_equals_15, List.forall_mem_cons.mpr ⟨s_J11_equals_16, List.forall_mem_cons.mpr ⟨s_J11_equals_17, List.forall_mem_cons.mpr ⟨s_J11_equals_18, List.forall_mem_cons.mpr ⟨s_J11_equals_19, List.forall_mem_cons.mpr ⟨s_J11_equals_20, List.forall_mem_cons.mpr ⟨s_J11_equals_21, List.forall_mem_cons.mpr ⟨s_J11_equals_24, List.forall_mem_cons.mpr ⟨s_J11_equals_25, List.forall_mem_cons.mpr ⟨s_J11_equals_26, List.forall_mem_cons.mpr ⟨s_J11_equals_29, List.forall_mem_cons.mpr ⟨s_J11_equals_32, List.forall_mem_cons.mpr ⟨s_J11_equals_33, List.forall_mem_cons.mpr ⟨s_J11_equals_34, List.forall_mem_cons.mpr ⟨s_J11_equals_35, (fun q hq => absurd hq List.not_mem_nil)⟩⟩⟩⟩⟩⟩⟩⟩⟩⟩⟩⟩⟩⟩⟩⟩⟩⟩⟩⟩⟩⟩⟩⟩⟩⟩
theorem s_J11_charAt_0 : Snd PG.nam M196 0 (m_iload 1 1) := snd_iload_n dJ11_charAt_0 rfl
theorem s_J11_charAt_1 : Snd PG.nam M196 1 (m_aload 0 2) := snd_aload_n dJ11_charAt_1 rfl
theorem s_J11_charAt_2 : Snd PG.nam M196 2 (m_alen 3) := snd_alen dJ11_charAt_2
theorem s_J11_charAt_3 : Snd PG.nam M196 3 (m_callS true 186 2 6) := snd_callS (nam := PG.nam) (yy := 186) dJ11_charAt_3 (Or.inl w777) w399 ⟨by decide, by decide +kernel⟩ (by decide)
theorem s_J11_charAt_6 : Snd PG.nam M196 6 (m_aload 0 7) := snd_aload_n dJ11_charAt_6 rfl
theorem s_J11_charAt_7 : Snd PG.nam M196 7 (m_iload 1 8) := snd_iload_n dJ11_charAt_7 rfl
theorem s_J11_charAt_8 : Snd PG.nam M196 8 (m_iald [.byte, .boolean] 9) := snd_bald dJ11_charAt_8
theorem s_J11_charAt_9 : Snd PG.nam M196 9 (m_const (.int (nI 255)) 12) := snd_sipush dJ11_charAt_9 (by decide)
theorem s_J11_charAt_12 : Snd PG.nam M196 12 (m_ibin (fun a b => a &&& b) 13) := snd_iand dJ11_charAt_12
theorem s_J11_charAt_13 : Snd PG.nam M196 13 (m_iun (fun a => (a.toUInt32 % 65536).toInt32) 14) := snd_i2c dJ11_charAt_13
theorem s_J11_charAt_14 : Snd PG.nam M196 14 (m_iret .char) := snd_iret dJ11_charAt_14 rfl
theorem T196 : ∀ q ∈ S196, Snd PG.nam M196 q.1 q.2 := List.forall_mem_cons.mpr ⟨s_J11_charAt_0, List.forall_mem_cons.mpr ⟨s_J11_charAt_1, List.forall_mem_cons.mpr ⟨s_J11_charAt_2, List.forall_mem_cons.mpr ⟨s_J11_charAt_3, List.forall_mem_cons.mpr ⟨s_J11_charAt_6, List.forall_mem_cons.mpr ⟨s_J11_charAt_7, List.forall_mem_cons.mpr ⟨s_J11_charAt_8, List.forall_mem_cons.mpr ⟨s_J11_charAt_9, List.forall_mem_cons.mpr ⟨s_J11_charAt_12, List.forall_mem_cons.mpr ⟨s_J11_charAt_13, List.forall_mem_cons.mpr ⟨s_J11_charAt_14, (fun q hq => absurd hq List.not_mem_nil)⟩⟩⟩⟩⟩⟩⟩⟩⟩⟩⟩
theorem s_J11_newString_0 : Snd PG.nam M197 0 (m_iload 2 1) := snd_iload_n dJ11_newString_0 rfl
theorem s_J11_newString_1 : Snd PG.nam M197 1 (m_ifz (fun x => if x = 0 then 4 else 7)) := snd_if_ne dJ11_newString_1 (by decide)
theorem s_J11_newString_4 : Snd PG.nam M197 4 (m_gets (fun Ω => .ref (Ω.k 1)) 6) := snd_ldcS (i := 1) dJ11_newString_4 rfl
theorem s_J11_newString_6 : Snd PG.nam M197 6 (m_aret) := snd_aret dJ11_newString_6 rfl (Or.inl ⟨_, rfl⟩)
theorem s_J11_newString_7 : Snd PG.nam M197 7 (m_new 23 [.null, .int 0, .int 0, .int 0] 10) := snd_new dJ11_newString_7 rfl w802 w411 w66 rfl (by decide +kernel)
theorem s_J11_newString_10 : Snd PG.nam M197 10 (m_dup 11) := snd_dup dJ11_newString_10
theorem s_J11_newString_11 : Snd PG.nam M197 11 (m_aload 0 12) := snd_aload_n dJ11_newString_11 rfl
theorem s_J11_newString_12 : Snd PG.nam M197 12 (m_iload 1 13) := snd_iload_n dJ11_newString_12 rfl
theorem s_J11_newString_13 : Snd PG.nam M197 13 (m_iload 1 14) := snd_iload_n dJ11_newString_13 rfl
theorem s_J11_newString_14 : Snd PG.nam M197 14 (m_iload 2 15) := snd_iload_n dJ11_newString_14 rfl
theorem s_J11_newString_15 : Snd PG.nam M197 15 (m_ibin (fun a b => a + b) 16) := snd_iadd dJ11_newString_15
theorem s_J11_newString_16 : Snd PG.nam M197 16 (m_callS false 191 3 19) := snd_callS (nam := PG.nam) (yy := 191) dJ11_newString_16 (Or.inl w803) w427 ⟨by decide, by decide +kernel⟩ (by decide)
theorem s_J11_newString_19 : Snd PG.nam M197 19 (m_const (.int (nI 0)) 20) := snd_iconst dJ11_newString_19 (by decide)
theorem s_J11_newString_20 : Snd PG.nam M197 20 (m_callI 178 2 23) := snd_callI (nam := PG.nam) (yy := 178) dJ11_newString_20 (Or.inl w804) mi_178 rfl w806 (by decide)
theorem s_J11_newString_23 : Snd PG.nam M197 23 (m_aret) := snd_aret dJ11_newString_23 rfl (Or.inl ⟨_, rfl⟩)
theorem T197 : ∀ q ∈ S197, Snd PG.nam M197 q.1 q.2 := List.forall_mem_cons.mpr ⟨s_J11_newString_0, List.forall_mem_cons.mpr ⟨s_J11_newString_1, List.forall_mem_cons.mpr ⟨s_J11_newString_4, List.forall_mem_cons.mpr ⟨s_J11_newString_6, List.forall_mem_cons.mpr ⟨s_J11_newString_7, List.forall_mem_cons.mpr ⟨s_J11_newString_10, List.forall_mem_cons.mpr ⟨s_J11_newString_11, List.forall_mem_cons.mpr ⟨s_J11_newString_12, List.forall_mem_cons.mpr ⟨s_J11_newString_13, List.forall_mem_cons.mpr ⟨s_J11_newString_14, List.forall_mem_cons.mpr ⟨s_J11_newString_15, List.forall_mem_cons.mpr ⟨s_J11_newString_16, List.forall_mem_cons.mpr ⟨s_J11_newString_19, List.forall_mem_cons.mpr ⟨s_J11_newString_20, List.forall_mem_cons.mpr ⟨s_J11_newString_23, (fun q hq => absurd hq List.not_mem_nil)⟩⟩⟩⟩⟩⟩⟩⟩⟩⟩⟩⟩⟩⟩⟩
