set_option maxRecDepth 100000
theorem s_X2_goOn_0 : Snd PG.nam M64 0 (m_iload 1 1) := snd_iload_n dX2_goOn_0 rfl
theorem s_X2_goOn_1 : Snd PG.nam M64 1 (m_ifz (fun x => if x = 0 then 4 else 8)) := snd_if_ne dX2_goOn_1 (by decide)
theorem s_X2_goOn_4 : Snd PG.nam M64 4 (m_aload 0 5) := snd_aload_n dX2_goOn_4 rfl
theorem s_X2_goOn_5 : Snd PG.nam M64 5 (m_callV true [(1, 65)] 0 8) := snd_callV (nam := PG.nam) (List.forall_mem_cons.mpr ⟨dr_V (ym := PG.nam 65) dX2_goOn_5 (Or.inl w1711) mi_65 rfl (lw_all_tbl qs37), (fun q hq => absurd hq List.not_mem_nil)⟩) (by decide)
theorem s_X2_goOn_8 : Snd PG.nam M64 8 (m_aload 0 9) := snd_aload_n dX2_goOn_8 rfl
theorem s_X2_goOn_9 : Snd PG.nam M64 9 (m_getf [(1, 20)] 12) := snd_getf dX2_goOn_9 fd_X2_220
theorem s_X2_goOn_12 : Snd PG.nam M64 12 (m_ifz (fun x => if x < 0 then 17 else 15)) := snd_if_lt dX2_goOn_12 (by decide)
theorem s_X2_goOn_15 : Snd PG.nam M64 15 (m_const (.int (nI 0)) 16) := snd_iconst dX2_goOn_15 (by decide)
theorem s_X2_goOn_16 : Snd PG.nam M64 16 (m_iret .boolean) := snd_iret dX2_goOn_16 rfl
theorem s_X2_goOn_17 : Snd PG.nam M64 17 (m_aload 0 18) := snd_aload_n dX2_goOn_17 rfl
theorem s_X2_goOn_18 : Snd PG.nam M64 18 (m_callV true [(1, 58)] 0 21) := snd_callV (nam := PG.nam) (List.forall_mem_cons.mpr ⟨dr_V (ym := PG.nam 58) dX2_goOn_18 (Or.inl w1672) mi_58 rfl (lw_all_tbl qs32), (fun q hq => absurd hq List.not_mem_nil)⟩) (by decide)
theorem s_X2_goOn_21 : Snd PG.nam M64 21 (m_const (.int (nI 1)) 22) := snd_iconst dX2_goOn_21 (by decide)
theorem s_X2_goOn_22 : Snd PG.nam M64 22 (m_iret .boolean) := snd_iret dX2_goOn_22 rfl
theorem T64 : ∀ q ∈ S64, Snd PG.nam M64 q.1 q.2 := List.forall_mem_cons.mpr ⟨s_X2_goOn_0, List.forall_mem_cons.mpr ⟨s_X2_goOn_1, List.forall_mem_cons.mpr ⟨s_X2_goOn_4, List.forall_mem_cons.mpr ⟨s_X2_goOn_5, List.forall_mem_cons.mpr ⟨s_X2_goOn_8, List.forall_mem_cons.mpr ⟨s_X2_goOn_9, List.forall_mem_cons.mpr ⟨s_X2_goOn_12, List.forall_mem_cons.mpr ⟨s_X2_goOn_15, List.forall_mem_cons.mpr ⟨s_X2_goOn_16, List.forall_mem_cons.mpr ⟨s_X2_goOn_17, List.forall_mem_cons.mpr ⟨s_X2_goOn_18, List.forall_mem_cons.mpr ⟨s_X2_goOn_21, List.forall_mem_cons.mpr ⟨s_X2_goOn_22, (fun q hq => absurd hq List.not_mem_nil)⟩⟩⟩⟩⟩⟩⟩⟩⟩⟩⟩⟩⟩
theorem s_X2_stop_0 : Snd PG.nam M65 0 (m_aload 0 1) := snd_aload_n dX2_stop_0 rfl
theorem s_X2_stop_1 : Snd PG.nam M65 1 (m_getf [(1, 20)] 4) := snd_getf dX2_stop_1 fd_X2_220
theorem s_X2_stop_4 : Snd PG.nam M65 4 (m_ifz (fun x => if x < 0 then 7 else 29)) := snd_if_ge dX2_stop_4 (by decide)
theorem s_X2_stop_7 : Snd PG.nam M65 7 (m_aload 0 8) := snd_aload_n dX2_stop_7 rfl
theorem s_X2_stop_8 : Snd PG.nam M65 8 (m_aload 0 9) := snd_aload_n dX2_stop_8 rfl
theorem s_X2_stop_9 : Snd PG.nam M65 9 (m_getf [(1, 15)] 12) := snd_getf dX2_stop_9 fd_X2_181
theorem s_X2_stop_12 : Snd PG.nam M65 12 (m_ifz (fun x => if x = 0 then 15 else 22)) := snd_if_ne dX2_stop_12 (by decide)
theorem s_X2_stop_15 : Snd PG.nam M65 15 (m_aload 0 16) := snd_aload_n dX2_stop_15 rfl
theorem s_X2_stop_16 : Snd PG.nam M65 16 (m_getf [(1, 19)] 19) := snd_getf dX2_stop_16 fd_X2_175
theorem s_X2_stop_19 : Snd PG.nam M65 19 (m_goto 26) := snd_goto dX2_stop_19 (by decide)
theorem s_X2_stop_22 : Snd PG.nam M65 22 (m_aload 0 23) := snd_aload_n dX2_stop_22 rfl
theorem s_X2_stop_23 : Snd PG.nam M65 23 (m_getf [(1, 17)] 26) := snd_getf dX2_stop_23 fd_X2_178
theorem s_X2_stop_26 : Snd PG.nam M65 26 (m_putf [(1, 20)] .int 29) := snd_putf dX2_stop_26 fd_X2_220
theorem s_X2_stop_29 : Snd PG.nam M65 29 (m_vret) := snd_vret dX2_stop_29 rfl
theorem T65 : ∀ q ∈ S65, Snd PG.nam M65 q.1 q.2 := List.forall_mem_cons.mpr ⟨s_X2_stop_0, List.forall_mem_cons.mpr ⟨s_X2_stop_1, List.forall_mem_cons.mpr ⟨s_X2_stop_4, List.forall_mem_cons.mpr ⟨s_X2_stop_7, List.forall_mem_cons.mpr ⟨s_X2_stop_8, List.forall_mem_cons.mpr ⟨s_X2_stop_9, List.forall_mem_cons.mpr ⟨s_X2_stop_12, List.forall_mem_cons.mpr ⟨s_X2_stop_15, List.forall_mem_cons.mpr ⟨s_X2_stop_16, List.forall_mem_cons.mpr ⟨s_X2_stop_19, List.forall_mem_cons.mpr ⟨s_X2_stop_22, List.forall_mem_cons.mpr ⟨s_X2_stop_23, List.forall_mem_cons.mpr ⟨s_X2_stop_26, List.forall_mem_cons.mpr ⟨s_X2_stop_29, (fun q hq => absurd hq List.not_mem_nil)⟩⟩⟩⟩⟩⟩⟩⟩⟩⟩⟩⟩⟩⟩
theorem s_X2_readVariable_0 : Snd PG.nam M66 0 (m_const (.int (-1)) 1) := snd_iconst dX2_readVariable_0 (by decide)
theorem s_X2_readVariable_1 : Snd PG.nam M66 1 (m_istore 1 2) := snd_istore_n dX2_readVariable_1 rfl (by decide)
theorem s_X2_readVariable_2 : Snd PG.nam M66 2 (m_const (.int (nI 0)) 3) := snd_iconst dX2_readVariable_2 (by decide)
theorem s_X2_readVariable_3 : Snd PG.nam M66 3 (m_istore 2 4) := snd_istore_n dX2_readVariable_3 rfl (by decide)
theorem s_X2_readVariable_4 : Snd PG.nam M66 4 (m_iload 2 5) := snd_iload_n dX2_readVariable_4 rfl
theorem s_X2_readVariable_5 : Snd PG.nam M66 5 (m_aload 0 6) := snd_aload_n dX2_readVariable_5 rfl
theorem s_X2_readVariable_6 : Snd PG.nam M66 6 (m_getf [(1, 24)] 9) := snd_getf dX2_readVariable_6 fd_X2_229
theorem s_X2_readVariable_9 : Snd PG.nam M66 9 (m_icmp (fun x z => if x < z then 12 else 34)) := snd_icmp_ge dX2_readVariable_9 (by decide)
theorem s_X2_readVariable_12 : Snd PG.nam M66 12 (m_aload 0 13) := snd_aload_n dX2_readVariable_12 rfl
theorem s_X2_readVariable_13 : Snd PG.nam M66 13 (m_getf [(1, 23)] 16) := snd_getf dX2_readVariable_13 fd_X2_34
theorem s_X2_readVariable_16 : Snd PG.nam M66 16 (m_iload 2 17) := snd_iload_n dX2_readVariable_16 rfl
theorem s_X2_readVariable_17 : Snd PG.nam M66 17 (m_lald 18) := snd_lald dX2_readVariable_17
theorem s_X2_readVariable_18 : Snd PG.nam M66 18 (m_aload 0 19) := snd_aload_n dX2_readVariable_18 rfl
theorem s_X2_readVariable_19 : Snd PG.nam M66 19 (m_getf [(1, 16)] 22) := snd_getf dX2_readVariable_19 fd_X2_164
theorem s_X2_readVariable_22 : Snd PG.nam M66 22 (m_lcmp 23) := snd_lcmp dX2_readVariable_22
theorem s_X2_readVariable_23 : Snd PG.nam M66 23 (m_ifz (fun x => if x = 0 then 26 else 28)) := snd_if_ne dX2_readVariable_23 (by decide)
theorem s_X2_readVariable_26 : Snd PG.nam M66 26 (m_iload 2 27) := snd_iload_n dX2_readVariable_26 rfl
theorem s_X2_readVariable_27 : Snd PG.nam M66 27 (m_istore 1 28) := snd_istore_n dX2_readVariable_27 rfl (by decide)
theorem s_X2_readVariable_28 : Snd PG.nam M66 28 (m_iinc 2 (nI 1) 31) := snd_iinc dX2_readVariable_28 (by decide) (by decide)
theorem s_X2_readVariable_31 : Snd PG.nam M66 31 (m_goto 4) := snd_goto dX2_readVariable_31 (by decide)
theorem s_X2_readVariable_34 : Snd PG.nam M66 34 (m_aload 0 35) := snd_aload_n dX2_readVariable_34 rfl
theorem s_X2_readVariable_35 : Snd PG.nam M66 35 (m_getf [(1, 15)] 38) := snd_getf dX2_readVariable_35 fd_X2_181
theorem s_X2_readVariable_38 : Snd PG.nam M66 38 (m_const (.int (nI 3)) 39) := snd_iconst dX2_readVariable_38 (by decide)
theorem s_X2_readVariable_39 : Snd PG.nam M66 39 (m_icmp (fun x z => if x = z then 42 else 83)) := snd_icmp_ne dX2_readVariable_39 (by decide)
theorem s_X2_readVariable_42 : Snd PG.nam M66 42 (m_iload 1 43) := snd_iload_n dX2_readVariable_42 rfl
theorem s_X2_readVariable_43 : Snd PG.nam M66 43 (m_ifz (fun x => if x < 0 then 46 else 83)) := snd_if_ge dX2_readVariable_43 (by decide)
theorem s_X2_readVariable_46 : Snd PG.nam M66 46 (m_aload 0 47) := snd_aload_n dX2_readVariable_46 rfl
theorem s_X2_readVariable_47 : Snd PG.nam M66 47 (m_getf [(1, 24)] 50) := snd_getf dX2_readVariable_47 fd_X2_229
theorem s_X2_readVariable_50 : Snd PG.nam M66 50 (m_const (.int (nI 6)) 52) := snd_bipush dX2_readVariable_50 (by decide)
theorem s_X2_readVariable_52 : Snd PG.nam M66 52 (m_icmp (fun x z => if x < z then 55 else 83)) := snd_icmp_ge dX2_readVariable_52 (by decide)
theorem s_X2_readVariable_55 : Snd PG.nam M66 55 (m_aload 0 56) := snd_aload_n dX2_readVariable_55 rfl
theorem s_X2_readVariable_56 : Snd PG.nam M66 56 (m_getf [(1, 23)] 59) := snd_getf dX2_readVariable_56 fd_X2_34
theorem s_X2_readVariable_59 : Snd PG.nam M66 59 (m_aload 0 60) := snd_aload_n dX2_readVariable_59 rfl
theorem s_X2_readVariable_60 : Snd PG.nam M66 60 (m_getf [(1, 24)] 63) := snd_getf dX2_readVariable_60 fd_X2_229
theorem s_X2_readVariable_63 : Snd PG.nam M66 63 (m_aload 0 64) := snd_aload_n dX2_readVariable_63 rfl
theorem s_X2_readVariable_64 : Snd PG.nam M66 64 (m_getf [(1, 16)] 67) := snd_getf dX2_readVariable_64 fd_X2_164
theorem s_X2_readVariable_67 : Snd PG.nam M66 67 (m_last 68) := snd_last dX2_readVariable_67
theorem s_X2_readVariable_68 : Snd PG.nam M66 68 (m_aload 0 69) := snd_aload_n dX2_readVariable_68 rfl
theorem s_X2_readVariable_69 : Snd PG.nam M66 69 (m_getf [(1, 24)] 72) := snd_getf dX2_readVariable_69 fd_X2_229
theorem s_X2_readVariable_72 : Snd PG.nam M66 72 (m_istore 1 73) := snd_istore_n dX2_readVariable_72 rfl (by decide)
theorem s_X2_readVariable_73 : Snd PG.nam M66 73 (m_aload 0 74) := snd_aload_n dX2_readVariable_73 rfl
theorem s_X2_readVariable_74 : Snd PG.nam M66 74 (m_dup 75) := snd_dup dX2_readVariable_74
theorem s_X2_readVariable_75 : Snd PG.nam M66 75 (m_getf [(1, 24)] 78) := snd_getf dX2_readVariable_75 fd_X2_229
theorem s_X2_readVariable_78 : Snd PG.nam M66 78 (m_const (.int (nI 1)) 79) := snd_iconst dX2_readVariable_78 (by decide)
theorem s_X2_readVariable_79 : Snd PG.nam M66 79 (m_ibin (fun a b => a + b) 80) := snd_iadd dX2_readVariable_79
theorem s_X2_readVariable_80 : Snd PG.nam M66 80 (m_putf [(1, 24)] .int 83) := snd_putf dX2_readVariable_80 fd_X2_229
theorem s_X2_readVariable_83 : Snd PG.nam M66 83 (m_aload 0 84) := snd_aload_n dX2_readVariable_83 rfl
theorem s_X2_readVariable_84 : Snd PG.nam M66 84 (m_aload 0 85) := snd_aload_n dX2_readVariable_84 rfl
theorem s_X2_readVariable_85 : Snd PG.nam M66 85 (m_getf [(1, 15)] 88) := snd_getf dX2_readVariable_85 fd_X2_181
theorem s_X2_readVariable_88 : Snd PG.nam M66 88 (m_const (.int (nI 3)) 89) := snd_iconst dX2_readVariable_88 (by decide)
theorem s_X2_readVariable_89 : Snd PG.nam M66 89 (m_icmp (fun x z => if x = z then 92 else 100)) := snd_icmp_ne dX2_readVariable_89 (by decide)
theorem s_X2_readVariable_92 : Snd PG.nam M66 92 (m_iload 1 93) := snd_iload_n dX2_readVariable_92 rfl
theorem s_X2_readVariable_93 : Snd PG.nam M66 93 (m_ifz (fun x => if x < 0 then 100 else 96)) := snd_if_lt dX2_readVariable_93 (by decide)
theorem s_X2_readVariable_96 : Snd PG.nam M66 96 (m_const (.int (nI 1)) 97) := snd_iconst dX2_readVariable_96 (by decide)
theorem s_X2_readVariable_97 : Snd PG.nam M66 97 (m_goto 101) := snd_goto dX2_readVariable_97 (by decide)
theorem s_X2_readVariable_100 : Snd PG.nam M66 100 (m_const (.int (nI 0)) 101) := snd_iconst dX2_readVariable_100 (by decide)
theorem s_X2_readVariable_101 : Snd PG.nam M66 101 (m_callV false [(1, 64)] 1 104) := snd_callV (nam := PG.nam) (List.forall_mem_cons.mpr ⟨dr_V (ym := PG.nam 64) dX2_readVariable_101 (Or.inl w1707) mi_64 rfl (lw_all_tbl qs36), (fun q hq => absurd hq List.not_mem_nil)⟩) (by decide)
theorem s_X2_readVariable_104 : Snd PG.nam M66 104 (m_ifz (fun x => if x = 0 then 111 else 107)) := snd_if_eq dX2_readVariable_104 (by decide)
theorem s_X2_readVariable_107 : Snd PG.nam M66 107 (m_iload 1 108) := snd_iload_n dX2_readVariable_107 rfl
theorem s_X2_readVariable_108 : Snd PG.nam M66 108 (m_goto 112) := snd_goto dX2_readVariable_108 (by decide)
theorem s_X2_readVariable_111 : Snd PG.nam M66 111 (m_const (.int (-1)) 112) := snd_iconst dX2_readVariable_111 (by decide)
theorem s_X2_readVariable_112 : Snd PG.nam M66 112 (m_iret .int) := snd_iret dX2_readVariable_112 rfl
theorem T66 : ∀ q ∈ S66, Snd PG.nam M66 q.1 q.2 := List.forall_mem_cons.mpr ⟨s_X2_readVariable_0, List.forall_mem_cons.mpr ⟨s_X2_readVariable_1, List.forall_mem_cons.mpr ⟨s_X2_readVariable_2, List.forall_mem_cons.mpr ⟨s_X2_readVariable_3, List.forall_mem_cons.mpr ⟨s_X2_readVariable_4, List.forall_mem_cons.mpr ⟨s_X2_readVariable_5, List.forall_mem_cons.mpr ⟨s_X2_readVariable_6, List.forall_mem_cons.mpr ⟨s_X2_readVariable_9, List.forall_mem_cons.mpr ⟨s_X2_readVariable_12, List.forall_mem_cons.mpr ⟨s_X2_readVariable_13, List.forall_mem_cons.mpr ⟨s_X2_readVariable_16, List.forall_mem_cons.mpr ⟨s_X2_readVariable_17, List.forall_mem_cons.mpr ⟨s_X2_readVariable_18, List.forall_mem_cons.mpr ⟨s_X2_readVariable_19, List.forall_mem_cons.mpr ⟨s_X2_readVariable_22, List.forall_mem_cons.mpr ⟨s_X2_readVariable_23, List.forall_mem_cons.mpr ⟨s_X2_readVariable_26, List.forall_mem_cons.mpr ⟨s_X2_readVariable_27, List.forall_mem_cons.mpr ⟨s_X2_readVariable_28, List.forall_mem_cons.mpr ⟨s_X2_readVariable_31, List.forall_mem_cons.mpr ⟨s_X2_readVariable_34, List.forall_mem_cons.mpr ⟨s_X2_readVariable_35, List.forall_mem_cons.mpr ⟨s_X2_readVariable_38, List.forall_mem_cons.mpr ⟨s_X2_readVariable_39, List.forall_mem_cons.mpr ⟨s_X2_readVariable_42, List.forall_mem_cons.mpr ⟨s_X2_readVariable_43, List.forall_mem_cons.mpr ⟨s_X2_readVariable_46, List.forall_mem_cons.mpr ⟨s_X2_readVariable_47, List.forall_mem_cons.mpr ⟨s_X2_readVariable_50, List.forall_mem_cons.mpr ⟨s_X2_readVariable_52, List.forall_mem_cons.mpr ⟨s_X2_readVariable_55, List.forall_mem_cons.mpr ⟨s_X2_readVariable_56, List.forall_mem_cons.mpr ⟨s_X2_readVariable_59, List.forall_mem_cons.mpr ⟨s_X2_readVariable_60, List.forall_mem_cons.mpr ⟨s_X2_readVariable_63, List.forall_mem_cons.mpr ⟨s_X2_readVariable_64, List.forall_mem_cons.mpr ⟨s_X2_readVariable_67, List.forall_mem_cons.mpr ⟨s_X2_readVariable_68, List.forall_mem_cons.mpr ⟨s_X2_readVariable_69, List.forall_mem_cons.mpr ⟨s_X2_readVariable_72, List.forall_mem_cons.mpr ⟨s_X2_readVariable_73, List.forall_mem_cons.mpr ⟨s_X2_readVariable_74, List.forall_mem_cons.mpr ⟨s_X2_readVariable_75, List.forall_mem_cons.mpr ⟨s_X2_readVariable_78, List.forall_mem_cons.mpr ⟨s_X2_readVariable_79, List.forall_mem_cons.mpr ⟨s_X2_readVariable_80, List.forall_mem_cons.mpr ⟨s_X2_readVariable_83, List.forall_mem_cons.mpr ⟨s_X2_readVariable_84, List.forall_mem_cons.mpr ⟨s_X2_readVariable_85, List.forall_mem_cons.mpr ⟨s_X2_readVariable_88, List.forall_mem_cons.mpr ⟨s_X2_readVariable_89, List.forall_mem_cons.mpr ⟨s_X2_readVariable_92, List.forall_mem_cons.mpr ⟨s_X2_readVariable_93, List.forall_mem_cons.mpr ⟨s_X2_readVariable_96, List.forall_mem_cons.mpr ⟨s_X2_readVariable_97, List.forall_mem_cons.mpr ⟨s_X2_readVariable_100, List.forall_mem_cons.mpr ⟨s_X2_readVariable_101, List.forall_mem_cons.mpr ⟨s_X2_readVariable_104, List.forall_mem_cons.mpr ⟨s_X2_readVariable_107, List.forall_mem_cons.mpr ⟨s_X2_readVariable_108, List.forall_mem_cons.mpr ⟨s_X2_readVariable_111, List.forall_mem_cons.mpr ⟨s_X2_readVariable_112, (fun q hq => absurd hq List.not_mem_nil)⟩⟩⟩⟩⟩⟩⟩⟩⟩⟩⟩⟩⟩⟩⟩⟩⟩⟩⟩⟩⟩⟩⟩⟩⟩⟩⟩⟩⟩⟩⟩⟩⟩⟩⟩⟩⟩⟩⟩⟩⟩⟩⟩⟩⟩⟩⟩⟩⟩⟩⟩⟩⟩⟩⟩⟩⟩⟩⟩⟩⟩⟩
theorem s_X2_readGroups_0 : Snd PG.nam M67 0 (m_aload 0 1) := snd_aload_n dX2_readGroups_0 rfl
theorem s_X2_readGroups_1 : Snd PG.nam M67 1 (m_const (.int (nI 0)) 2) := snd_iconst dX2_readGroups_1 (by decide)
theorem s_X2_readGroups_2 : Snd PG.nam M67 2 (m_callV true [(1, 68)] 1 5) := snd_callV (nam := PG.nam) (List.forall_mem_cons.mpr ⟨dr_V (ym := PG.nam 68) dX2_readGroups_2 (Or.inl w1723) mi_68 rfl (lw_all_tbl qs40), (fun q hq => absurd hq List.not_mem_nil)⟩) (by decide)
theorem s_X2_readGroups_5 : Snd PG.nam M67 5 (m_aload 0 6) := snd_aload_n dX2_readGroups_5 rfl
theorem s_X2_readGroups_6 : Snd PG.nam M67 6 (m_getf [(1, 20)] 9) := snd_getf dX2_readGroups_6 fd_X2_220
theorem s_X2_readGroups_9 : Snd PG.nam M67 9 (m_ifz (fun x => if x < 0 then 12 else 125)) := snd_if_ge dX2_readGroups_9 (by decide)
theorem s_X2_readGroups_12 : Snd PG.nam M67 12 (m_aload 0 13) := snd_aload_n dX2_readGroups_12 rfl
theorem s_X2_readGroups_13 : Snd PG.nam M67 13 (m_getf [(1, 27)] 16) := snd_getf dX2_readGroups_13 fd_X2_250
theorem s_X2_readGroups_16 : Snd PG.nam M67 16 (m_ifz (fun x => if 0 < x then 19 else 125)) := snd_if_le dX2_readGroups_16 (by decide)
theorem s_X2_readGroups_19 : Snd PG.nam M67 19 (m_aload 0 20) := snd_aload_n dX2_readGroups_19 rfl
theorem s_X2_readGroups_20 : Snd PG.nam M67 20 (m_getf [(1, 21)] 23) := snd_getf dX2_readGroups_20 fd_X2_281
theorem s_X2_readGroups_23 : Snd PG.nam M67 23 (m_ifz (fun x => if x = 0 then 65 else 26)) := snd_if_eq dX2_readGroups_23 (by decide)
theorem s_X2_readGroups_26 : Snd PG.nam M67 26 (m_aload 0 27) := snd_aload_n dX2_readGroups_26 rfl
theorem s_X2_readGroups_27 : Snd PG.nam M67 27 (m_const (.int (nI 125)) 29) := snd_bipush dX2_readGroups_27 (by decide)
theorem s_X2_readGroups_29 : Snd PG.nam M67 29 (m_callV false [(1, 69)] 1 32) := snd_callV (nam := PG.nam) (List.forall_mem_cons.mpr ⟨dr_V (ym := PG.nam 69) dX2_readGroups_29 (Or.inl w1727) mi_69 rfl (lw_all_tbl qs41), (fun q hq => absurd hq List.not_mem_nil)⟩) (by decide)
theorem s_X2_readGroups_32 : Snd PG.nam M67 32 (m_ifz (fun x => if x = 0 then 35 else 65)) := snd_if_ne dX2_readGroups_32 (by decide)
theorem s_X2_readGroups_35 : Snd PG.nam M67 35 (m_aload 0 36) := snd_aload_n dX2_readGroups_35 rfl
theorem s_X2_readGroups_36 : Snd PG.nam M67 36 (m_const (.int (nI 0)) 37) := snd_iconst dX2_readGroups_36 (by decide)
theorem s_X2_readGroups_37 : Snd PG.nam M67 37 (m_putf [(1, 21)] .boolean 40) := snd_putf dX2_readGroups_37 fd_X2_281
theorem s_X2_readGroups_40 : Snd PG.nam M67 40 (m_aload 0 41) := snd_aload_n dX2_readGroups_40 rfl
theorem s_X2_readGroups_41 : Snd PG.nam M67 41 (m_callV true [(1, 71)] 0 44) := snd_callV (nam := PG.nam) (List.forall_mem_cons.mpr ⟨dr_V (ym := PG.nam 71) dX2_readGroups_41 (Or.inl w1735) mi_71 rfl (lw_all_tbl qs43), (fun q hq => absurd hq List.not_mem_nil)⟩) (by decide)
theorem s_X2_readGroups_44 : Snd PG.nam M67 44 (m_aload 0 45) := snd_aload_n dX2_readGroups_44 rfl
theorem s_X2_readGroups_45 : Snd PG.nam M67 45 (m_getf [(1, 20)] 48) := snd_getf dX2_readGroups_45 fd_X2_220
theorem s_X2_readGroups_48 : Snd PG.nam M67 48 (m_ifz (fun x => if x < 0 then 51 else 5)) := snd_if_ge dX2_readGroups_48 (by decide)
theorem s_X2_readGroups_51 : Snd PG.nam M67 51 (m_aload 0 52) := snd_aload_n dX2_readGroups_51 rfl
theorem s_X2_readGroups_52 : Snd PG.nam M67 52 (m_getf [(1, 22)] 55) := snd_getf dX2_readGroups_52 fd_X2_262
theorem s_X2_readGroups_55 : Snd PG.nam M67 55 (m_ifz (fun x => if x = 0 then 5 else 58)) := snd_if_eq dX2_readGroups_55 (by decide)
theorem s_X2_readGroups_58 : Snd PG.nam M67 58 (m_aload 0 59) := snd_aload_n dX2_readGroups_58 rfl
theorem s_X2_readGroups_59 : Snd PG.nam M67 59 (m_callV true [(1, 75)] 0 62) := snd_callV (nam := PG.nam) (List.forall_mem_cons.mpr ⟨dr_V (ym := PG.nam 75) dX2_readGroups_59 (Or.inl w1751) mi_75 rfl (lw_all_tbl qs47), (fun q hq => absurd hq List.not_mem_nil)⟩) (by decide)
theorem s_X2_readGroups_62 : Snd PG.nam M67 62 (m_goto 5) := snd_goto dX2_readGroups_62 (by decide)
theorem s_X2_readGroups_65 : Snd PG.nam M67 65 (m_aload 0 66) := snd_aload_n dX2_readGroups_65 rfl
theorem s_X2_readGroups_66 : Snd PG.nam M67 66 (m_const (.int (nI 125)) 68) := snd_bipush dX2_readGroups_66 (by decide)
theorem s_X2_readGroups_68 : Snd PG.nam M67 68 (m_callV false [(1, 69)] 1 71) := snd_callV (nam := PG.nam) (List.forall_mem_cons.mpr ⟨dr_V (ym := PG.nam 69) dX2_readGroups_68 (Or.inl w1727) mi_69 rfl (lw_all_tbl qs41), (fun q hq => absurd hq List.not_mem_nil)⟩) (by decide)
theorem s_X2_readGroups_71 : Snd PG.nam M67 71 (m_ifz (fun x => if x = 0 then 86 else 74)) := snd_if_eq dX2_readGroups_71 (by decide)
theorem s_X2_readGroups_74 : Snd PG.nam M67 74 (m_aload 0 75) := snd_aload_n dX2_readGroups_74 rfl
theorem s_X2_readGroups_75 : Snd PG.nam M67 75 (m_const (.int (nI 0)) 76) := snd_iconst dX2_readGroups_75 (by decide)
theorem s_X2_readGroups_76 : Snd PG.nam M67 76 (m_putf [(1, 21)] .boolean 79) := snd_putf dX2_readGroups_76 fd_X2_281
theorem s_X2_readGroups_79 : Snd PG.nam M67 79 (m_aload 0 80) := snd_aload_n dX2_readGroups_79 rfl
theorem s_X2_readGroups_80 : Snd PG.nam M67 80 (m_callV true [(1, 76)] 0 83) := snd_callV (nam := PG.nam) (List.forall_mem_cons.mpr ⟨dr_V (ym := PG.nam 76) dX2_readGroups_80 (Or.inl w1755) mi_76 rfl (lw_all_tbl qs48), (fun q hq => absurd hq List.not_mem_nil)⟩) (by decide)
theorem s_X2_readGroups_83 : Snd PG.nam M67 83 (m_goto 5) := snd_goto dX2_readGroups_83 (by decide)
theorem s_X2_readGroups_86 : Snd PG.nam M67 86 (m_aload 0 87) := snd_aload_n dX2_readGroups_86 rfl
theorem s_X2_readGroups_87 : Snd PG.nam M67 87 (m_aload 0 88) := snd_aload_n dX2_readGroups_87 rfl
theorem s_X2_readGroups_88 : Snd PG.nam M67 88 (m_const (.int (nI 46)) 90) := snd_bipush dX2_readGroups_88 (by decide)
theorem s_X2_readGroups_90 : Snd PG.nam M67 90 (m_callV false [(1, 69)] 1 93) := snd_callV (nam := PG.nam) (List.forall_mem_cons.mpr ⟨dr_V (ym := PG.nam 69) dX2_readGroups_90 (Or.inl w1727) mi_69 rfl (lw_all_tbl qs41), (fun q hq => absurd hq List.not_mem_nil)⟩) (by decide)
theorem s_X2_readGroups_93 : Snd PG.nam M67 93 (m_callV false [(1, 64)] 1 96) := snd_callV (nam := PG.nam) (List.forall_mem_cons.mpr ⟨dr_V (ym := PG.nam 64) dX2_readGroups_93 (Or.inl w1707) mi_64 rfl (lw_all_tbl qs36), (fun q hq => absurd hq List.not_mem_nil)⟩) (by decide)
theorem s_X2_readGroups_96 : Snd PG.nam M67 96 (m_ifz (fun x => if x = 0 then 99 else 100)) := snd_if_ne dX2_readGroups_96 (by decide)
theorem s_X2_readGroups_99 : Snd PG.nam M67 99 (m_vret) := snd_vret dX2_readGroups_99 rfl
theorem s_X2_readGroups_100 : Snd PG.nam M67 100 (m_aload 0 101) := snd_aload_n dX2_readGroups_100 rfl
theorem s_X2_readGroups_101 : Snd PG.nam M67 101 (m_callV true [(1, 71)] 0 104) := snd_callV (nam := PG.nam) (List.forall_mem_cons.mpr ⟨dr_V (ym := PG.nam 71) dX2_readGroups_101 (Or.inl w1735) mi_71 rfl (lw_all_tbl qs43), (fun q hq => absurd hq List.not_mem_nil)⟩) (by decide)
theorem s_X2_readGroups_104 : Snd PG.nam M67 104 (m_aload 0 105) := snd_aload_n dX2_readGroups_104 rfl
theorem s_X2_readGroups_105 : Snd PG.nam M67 105 (m_getf [(1, 20)] 108) := snd_getf dX2_readGroups_105 fd_X2_220
theorem s_X2_readGroups_108 : Snd PG.nam M67 108 (m_ifz (fun x => if x < 0 then 111 else 5)) := snd_if_ge dX2_readGroups_108 (by decide)
theorem s_X2_readGroups_111 : Snd PG.nam M67 111 (m_aload 0 112) := snd_aload_n dX2_readGroups_111 rfl
theorem s_X2_readGroups_112 : Snd PG.nam M67 112 (m_getf [(1, 22)] 115) := snd_getf dX2_readGroups_112 fd_X2_262
theorem s_X2_readGroups_115 : Snd PG.nam M67 115 (m_ifz (fun x => if x = 0 then 5 else 118)) := snd_if_eq dX2_readGroups_115 (by decide)
theorem s_X2_readGroups_118 : Snd PG.nam M67 118 (m_aload 0 119) := snd_aload_n dX2_readGroups_118 rfl
theorem s_X2_readGroups_119 : Snd PG.nam M67 119 (m_callV true [(1, 75)] 0 122) := snd_callV (nam := PG.nam) (List.forall_mem_cons.mpr ⟨dr_V (ym := PG.nam 75) dX2_readGroups_119 (Or.inl w1751) mi_75 rfl (lw_all_tbl qs47), (fun q hq => absurd hq List.not_mem_nil)⟩) (by decide)
theorem s_X2_readGroups_122 : Snd PG.nam M67 122 (m_goto 5) := snd_goto dX2_readGroups_122 (by decide)
theorem s_X2_readGroups_125 : Snd PG.nam M67 125 (m_vret) := snd_vret dX2_readGroups_125 rfl
theorem T67 : ∀ q ∈ S67, Snd PG.nam M67 q.1 q.2 := List.forall_mem_cons.mpr ⟨s_X2_readGroups_0, List.forall_mem_cons.mpr ⟨s_X2_readGroups_1, List.forall_mem_cons.mpr ⟨s_X2_readGroups_2, List.forall_mem_cons.mpr ⟨s_X2_readGroups_5, List.forall_mem_cons.mpr ⟨s_X2_readGroups_6, List.forall_mem_cons.mpr ⟨s_X2_readGroups_9, List.forall_mem_cons.mpr ⟨s_X2_readGroups_12, List.forall_mem_cons.mpr ⟨s_X2_readGroups_13, List.forall_mem_cons.mpr ⟨s_X2_readGroups_16, List.forall_mem_cons.mpr ⟨s_X2_readGroups_19, List.forall_mem_cons.mpr ⟨s_X2_readGroups_20, List.forall_mem_cons.mpr ⟨s_X2_readGroups_23, List.forall_mem_cons.mpr ⟨s_X2_readGroups_26, List.forall_mem_cons.mpr ⟨s_X2_readGroups_27, List.forall_mem_cons.mpr ⟨s_X2_readGroups_29, List.forall_mem_cons.mpr ⟨s_X2_readGroups_32, List.forall_mem_cons.mpr ⟨s_X2_readGroups_35, List.forall_mem_cons.mpr ⟨s_X2_readGroups_36, List.forall_mem_cons.mpr ⟨s_X2_readGroups_37, List.forall_mem_cons.mpr ⟨s_X2_readGroups_40, List.forall_mem_cons.mpr ⟨s_X2_readGroups_41, List.forall_mem_cons.mpr ⟨s_X2_readGroups_44, List.forall_mem_cons.mpr ⟨s_X2_readGroups_45, List.forall_mem_cons.mpr ⟨s_X2_readGroups_48, List.forall_mem_cons.mpr ⟨s_X2_readGroups_51, List.forall_mem_cons.mpr ⟨s_X2_readGroups_52, List.forall_mem_cons.mpr ⟨s_X2_readGroups_55, List.forall_mem_cons.mpr ⟨s_X2_readGroups_58, List.forall_mem_cons.mpr ⟨s_X2_readGroups_59, List.forall_mem_cons.mpr ⟨s_X2_readGroups_62, List.forall_mem_cons.mpr ⟨s_X2_readGroups_65, List.forall_mem_cons.mpr ⟨s_X2_readGroups_66, List.forall_mem_cons.mpr ⟨s_X2_readGroups_68, List.forall_mem_cons.mpr ⟨s_X2_readGroups_71, List.forall_mem_cons.mpr ⟨s_X2_readGroups_74, List.forall_mem_cons.mpr ⟨s_X2_readGroups_75, List.forall_mem_cons.mpr ⟨s_X2_readGroups_76, List.forall_mem_cons.mpr ⟨s_X2_readGroups_79, List.forall_mem_cons.mpr ⟨s_X2_readGroups_80, List.forall_mem_cons.mpr ⟨s_X2_readGroups_83, List.forall_mem_cons.mpr ⟨s_X2_readGroups_86, List.forall_mem_cons.mpr ⟨s_X2_readGroups_87, List.forall_mem_cons.mpr ⟨s_X2_readGroups_88, List.forall_mem_cons.mpr ⟨s_X2_readGroups_90, List.forall_mem_cons.mpr ⟨s_X2_readGroups_93, List.forall_mem_cons.mpr ⟨s_X2_readGroups_96, List.forall_mem_cons.mpr ⟨s_X2_readGroups_99, List.forall_mem_cons.mpr ⟨s_X2_readGroups_100, List.forall_mem_cons.mpr ⟨s_X2_readGroups_101, List.forall_mem_cons.mpr ⟨s_X2_readGroups_104, List.forall_mem_cons.mpr ⟨s_X2_readGroups_105, List.forall_mem_cons.mpr ⟨s_X2_readGroups_108, List.forall_mem_cons.mpr ⟨s_X2_readGroups_111, List.forall_mem_cons.mpr ⟨s_X2_readGroups_112, List.forall_mem_cons.mpr ⟨s_X2_readGroups_115, List.forall_mem_cons.mpr ⟨s_X2_readGroups_118, List.forall_mem_cons.mpr ⟨s_X2_readGroups_119, List.forall_mem_cons.mpr ⟨s_X2_readGroups_122, List.forall_mem_cons.mpr ⟨s_X2_readGroups_125, (fun q hq => absurd hq List.not_mem_nil)⟩⟩⟩⟩⟩⟩⟩⟩⟩⟩⟩⟩⟩⟩⟩⟩⟩⟩⟩⟩⟩⟩⟩⟩⟩⟩⟩⟩⟩⟩⟩⟩⟩⟩⟩⟩⟩⟩⟩⟩⟩⟩⟩⟩⟩⟩⟩⟩⟩⟩⟩⟩⟩⟩⟩⟩⟩⟩⟩
theorem s_X2_readStart_0 : Snd PG.nam M68 0 (m_iload 1 1) := snd_iload_n dX2_readStart_0 rfl
theorem s_X2_readStart_1 : Snd PG.nam M68 1 (m_const (.int (nI 3)) 2) := snd_iconst dX2_readStart_1 (by decide)
theorem s_X2_readStart_2 : Snd PG.nam M68 2 (m_icmp (fun x z => if x = z then 5 else 23)) := snd_icmp_ne dX2_readStart_2 (by decide)
theorem s_X2_readStart_5 : Snd PG.nam M68 5 (m_aload 0 6) := snd_aload_n dX2_readStart_5 rfl
theorem s_X2_readStart_6 : Snd PG.nam M68 6 (m_getf [(1, 42)] 9) := snd_getf dX2_readStart_6 fd_X2_67
theorem s_X2_readStart_9 : Snd PG.nam M68 9 (m_aload 0 10) := snd_aload_n dX2_readStart_9 rfl
theorem s_X2_readStart_10 : Snd PG.nam M68 10 (m_getf [(1, 27)] 13) := snd_getf dX2_readStart_10 fd_X2_250
theorem s_X2_readStart_13 : Snd PG.nam M68 13 (m_iald [.int] 14) := snd_iald dX2_readStart_13
theorem s_X2_readStart_14 : Snd PG.nam M68 14 (m_const (.int (nI 12)) 16) := snd_bipush dX2_readStart_14 (by decide)
theorem s_X2_readStart_16 : Snd PG.nam M68 16 (m_icmp (fun x z => if x = z then 19 else 23)) := snd_icmp_ne dX2_readStart_16 (by decide)
theorem s_X2_readStart_19 : Snd PG.nam M68 19 (m_const (.int (nI 1)) 20) := snd_iconst dX2_readStart_19 (by decide)
theorem s_X2_readStart_20 : Snd PG.nam M68 20 (m_goto 24) := snd_goto dX2_readStart_20 (by decide)
theorem s_X2_readStart_23 : Snd PG.nam M68 23 (m_const (.int (nI 0)) 24) := snd_iconst dX2_readStart_23 (by decide)
theorem s_X2_readStart_24 : Snd PG.nam M68 24 (m_istore 2 25) := snd_istore_n dX2_readStart_24 rfl (by decide)
theorem s_X2_readStart_25 : Snd PG.nam M68 25 (m_aload 0 26) := snd_aload_n dX2_readStart_25 rfl
theorem s_X2_readStart_26 : Snd PG.nam M68 26 (m_aload 0 27) := snd_aload_n dX2_readStart_26 rfl
theorem s_X2_readStart_27 : Snd PG.nam M68 27 (m_const (.int (nI 123)) 29) := snd_bipush dX2_readStart_27 (by decide)
theorem s_X2_readStart_29 : Snd PG.nam M68 29 (m_callV false [(1, 69)] 1 32) := snd_callV (nam := PG.nam) (List.forall_mem_cons.mpr ⟨dr_V (ym := PG.nam 69) dX2_readStart_29 (Or.inl w1727) mi_69 rfl (lw_all_tbl qs41), (fun q hq => absurd hq List.not_mem_nil)⟩) (by decide)
theorem s_X2_readStart_32 : Snd PG.nam M68 32 (m_ifz (fun x => if x = 0 then 51 else 35)) := snd_if_eq dX2_readStart_32 (by decide)
theorem s_X2_readStart_35 : Snd PG.nam M68 35 (m_aload 0 36) := snd_aload_n dX2_readStart_35 rfl
theorem s_X2_readStart_36 : Snd PG.nam M68 36 (m_getf [(1, 27)] 39) := snd_getf dX2_readStart_36 fd_X2_250
theorem s_X2_readStart_39 : Snd PG.nam M68 39 (m_const (.int (nI 4)) 40) := snd_iconst dX2_readStart_39 (by decide)
theorem s_X2_readStart_40 : Snd PG.nam M68 40 (m_icmp (fun x z => if x < z then 43 else 51)) := snd_icmp_ge dX2_readStart_40 (by decide)
theorem s_X2_readStart_43 : Snd PG.nam M68 43 (m_iload 2 44) := snd_iload_n dX2_readStart_43 rfl
theorem s_X2_readStart_44 : Snd PG.nam M68 44 (m_ifz (fun x => if x = 0 then 47 else 51)) := snd_if_ne dX2_readStart_44 (by decide)
theorem s_X2_readStart_47 : Snd PG.nam M68 47 (m_const (.int (nI 1)) 48) := snd_iconst dX2_readStart_47 (by decide)
theorem s_X2_readStart_48 : Snd PG.nam M68 48 (m_goto 52) := snd_goto dX2_readStart_48 (by decide)
theorem s_X2_readStart_51 : Snd PG.nam M68 51 (m_const (.int (nI 0)) 52) := snd_iconst dX2_readStart_51 (by decide)
theorem s_X2_readStart_52 : Snd PG.nam M68 52 (m_callV false [(1, 64)] 1 55) := snd_callV (nam := PG.nam) (List.forall_mem_cons.mpr ⟨dr_V (ym := PG.nam 64) dX2_readStart_52 (Or.inl w1707) mi_64 rfl (lw_all_tbl qs36), (fun q hq => absurd hq List.not_mem_nil)⟩) (by decide)
theorem s_X2_readStart_55 : Snd PG.nam M68 55 (m_ifz (fun x => if x = 0 then 58 else 59)) := snd_if_ne dX2_readStart_55 (by decide)
theorem s_X2_readStart_58 : Snd PG.nam M68 58 (m_vret) := snd_vret dX2_readStart_58 rfl
theorem s_X2_readStart_59 : Snd PG.nam M68 59 (m_aload 0 60) := snd_aload_n dX2_readStart_59 rfl
theorem s_X2_readStart_60 : Snd PG.nam M68 60 (m_getf [(1, 42)] 63) := snd_getf dX2_readStart_60 fd_X2_67
theorem s_X2_readStart_63 : Snd PG.nam M68 63 (m_aload 0 64) := snd_aload_n dX2_readStart_63 rfl
theorem s_X2_readStart_64 : Snd PG.nam M68 64 (m_getf [(1, 27)] 67) := snd_getf dX2_readStart_64 fd_X2_250
theorem s_X2_readStart_67 : Snd PG.nam M68 67 (m_dup2 68) := snd_dup2 dX2_readStart_67
theorem s_X2_readStart_68 : Snd PG.nam M68 68 (m_iald [.int] 69) := snd_iald dX2_readStart_68
theorem s_X2_readStart_69 : Snd PG.nam M68 69 (m_const (.int (nI 1)) 70) := snd_iconst dX2_readStart_69 (by decide)
theorem s_X2_readStart_70 : Snd PG.nam M68 70 (m_ibin (fun a b => a + b) 71) := snd_iadd dX2_readStart_70
theorem s_X2_readStart_71 : Snd PG.nam M68 71 (m_iast [.int] 72) := snd_iast dX2_readStart_71
theorem s_X2_readStart_72 : Snd PG.nam M68 72 (m_aload 0 73) := snd_aload_n dX2_readStart_72 rfl
theorem s_X2_readStart_73 : Snd PG.nam M68 73 (m_getf [(1, 28)] 76) := snd_getf dX2_readStart_73 fd_X2_37
theorem s_X2_readStart_76 : Snd PG.nam M68 76 (m_aload 0 77) := snd_aload_n dX2_readStart_76 rfl
theorem s_X2_readStart_77 : Snd PG.nam M68 77 (m_getf [(1, 27)] 80) := snd_getf dX2_readStart_77 fd_X2_250
theorem s_X2_readStart_80 : Snd PG.nam M68 80 (m_iload 1 81) := snd_iload_n dX2_readStart_80 rfl
theorem s_X2_readStart_81 : Snd PG.nam M68 81 (m_iast [.int] 82) := snd_iast dX2_readStart_81
theorem s_X2_readStart_82 : Snd PG.nam M68 82 (m_aload 0 83) := snd_aload_n dX2_readStart_82 rfl
theorem s_X2_readStart_83 : Snd PG.nam M68 83 (m_getf [(1, 29)] 86) := snd_getf dX2_readStart_83 fd_X2_40
theorem s_X2_readStart_86 : Snd PG.nam M68 86 (m_aload 0 87) := snd_aload_n dX2_readStart_86 rfl
theorem s_X2_readStart_87 : Snd PG.nam M68 87 (m_getf [(1, 27)] 90) := snd_getf dX2_readStart_87 fd_X2_250
theorem s_X2_readStart_90 : Snd PG.nam M68 90 (m_aload 0 91) := snd_aload_n dX2_readStart_90 rfl
theorem s_X2_readStart_91 : Snd PG.nam M68 91 (m_getf [(1, 26)] 94) := snd_getf dX2_readStart_91 fd_X2_278
theorem s_X2_readStart_94 : Snd PG.nam M68 94 (m_iast [.int] 95) := snd_iast dX2_readStart_94
theorem s_X2_readStart_95 : Snd PG.nam M68 95 (m_aload 0 96) := snd_aload_n dX2_readStart_95 rfl
theorem s_X2_readStart_96 : Snd PG.nam M68 96 (m_dup 97) := snd_dup dX2_readStart_96
theorem s_X2_readStart_97 : Snd PG.nam M68 97 (m_getf [(1, 26)] 100) := snd_getf dX2_readStart_97 fd_X2_278
theorem s_X2_readStart_100 : Snd PG.nam M68 100 (m_const (.int (nI 1)) 101) := snd_iconst dX2_readStart_100 (by decide)
theorem s_X2_readStart_101 : Snd PG.nam M68 101 (m_ibin (fun a b => a + b) 102) := snd_iadd dX2_readStart_101
theorem s_X2_readStart_102 : Snd PG.nam M68 102 (m_putf [(1, 26)] .int 105) := snd_putf dX2_readStart_102 fd_X2_278
theorem s_X2_readStart_105 : Snd PG.nam M68 105 (m_aload 0 106) := snd_aload_n dX2_readStart_105 rfl
theorem s_X2_readStart_106 : Snd PG.nam M68 106 (m_dup 107) := snd_dup dX2_readStart_106
theorem s_X2_readStart_107 : Snd PG.nam M68 107 (m_getf [(1, 27)] 110) := snd_getf dX2_readStart_107 fd_X2_250
theorem s_X2_readStart_110 : Snd PG.nam M68 110 (m_const (.int (nI 1)) 111) := snd_iconst dX2_readStart_110 (by decide)
theorem s_X2_readStart_111 : Snd PG.nam M68 111 (m_ibin (fun a b => a + b) 112) := snd_iadd dX2_readStart_111
theorem s_X2_readStart_112 : Snd PG.nam M68 112 (m_putf [(1, 27)] .int 115) := snd_putf dX2_readStart_112 fd_X2_250
theorem s_X2_readStart_115 : Snd PG.nam M68 115 (m_aload 0 116) := snd_aload_n dX2_readStart_115 rfl
theorem s_X2_readStart_116 : Snd PG.nam M68 116 (m_const (.int (nI 1)) 117) := snd_iconst dX2_readStart_116 (by decide)
theorem s_X2_readStart_117 : Snd PG.nam M68 117 (m_const (.int (nI 0)) 118) := snd_iconst dX2_readStart_117 (by decide)
theorem s_X2_readStart_118 : Snd PG.nam M68 118 (m_callV true [(1, 70)] 2 121) := snd_callV (nam := PG.nam) (List.forall_mem_cons.mpr ⟨dr_V (ym := PG.nam 70) dX2_readStart_118 (Or.inl w1731) mi_70 rfl (lw_all_tbl qs42), (fun q hq => absurd hq List.not_mem_nil)⟩) (by decide)
theorem s_X2_readStart_121 : Snd PG.nam M68 121 (m_aload 0 122) := snd_aload_n dX2_readStart_121 rfl
theorem s_X2_readStart_122 : Snd PG.nam M68 122 (m_const (.int (nI 1)) 123) := snd_iconst dX2_readStart_122 (by decide)
theorem s_X2_readStart_123 : Snd PG.nam M68 123 (m_putf [(1, 21)] .boolean 126) := snd_putf dX2_readStart_123 fd_X2_281
theorem s_X2_readStart_126 : Snd PG.nam M68 126 (m_vret) := snd_vret dX2_readStart_126 rfl
theorem T68 : ∀ q ∈ S68, Snd PG.nam M68 q.1 q.2 := List.forall_mem_cons.mpr ⟨s_X2_readStart_0, List.forall_mem_cons.mpr ⟨s_X2_readStart_1, List.forall_mem_cons.mpr ⟨s_X2_readStart_2, List.forall_mem_cons.mpr ⟨s_X2_readStart_5, List.forall_mem_cons.mpr ⟨s_X2_readStart_6, List.forall_mem_cons.mpr ⟨s_X2_readStart_9, List.forall_mem_cons.mpr ⟨s_X2_readStart_10, List.forall_mem_cons.mpr ⟨s_X2_readStart_13, List.forall_mem_cons.mpr ⟨s_X2_readStart_14, List.forall_mem_cons.mpr ⟨s_X2_readStart_16, List.forall_mem_cons.mpr ⟨s_X2_readStart_19, List.forall_mem_cons.mpr ⟨s_X2_readStart_20, List.forall_mem_cons.mpr ⟨s_X2_readStart_23, List.forall_mem_cons.mpr ⟨s_X2_readStart_24, List.forall_mem_cons.mpr ⟨s_X2_readStart_25, List.forall_mem_cons.mpr ⟨s_X2_readStart_26, List.forall_mem_cons.mpr ⟨s_X2_readStart_27, List.forall_mem_cons.mpr ⟨s_X2_readStart_29, List.forall_mem_cons.mpr ⟨s_X2_readStart_32, List.forall_mem_cons.mpr ⟨s_X2_readStart_35, List.forall_mem_cons.mpr ⟨s_X2_readStart_36, List.forall_mem_cons.mpr ⟨s_X2_readStart_39, List.forall_mem_cons.mpr ⟨s_X2_readStart_40, List.forall_mem_cons.mpr ⟨s_X2_readStart_43, List.forall_mem_cons.mpr ⟨s_X2_readStart_44, List.forall_mem_cons.mpr ⟨s_X2_readStart_47, List.forall_mem_cons.mpr ⟨s_X2_readStart_48, List.forall_mem_cons.mpr ⟨s_X2_readStart_51, List.forall_mem_cons.mpr ⟨s_X2_readStart_52, List.forall_mem_cons.mpr ⟨s_X2_readStart_55, List.forall_mem_cons.mpr ⟨s_X2_readStart_58, List.forall_mem_cons.mpr ⟨s_X2_readStart_59, List.forall_mem_cons.mpr ⟨s_X2_readStart_60, List.forall_mem_cons.mpr ⟨s_X2_readStart_63, List.forall_mem_cons.mpr ⟨s_X2_readStart_64, List.forall_mem_cons.mpr ⟨s_X2_readStart_67, List.forall_mem_cons.mpr ⟨s_X2_readStart_68, List.forall_mem_cons.mpr ⟨s_X2_readStart_69, List.forall_mem_cons.mpr ⟨s_X2_readStart_70, List.forall_mem_cons.mpr ⟨s_X2_readStart_71, List.forall_mem_cons.mpr ⟨s_X2_readStart_72, List.forall_mem_cons.mpr ⟨s_X2_readStart_73, List.forall_mem_cons.mpr ⟨s_X2_readStart_76, List.forall_mem_cons.mpr ⟨s_X2_readStart_77, List.forall_mem_cons.mpr ⟨s_X2_readStart_80, List.forall_mem_cons.mpr ⟨s_X2_readStart_81, List.forall_mem_cons.mpr ⟨s_X2_readStart_82, List.forall_mem_cons.mpr ⟨s_X2_readStart_83, List.forall_mem_cons.mpr ⟨s_X2_readStart_86, List.forall_mem_cons.mpr ⟨s_X2_readStart_87, List.forall_mem_cons.mpr ⟨s_X2_readStart_90, List.forall_mem_cons.mpr ⟨s_X2_readStart_91, List.forall_mem_cons.mpr ⟨s_X2_readStart_94, List.forall_mem_cons.mpr ⟨s_X2_readStart_95, List.forall_mem_cons.mpr ⟨s_X2_readStart_96, List.forall_mem_cons.mpr ⟨s_X2_readStart_97, List.forall_mem_cons.mpr ⟨s_X2_readStart_100, List.forall_mem_cons.mpr ⟨s_X2_readStart_101, List.forall_mem_cons.mpr ⟨s_X2_readStart_102, List.forall_mem_cons.mpr ⟨s_X2_readStart_105, List.forall_mem_cons.mpr ⟨s_X2_readStart_106, List.forall_mem_cons.mpr ⟨s_X2_readStart_107, List.forall_mem_cons.mpr ⟨s_X2_readStart_110, List.forall_mem_cons.mpr ⟨s_X2_readStart_111, List.forall_mem_cons.mpr ⟨s_X2_readStart_112, List.forall_mem_cons.mpr ⟨s_X2_readStart_115, List.forall_mem_cons.mpr ⟨s_X2_readStart_116, List.forall_mem_cons.mpr ⟨s_X2_readStart_117, List.forall_mem_cons.mpr ⟨s_X2_readStart_118, List.forall_mem_cons.mpr ⟨s_X2_readStart_121, List.forall_mem_cons.mpr ⟨s_X2_readStart_122, List.forall_mem_cons.mpr ⟨s_X2_readStart_123, List.forall_mem_cons.mpr ⟨s_X2_readStart_126, (fun q hq => absurd hq List.not_mem_nil)⟩⟩⟩⟩⟩⟩⟩⟩⟩⟩⟩⟩⟩⟩⟩⟩⟩⟩⟩⟩⟩⟩⟩⟩⟩⟩⟩⟩⟩⟩⟩⟩⟩⟩⟩⟩⟩⟩⟩⟩⟩⟩⟩⟩⟩⟩⟩⟩⟩⟩⟩⟩⟩⟩⟩⟩⟩⟩⟩⟩⟩⟩⟩⟩⟩⟩⟩⟩⟩⟩⟩⟩⟩
theorem s_X2_isSign_0 : Snd PG.nam M69 0 (m_aload 0 1) := snd_aload_n dX2_isSign_0 rfl
theorem s_X2_isSign_1 : Snd PG.nam M69 1 (m_getf [(1, 15)] 4) := snd_getf dX2_isSign_1 fd_X2_181
theorem s_X2_isSign_4 : Snd PG.nam M69 4 (m_const (.int (nI 4)) 5) := snd_iconst dX2_isSign_4 (by decide)
theorem s_X2_isSign_5 : Snd PG.nam M69 5 (m_icmp (fun x z => if x = z then 8 else 22)) := snd_icmp_ne dX2_isSign_5 (by decide)
theorem s_X2_isSign_8 : Snd PG.nam M69 8 (m_aload 0 9) := snd_aload_n dX2_isSign_8 rfl
theorem s_X2_isSign_9 : Snd PG.nam M69 9 (m_getf [(1, 16)] 12) := snd_getf dX2_isSign_9 fd_X2_164
theorem s_X2_isSign_12 : Snd PG.nam M69 12 (m_iload 1 13) := snd_iload_n dX2_isSign_12 rfl
theorem s_X2_isSign_13 : Snd PG.nam M69 13 (m_i2l 14) := snd_i2l dX2_isSign_13
theorem s_X2_isSign_14 : Snd PG.nam M69 14 (m_lcmp 15) := snd_lcmp dX2_isSign_14
theorem s_X2_isSign_15 : Snd PG.nam M69 15 (m_ifz (fun x => if x = 0 then 18 else 22)) := snd_if_ne dX2_isSign_15 (by decide)
theorem s_X2_isSign_18 : Snd PG.nam M69 18 (m_const (.int (nI 1)) 19) := snd_iconst dX2_isSign_18 (by decide)
theorem s_X2_isSign_19 : Snd PG.nam M69 19 (m_goto 23) := snd_goto dX2_isSign_19 (by decide)
theorem s_X2_isSign_22 : Snd PG.nam M69 22 (m_const (.int (nI 0)) 23) := snd_iconst dX2_isSign_22 (by decide)
theorem s_X2_isSign_23 : Snd PG.nam M69 23 (m_iret .boolean) := snd_iret dX2_isSign_23 rfl
theorem T69 : ∀ q ∈ S69, Snd PG.nam M69 q.1 q.2 := List.forall_mem_cons.mpr ⟨s_X2_isSign_0, List.forall_mem_cons.mpr ⟨s_X2_isSign_1, List.forall_mem_cons.mpr ⟨s_X2_isSign_4, List.forall_mem_cons.mpr ⟨s_X2_isSign_5, List.forall_mem_cons.mpr ⟨s_X2_isSign_8, List.forall_mem_cons.mpr ⟨s_X2_isSign_9, List.forall_mem_cons.mpr ⟨s_X2_isSign_12, List.forall_mem_cons.mpr ⟨s_X2_isSign_13, List.forall_mem_cons.mpr ⟨s_X2_isSign_14, List.forall_mem_cons.mpr ⟨s_X2_isSign_15, List.forall_mem_cons.mpr ⟨s_X2_isSign_18, List.forall_mem_cons.mpr ⟨s_X2_isSign_19, List.forall_mem_cons.mpr ⟨s_X2_isSign_22, List.forall_mem_cons.mpr ⟨s_X2_isSign_23, (fun q hq => absurd hq List.not_mem_nil)⟩⟩⟩⟩⟩⟩⟩⟩⟩⟩⟩⟩⟩⟩
theorem s_X2_emit_0 : Snd PG.nam M70 0 (m_aload 0 1) := snd_aload_n dX2_emit_0 rfl
theorem s_X2_emit_1 : Snd PG.nam M70 1 (m_getf [(1, 30)] 4) := snd_getf dX2_emit_1 fd_X2_43
theorem s_X2_emit_4 : Snd PG.nam M70 4 (m_aload 0 5) := snd_aload_n dX2_emit_4 rfl
theorem s_X2_emit_5 : Snd PG.nam M70 5 (m_getf [(1, 32)] 8) := snd_getf dX2_emit_5 fd_X2_244
theorem s_X2_emit_8 : Snd PG.nam M70 8 (m_iload 1 9) := snd_iload_n dX2_emit_8 rfl
theorem s_X2_emit_9 : Snd PG.nam M70 9 (m_iast [.int] 10) := snd_iast dX2_emit_9
theorem s_X2_emit_10 : Snd PG.nam M70 10 (m_aload 0 11) := snd_aload_n dX2_emit_10 rfl
theorem s_X2_emit_11 : Snd PG.nam M70 11 (m_getf [(1, 31)] 14) := snd_getf dX2_emit_11 fd_X2_46
theorem s_X2_emit_14 : Snd PG.nam M70 14 (m_aload 0 15) := snd_aload_n dX2_emit_14 rfl
theorem s_X2_emit_15 : Snd PG.nam M70 15 (m_getf [(1, 32)] 18) := snd_getf dX2_emit_15 fd_X2_244
theorem s_X2_emit_18 : Snd PG.nam M70 18 (m_iload 2 19) := snd_iload_n dX2_emit_18 rfl
theorem s_X2_emit_19 : Snd PG.nam M70 19 (m_iast [.int] 20) := snd_iast dX2_emit_19
theorem s_X2_emit_20 : Snd PG.nam M70 20 (m_aload 0 21) := snd_aload_n dX2_emit_20 rfl
theorem s_X2_emit_21 : Snd PG.nam M70 21 (m_dup 22) := snd_dup dX2_emit_21
theorem s_X2_emit_22 : Snd PG.nam M70 22 (m_getf [(1, 32)] 25) := snd_getf dX2_emit_22 fd_X2_244
theorem s_X2_emit_25 : Snd PG.nam M70 25 (m_const (.int (nI 1)) 26) := snd_iconst dX2_emit_25 (by decide)
theorem s_X2_emit_26 : Snd PG.nam M70 26 (m_ibin (fun a b => a + b) 27) := snd_iadd dX2_emit_26
theorem s_X2_emit_27 : Snd PG.nam M70 27 (m_putf [(1, 32)] .int 30) := snd_putf dX2_emit_27 fd_X2_244
theorem s_X2_emit_30 : Snd PG.nam M70 30 (m_vret) := snd_vret dX2_emit_30 rfl
theorem T70 : ∀ q ∈ S70, Snd PG.nam M70 q.1 q.2 := List.forall_mem_cons.mpr ⟨s_X2_emit_0, List.forall_mem_cons.mpr ⟨s_X2_emit_1, List.forall_mem_cons.mpr ⟨s_X2_emit_4, List.forall_mem_cons.mpr ⟨s_X2_emit_5, List.forall_mem_cons.mpr ⟨s_X2_emit_8, List.forall_mem_cons.mpr ⟨s_X2_emit_9, List.forall_mem_cons.mpr ⟨s_X2_emit_10, List.forall_mem_cons.mpr ⟨s_X2_emit_11, List.forall_mem_cons.mpr ⟨s_X2_emit_14, List.forall_mem_cons.mpr ⟨s_X2_emit_15, List.forall_mem_cons.mpr ⟨s_X2_emit_18, List.forall_mem_cons.mpr ⟨s_X2_emit_19, List.forall_mem_cons.mpr ⟨s_X2_emit_20, List.forall_mem_cons.mpr ⟨s_X2_emit_21, List.forall_mem_cons.mpr ⟨s_X2_emit_22, List.forall_mem_cons.mpr ⟨s_X2_emit_25, List.forall_mem_cons.mpr ⟨s_X2_emit_26, List.forall_mem_cons.mpr ⟨s_X2_emit_27, List.forall_mem_cons.mpr ⟨s_X2_emit_30, (fun q hq => absurd hq List.not_mem_nil)⟩⟩⟩⟩⟩⟩⟩⟩⟩⟩⟩⟩⟩⟩⟩⟩⟩⟩⟩
theorem s_X2_readElement_0 : Snd PG.nam M71 0 (m_aload 0 1) := snd_aload_n dX2_readElement_0 rfl
theorem s_X2_readElement_1 : Snd PG.nam M71 1 (m_const (.int (nI 5)) 2) := snd_iconst dX2_readElement_1 (by decide)
theorem s_X2_readElement_2 : Snd PG.nam M71 2 (m_callV false [(1, 63)] 1 5) := snd_callV (nam := PG.nam) (List.forall_mem_cons.mpr ⟨dr_V (ym := PG.nam 63) dX2_readElement_2 (Or.inl w1692) mi_63 rfl (lw_all_tbl qs35), (fun q hq => absurd hq List.not_mem_nil)⟩) (by decide)
theorem s_X2_readElement_5 : Snd PG.nam M71 5 (m_ifz (fun x => if x = 0 then 8 else 50)) := snd_if_ne dX2_readElement_5 (by decide)
theorem s_X2_readElement_8 : Snd PG.nam M71 8 (m_aload 0 9) := snd_aload_n dX2_readElement_8 rfl
theorem s_X2_readElement_9 : Snd PG.nam M71 9 (m_const (.int (nI 6)) 11) := snd_bipush dX2_readElement_9 (by decide)
theorem s_X2_readElement_11 : Snd PG.nam M71 11 (m_callV false [(1, 63)] 1 14) := snd_callV (nam := PG.nam) (List.forall_mem_cons.mpr ⟨dr_V (ym := PG.nam 63) dX2_readElement_11 (Or.inl w1692) mi_63 rfl (lw_all_tbl qs35), (fun q hq => absurd hq List.not_mem_nil)⟩) (by decide)
theorem s_X2_readElement_14 : Snd PG.nam M71 14 (m_ifz (fun x => if x = 0 then 17 else 50)) := snd_if_ne dX2_readElement_14 (by decide)
theorem s_X2_readElement_17 : Snd PG.nam M71 17 (m_aload 0 18) := snd_aload_n dX2_readElement_17 rfl
theorem s_X2_readElement_18 : Snd PG.nam M71 18 (m_const (.int (nI 7)) 20) := snd_bipush dX2_readElement_18 (by decide)
theorem s_X2_readElement_20 : Snd PG.nam M71 20 (m_callV false [(1, 63)] 1 23) := snd_callV (nam := PG.nam) (List.forall_mem_cons.mpr ⟨dr_V (ym := PG.nam 63) dX2_readElement_20 (Or.inl w1692) mi_63 rfl (lw_all_tbl qs35), (fun q hq => absurd hq List.not_mem_nil)⟩) (by decide)
theorem s_X2_readElement_23 : Snd PG.nam M71 23 (m_ifz (fun x => if x = 0 then 26 else 50)) := snd_if_ne dX2_readElement_23 (by decide)
theorem s_X2_readElement_26 : Snd PG.nam M71 26 (m_aload 0 27) := snd_aload_n dX2_readElement_26 rfl
theorem s_X2_readElement_27 : Snd PG.nam M71 27 (m_const (.int (nI 123)) 29) := snd_bipush dX2_readElement_27 (by decide)
theorem s_X2_readElement_29 : Snd PG.nam M71 29 (m_callV false [(1, 69)] 1 32) := snd_callV (nam := PG.nam) (List.forall_mem_cons.mpr ⟨dr_V (ym := PG.nam 69) dX2_readElement_29 (Or.inl w1727) mi_69 rfl (lw_all_tbl qs41), (fun q hq => absurd hq List.not_mem_nil)⟩) (by decide)
theorem s_X2_readElement_32 : Snd PG.nam M71 32 (m_ifz (fun x => if x = 0 then 35 else 50)) := snd_if_ne dX2_readElement_32 (by decide)
theorem s_X2_readElement_35 : Snd PG.nam M71 35 (m_aload 0 36) := snd_aload_n dX2_readElement_35 rfl
theorem s_X2_readElement_36 : Snd PG.nam M71 36 (m_getf [(1, 15)] 39) := snd_getf dX2_readElement_36 fd_X2_181
theorem s_X2_readElement_39 : Snd PG.nam M71 39 (m_const (.int (nI 3)) 40) := snd_iconst dX2_readElement_39 (by decide)
theorem s_X2_readElement_40 : Snd PG.nam M71 40 (m_icmp (fun x z => if x = z then 50 else 43)) := snd_icmp_eq dX2_readElement_40 (by decide)
theorem s_X2_readElement_43 : Snd PG.nam M71 43 (m_aload 0 44) := snd_aload_n dX2_readElement_43 rfl
theorem s_X2_readElement_44 : Snd PG.nam M71 44 (m_callV false [(1, 72)] 0 47) := snd_callV (nam := PG.nam) (List.forall_mem_cons.mpr ⟨dr_V (ym := PG.nam 72) dX2_readElement_44 (Or.inl w1739) mi_72 rfl (lw_all_tbl qs44), (fun q hq => absurd hq List.not_mem_nil)⟩) (by decide)
theorem s_X2_readElement_47 : Snd PG.nam M71 47 (m_ifz (fun x => if x = 0 then 54 else 50)) := snd_if_eq dX2_readElement_47 (by decide)
theorem s_X2_readElement_50 : Snd PG.nam M71 50 (m_const (.int (nI 1)) 51) := snd_iconst dX2_readElement_50 (by decide)
theorem s_X2_readElement_51 : Snd PG.nam M71 51 (m_goto 55) := snd_goto dX2_readElement_51 (by decide)
theorem s_X2_readElement_54 : Snd PG.nam M71 54 (m_const (.int (nI 0)) 55) := snd_iconst dX2_readElement_54 (by decide)
theorem s_X2_readElement_55 : Snd PG.nam M71 55 (m_istore 1 56) := snd_istore_n dX2_readElement_55 rfl (by decide)
theorem s_X2_readElement_56 : Snd PG.nam M71 56 (m_iload 1 57) := snd_iload_n dX2_readElement_56 rfl
theorem s_X2_readElement_57 : Snd PG.nam M71 57 (m_ifz (fun x => if x = 0 then 69 else 60)) := snd_if_eq dX2_readElement_57 (by decide)
theorem s_X2_readElement_60 : Snd PG.nam M71 60 (m_aload 0 61) := snd_aload_n dX2_readElement_60 rfl
theorem s_X2_readElement_61 : Snd PG.nam M71 61 (m_getf [(1, 25)] 64) := snd_getf dX2_readElement_61 fd_X2_259
theorem s_X2_readElement_64 : Snd PG.nam M71 64 (m_const (.int (nI 12)) 66) := snd_bipush dX2_readElement_64 (by decide)
theorem s_X2_readElement_66 : Snd PG.nam M71 66 (m_icmp (fun x z => if x = z then 69 else 74)) := snd_icmp_ne dX2_readElement_66 (by decide)
theorem s_X2_readElement_69 : Snd PG.nam M71 69 (m_aload 0 70) := snd_aload_n dX2_readElement_69 rfl
theorem s_X2_readElement_70 : Snd PG.nam M71 70 (m_callV true [(1, 65)] 0 73) := snd_callV (nam := PG.nam) (List.forall_mem_cons.mpr ⟨dr_V (ym := PG.nam 65) dX2_readElement_70 (Or.inl w1711) mi_65 rfl (lw_all_tbl qs37), (fun q hq => absurd hq List.not_mem_nil)⟩) (by decide)
theorem s_X2_readElement_73 : Snd PG.nam M71 73 (m_vret) := snd_vret dX2_readElement_73 rfl
theorem s_X2_readElement_74 : Snd PG.nam M71 74 (m_aload 0 75) := snd_aload_n dX2_readElement_74 rfl
theorem s_X2_readElement_75 : Snd PG.nam M71 75 (m_dup 76) := snd_dup dX2_readElement_75
theorem s_X2_readElement_76 : Snd PG.nam M71 76 (m_getf [(1, 25)] 79) := snd_getf dX2_readElement_76 fd_X2_259
theorem s_X2_readElement_79 : Snd PG.nam M71 79 (m_const (.int (nI 1)) 80) := snd_iconst dX2_readElement_79 (by decide)
theorem s_X2_readElement_80 : Snd PG.nam M71 80 (m_ibin (fun a b => a + b) 81) := snd_iadd dX2_readElement_80
theorem s_X2_readElement_81 : Snd PG.nam M71 81 (m_putf [(1, 25)] .int 84) := snd_putf dX2_readElement_81 fd_X2_259
theorem s_X2_readElement_84 : Snd PG.nam M71 84 (m_aload 0 85) := snd_aload_n dX2_readElement_84 rfl
theorem s_X2_readElement_85 : Snd PG.nam M71 85 (m_aload 0 86) := snd_aload_n dX2_readElement_85 rfl
theorem s_X2_readElement_86 : Snd PG.nam M71 86 (m_const (.int (nI 6)) 88) := snd_bipush dX2_readElement_86 (by decide)
theorem s_X2_readElement_88 : Snd PG.nam M71 88 (m_callV false [(1, 63)] 1 91) := snd_callV (nam := PG.nam) (List.forall_mem_cons.mpr ⟨dr_V (ym := PG.nam 63) dX2_readElement_88 (Or.inl w1692) mi_63 rfl (lw_all_tbl qs35), (fun q hq => absurd hq List.not_mem_nil)⟩) (by decide)
theorem s_X2_readElement_91 : Snd PG.nam M71 91 (m_ifz (fun x => if x = 0 then 94 else 112)) := snd_if_ne dX2_readElement_91 (by decide)
theorem s_X2_readElement_94 : Snd PG.nam M71 94 (m_aload 0 95) := snd_aload_n dX2_readElement_94 rfl
theorem s_X2_readElement_95 : Snd PG.nam M71 95 (m_const (.int (nI 7)) 97) := snd_bipush dX2_readElement_95 (by decide)
theorem s_X2_readElement_97 : Snd PG.nam M71 97 (m_callV false [(1, 63)] 1 100) := snd_callV (nam := PG.nam) (List.forall_mem_cons.mpr ⟨dr_V (ym := PG.nam 63) dX2_readElement_97 (Or.inl w1692) mi_63 rfl (lw_all_tbl qs35), (fun q hq => absurd hq List.not_mem_nil)⟩) (by decide)
theorem s_X2_readElement_100 : Snd PG.nam M71 100 (m_ifz (fun x => if x = 0 then 103 else 112)) := snd_if_ne dX2_readElement_100 (by decide)
theorem s_X2_readElement_103 : Snd PG.nam M71 103 (m_aload 0 104) := snd_aload_n dX2_readElement_103 rfl
theorem s_X2_readElement_104 : Snd PG.nam M71 104 (m_const (.int (nI 123)) 106) := snd_bipush dX2_readElement_104 (by decide)
theorem s_X2_readElement_106 : Snd PG.nam M71 106 (m_callV false [(1, 69)] 1 109) := snd_callV (nam := PG.nam) (List.forall_mem_cons.mpr ⟨dr_V (ym := PG.nam 69) dX2_readElement_106 (Or.inl w1727) mi_69 rfl (lw_all_tbl qs41), (fun q hq => absurd hq List.not_mem_nil)⟩) (by decide)
theorem s_X2_readElement_109 : Snd PG.nam M71 109 (m_ifz (fun x => if x = 0 then 116 else 112)) := snd_if_eq dX2_readElement_109 (by decide)
theorem s_X2_readElement_112 : Snd PG.nam M71 112 (m_const (.int (nI 1)) 113) := snd_iconst dX2_readElement_112 (by decide)
theorem s_X2_readElement_113 : Snd PG.nam M71 113 (m_goto 117) := snd_goto dX2_readElement_113 (by decide)
theorem s_X2_readElement_116 : Snd PG.nam M71 116 (m_const (.int (nI 0)) 117) := snd_iconst dX2_readElement_116 (by decide)
theorem s_X2_readElement_117 : Snd PG.nam M71 117 (m_putf [(1, 22)] .boolean 120) := snd_putf dX2_readElement_117 fd_X2_262
theorem s_X2_readElement_120 : Snd PG.nam M71 120 (m_aload 0 121) := snd_aload_n dX2_readElement_120 rfl
theorem s_X2_readElement_121 : Snd PG.nam M71 121 (m_const (.int (nI 5)) 122) := snd_iconst dX2_readElement_121 (by decide)
theorem s_X2_readElement_122 : Snd PG.nam M71 122 (m_callV false [(1, 63)] 1 125) := snd_callV (nam := PG.nam) (List.forall_mem_cons.mpr ⟨dr_V (ym := PG.nam 63) dX2_readElement_122 (Or.inl w1692) mi_63 rfl (lw_all_tbl qs35), (fun q hq => absurd hq List.not_mem_nil)⟩) (by decide)
theorem s_X2_readElement_125 : Snd PG.nam M71 125 (m_ifz (fun x => if x = 0 then 139 else 128)) := snd_if_eq dX2_readElement_125 (by decide)
theorem s_X2_readElement_128 : Snd PG.nam M71 128 (m_aload 0 129) := snd_aload_n dX2_readElement_128 rfl
theorem s_X2_readElement_129 : Snd PG.nam M71 129 (m_callV true [(1, 58)] 0 132) := snd_callV (nam := PG.nam) (List.forall_mem_cons.mpr ⟨dr_V (ym := PG.nam 58) dX2_readElement_129 (Or.inl w1672) mi_58 rfl (lw_all_tbl qs32), (fun q hq => absurd hq List.not_mem_nil)⟩) (by decide)
theorem s_X2_readElement_132 : Snd PG.nam M71 132 (m_aload 0 133) := snd_aload_n dX2_readElement_132 rfl
theorem s_X2_readElement_133 : Snd PG.nam M71 133 (m_callV true [(1, 73)] 0 136) := snd_callV (nam := PG.nam) (List.forall_mem_cons.mpr ⟨dr_V (ym := PG.nam 73) dX2_readElement_133 (Or.inl w1743) mi_73 rfl (lw_all_tbl qs45), (fun q hq => absurd hq List.not_mem_nil)⟩) (by decide)
theorem s_X2_readElement_136 : Snd PG.nam M71 136 (m_goto 204) := snd_goto dX2_readElement_136 (by decide)
theorem s_X2_readElement_139 : Snd PG.nam M71 139 (m_aload 0 140) := snd_aload_n dX2_readElement_139 rfl
theorem s_X2_readElement_140 : Snd PG.nam M71 140 (m_getf [(1, 15)] 143) := snd_getf dX2_readElement_140 fd_X2_181
theorem s_X2_readElement_143 : Snd PG.nam M71 143 (m_const (.int (nI 3)) 144) := snd_iconst dX2_readElement_143 (by decide)
theorem s_X2_readElement_144 : Snd PG.nam M71 144 (m_icmp (fun x z => if x = z then 154 else 147)) := snd_icmp_eq dX2_readElement_144 (by decide)
theorem s_X2_readElement_147 : Snd PG.nam M71 147 (m_aload 0 148) := snd_aload_n dX2_readElement_147 rfl
theorem s_X2_readElement_148 : Snd PG.nam M71 148 (m_callV false [(1, 72)] 0 151) := snd_callV (nam := PG.nam) (List.forall_mem_cons.mpr ⟨dr_V (ym := PG.nam 72) dX2_readElement_148 (Or.inl w1739) mi_72 rfl (lw_all_tbl qs44), (fun q hq => absurd hq List.not_mem_nil)⟩) (by decide)
theorem s_X2_readElement_151 : Snd PG.nam M71 151 (m_ifz (fun x => if x = 0 then 204 else 154)) := snd_if_eq dX2_readElement_151 (by decide)
theorem s_X2_readElement_154 : Snd PG.nam M71 154 (m_const (.int (nI 3)) 155) := snd_iconst dX2_readElement_154 (by decide)
theorem s_X2_readElement_155 : Snd PG.nam M71 155 (m_aload 0 156) := snd_aload_n dX2_readElement_155 rfl
theorem s_X2_readElement_156 : Snd PG.nam M71 156 (m_getf [(1, 35)] 159) := snd_getf dX2_readElement_156 fd_X2_268
theorem s_X2_readElement_159 : Snd PG.nam M71 159 (m_ibin (fun a b => a * b) 160) := snd_imul dX2_readElement_159
theorem s_X2_readElement_160 : Snd PG.nam M71 160 (m_istore 2 161) := snd_istore_n dX2_readElement_160 rfl (by decide)
theorem s_X2_readElement_161 : Snd PG.nam M71 161 (m_aload 0 162) := snd_aload_n dX2_readElement_161 rfl
theorem s_X2_readElement_162 : Snd PG.nam M71 162 (m_dup 163) := snd_dup dX2_readElement_162
theorem s_X2_readElement_163 : Snd PG.nam M71 163 (m_getf [(1, 35)] 166) := snd_getf dX2_readElement_163 fd_X2_268
theorem s_X2_readElement_166 : Snd PG.nam M71 166 (m_const (.int (nI 1)) 167) := snd_iconst dX2_readElement_166 (by decide)
theorem s_X2_readElement_167 : Snd PG.nam M71 167 (m_ibin (fun a b => a + b) 168) := snd_iadd dX2_readElement_167
theorem s_X2_readElement_168 : Snd PG.nam M71 168 (m_putf [(1, 35)] .int 171) := snd_putf dX2_readElement_168 fd_X2_268
theorem s_X2_readElement_171 : Snd PG.nam M71 171 (m_const (.int (nI 0)) 172) := snd_iconst dX2_readElement_171 (by decide)
theorem s_X2_readElement_172 : Snd PG.nam M71 172 (m_istore 3 173) := snd_istore_n dX2_readElement_172 rfl (by decide)
theorem s_X2_readElement_173 : Snd PG.nam M71 173 (m_iload 3 174) := snd_iload_n dX2_readElement_173 rfl
theorem s_X2_readElement_174 : Snd PG.nam M71 174 (m_const (.int (nI 3)) 175) := snd_iconst dX2_readElement_174 (by decide)
theorem s_X2_readElement_175 : Snd PG.nam M71 175 (m_icmp (fun x z => if x < z then 178 else 198)) := snd_icmp_ge dX2_readElement_175 (by decide)
theorem s_X2_readElement_178 : Snd PG.nam M71 178 (m_aload 0 179) := snd_aload_n dX2_readElement_178 rfl
theorem s_X2_readElement_179 : Snd PG.nam M71 179 (m_getf [(1, 20)] 182) := snd_getf dX2_readElement_179 fd_X2_220
theorem s_X2_readElement_182 : Snd PG.nam M71 182 (m_ifz (fun x => if x < 0 then 185 else 198)) := snd_if_ge dX2_readElement_182 (by decide)
theorem s_X2_readElement_185 : Snd PG.nam M71 185 (m_aload 0 186) := snd_aload_n dX2_readElement_185 rfl
theorem s_X2_readElement_186 : Snd PG.nam M71 186 (m_iload 2 187) := snd_iload_n dX2_readElement_186 rfl
theorem s_X2_readElement_187 : Snd PG.nam M71 187 (m_iload 3 188) := snd_iload_n dX2_readElement_187 rfl
theorem s_X2_readElement_188 : Snd PG.nam M71 188 (m_ibin (fun a b => a + b) 189) := snd_iadd dX2_readElement_188
theorem s_X2_readElement_189 : Snd PG.nam M71 189 (m_callV true [(1, 74)] 1 192) := snd_callV (nam := PG.nam) (List.forall_mem_cons.mpr ⟨dr_V (ym := PG.nam 74) dX2_readElement_189 (Or.inl w1747) mi_74 rfl (lw_all_tbl qs46), (fun q hq => absurd hq List.not_mem_nil)⟩) (by decide)
theorem s_X2_readElement_192 : Snd PG.nam M71 192 (m_iinc 3 (nI 1) 195) := snd_iinc dX2_readElement_192 (by decide) (by decide)
theorem s_X2_readElement_195 : Snd PG.nam M71 195 (m_goto 173) := snd_goto dX2_readElement_195 (by decide)
theorem s_X2_readElement_198 : Snd PG.nam M71 198 (m_aload 0 199) := snd_aload_n dX2_readElement_198 rfl
theorem s_X2_readElement_199 : Snd PG.nam M71 199 (m_const (.int (nI 2)) 200) := snd_iconst dX2_readElement_199 (by decide)
theorem s_X2_readElement_200 : Snd PG.nam M71 200 (m_iload 2 201) := snd_iload_n dX2_readElement_200 rfl
theorem s_X2_readElement_201 : Snd PG.nam M71 201 (m_callV true [(1, 70)] 2 204) := snd_callV (nam := PG.nam) (List.forall_mem_cons.mpr ⟨dr_V (ym := PG.nam 70) dX2_readElement_201 (Or.inl w1731) mi_70 rfl (lw_all_tbl qs42), (fun q hq => absurd hq List.not_mem_nil)⟩) (by decide)
theorem s_X2_readElement_204 : Snd PG.nam M71 204 (m_vret) := snd_vret dX2_readElement_204 rfl
theorem T71 : ∀ q ∈ S71, Snd PG.nam M71 q.1 q.2 := List.forall_mem_cons.mpr ⟨s_X2_readElement_0, List.forall_mem_cons.mpr ⟨s_X2_readElement_1, List.forall_mem_cons.mpr ⟨s_X2_readElement_2, List.forall_mem_cons.mpr ⟨s_X2_readElement_5, List.forall_mem_cons.mpr ⟨s_X2_readElement_8, List.forall_mem_cons.mpr ⟨s_X2_readElement_9, List.forall_mem_cons.mpr ⟨s_X2_readElement_11, List.forall_mem_cons.mpr ⟨s_X2_readElement_14, List.forall_mem_cons.mpr ⟨s_X2_readElement_17, List.forall_mem_cons.mpr ⟨s_X2_readElement_18, List.forall_mem_cons.mpr ⟨s_X2_readElement_20, List.forall_mem_cons.mpr ⟨s_X2_readElement_23, List.forall_mem_cons.mpr ⟨s_X2_readElement_26, List.forall_mem_cons.mpr ⟨s_X2_readElement_27, List.forall_mem_cons.mpr ⟨s_X2_readElement_29, List.forall_mem_cons.mpr ⟨s_X2_readElement_32, List.forall_mem_cons.mpr ⟨s_X2_readElement_35, List.forall_mem_cons.mpr ⟨s_X2_readElement_36, List.forall_mem_cons.mpr ⟨s_X2_readElement_39, List.forall_mem_cons.mpr ⟨s_X2_readElement_40, List.forall_mem_cons.mpr ⟨s_X2_readElement_43, List.forall_mem_cons.mpr ⟨s_X2_readElement_44, List.forall_mem_cons.mpr ⟨s_X2_readElement_47, List.forall_mem_cons.mpr ⟨s_X2_readElement_50, List.forall_mem_cons.mpr ⟨s_X2_readElement_51, List.forall_mem_cons.mpr ⟨s_X2_readElement_54, List.forall_mem_cons.mpr ⟨s_X2_readElement_55, List.forall_mem_cons.mpr ⟨s_X2_readElement_56, List.forall_mem_cons.mpr ⟨s_X2_readElement_57, List.forall_mem_cons.mpr ⟨s_X2_readElement_60, List.forall_mem_cons.mpr ⟨s_X2_readElement_61, List.forall_mem_cons.mpr ⟨s_X2_readElement_64, List.forall_mem_cons.mpr ⟨s_X2_readElement_66, List.forall_mem_cons.mpr ⟨s_X2_readElement_69, List.forall_mem_cons.mpr ⟨s_X2_readElement_70, List.forall_mem_cons.mpr ⟨s_X2_readElement_73, List.forall_mem_cons.mpr ⟨s_X2_readElement_74, List.forall_mem_cons.mpr ⟨s_X2_readElement_75, List.forall_mem_cons.mpr ⟨s_X2_readElement_76, List.forall_mem_cons.mpr ⟨s_X2_readElement_79, List.forall_mem_cons.mpr ⟨s_X2_readElement_80, List.forall_mem_cons.mpr ⟨s_X2_readElement_81, List.forall_mem_cons.mpr ⟨s_X2_readElement_84, List.forall_mem_cons.mpr ⟨s_X2_readElement_85, List.forall_mem_cons.mpr ⟨s_X2_readElement_86, List.forall_mem_cons.mpr ⟨s_X2_readElement_88, List.forall_mem_cons.mpr ⟨s_X2_readElement_91, List.forall_mem_cons.mpr ⟨s_X2_readElement_94, List.forall_mem_cons.mpr ⟨s_X2_readElement_95, List.forall_mem_cons.mpr ⟨s_X2_readElement_97, List.forall_mem_cons.mpr ⟨s_X2_readElement_100, List.forall_mem_cons.mpr ⟨s_X2_readElement_103, List.forall_mem_cons.mpr ⟨s_X2_readElement_104, List.forall_mem_cons.mpr ⟨s_X2_readElement_106, List.forall_mem_cons.mpr ⟨s_X2_readElement_109, List.forall_mem_cons.mpr ⟨s_X2_readElement_112, List.forall_mem_cons.mpr ⟨s_X2_readElement_113, List.forall_mem_cons.mpr ⟨s_X2_readElement_116, List.forall_mem_cons.mpr ⟨s_X2_readElement_117, List.forall_mem_cons.mpr ⟨s_X2_readElement_120, List.forall_mem_cons.mpr ⟨s_X2_readElement_121, List.forall_mem_cons.mpr ⟨s_X2_readElement_122, List.forall_mem_cons.mpr ⟨s_X2_readElement_125, List.forall_mem_cons.mpr ⟨s_X2_readElement_128, List.forall_mem_cons.mpr ⟨s_X2_readElement_129, List.forall_mem_cons.mpr ⟨s_X2_readElement_132, List.forall_mem_cons.mpr ⟨s_X2_readElement_133, List.forall_mem_cons.mpr ⟨s_X2_readElement_136, List.forall_mem_cons.mpr ⟨s_X2_readElement_139, List.forall_mem_cons.mpr ⟨s_X2_readElement_140, List.forall_mem_cons.mpr ⟨s_X2_readElement_143, List.forall_mem_cons.mpr ⟨s_X2_readElement_144, List.forall_mem_cons.mpr ⟨s_X2_readElement_147, List.forall_mem_cons.mpr ⟨s_X2_readElement_148, List.forall_mem_cons.mpr ⟨s_X2_readElement_151, List.forall_mem_cons.mpr ⟨s_X2_readElement_154, List.forall_mem_cons.mpr ⟨s_X2_readElement_155, List.forall_mem_cons.mpr ⟨s_X2_readElement_156, List.forall_mem_cons.mpr ⟨s_X2_readElement_159, List.forall_mem_cons.mpr ⟨s_X2_readElement_160, List.forall_mem_cons.mpr ⟨s_X2_readElement_161, List.forall_mem_cons.mpr ⟨s_X2_readElement_162, List.forall_mem_cons.mpr ⟨s_X2_readElement_163, List.forall_mem_cons.mpr ⟨s_X2_readElement_166, List.forall_mem_cons.mpr ⟨s_X2_readElement_167, List.forall_mem_cons.mpr ⟨s_X2_readElement_168, List.forall_mem_cons.mpr ⟨s_X2_readElement_171, List.forall_mem_cons.mpr ⟨s_X2_readElement_172, List.forall_mem_cons.mpr ⟨s_X2_readElement_173, List.forall_mem_cons.mpr ⟨s_X2_readElement_174, List.forall_mem_cons.mpr ⟨s_X2_readElement_175, List.forall_mem_cons.mpr ⟨s_X2_readElement_178, List.forall_mem_cons.mpr ⟨s_X2_readElement_179, List.forall_mem_cons.mpr ⟨s_X2_readElement_182, List.forall_mem_cons.mpr ⟨s_X2_readElement_185, List.forall_mem_cons.mpr ⟨s_X2_readElement_186, List.forall_mem_cons.mpr ⟨s_X2_readElement_187, List.forall_mem_cons.mpr ⟨s_X2_readElement_188, List.forall_mem_cons.mpr ⟨s_X2_readElement_189, List.forall_mem_cons.mpr ⟨s_X2_readElement_192, List.forall_mem_cons.mpr ⟨s_X2_readElement_195, List.forall_mem_cons.mpr ⟨s_X2_readElement_198, List.forall_mem_cons.mpr ⟨s_X2_readElement_199, List.forall_mem_cons.mpr ⟨s_X2_readElement_200, List.forall_mem_cons.mpr ⟨s_X2_readElement_201, List.forall_mem_cons.mpr ⟨s_X2_readElement_204, (fun q hq => absurd hq List.not_mem_nil)⟩⟩⟩⟩⟩⟩⟩⟩⟩⟩⟩⟩⟩⟩⟩⟩⟩⟩⟩⟩⟩⟩⟩⟩⟩⟩⟩⟩⟩⟩⟩⟩⟩⟩⟩⟩⟩⟩⟩⟩⟩⟩⟩⟩⟩⟩⟩⟩⟩⟩⟩⟩⟩⟩⟩⟩⟩⟩⟩⟩⟩⟩⟩⟩⟩⟩⟩⟩⟩⟩⟩⟩⟩⟩⟩⟩⟩⟩⟩⟩⟩⟩⟩⟩⟩⟩⟩⟩⟩⟩⟩⟩⟩⟩⟩⟩⟩⟩⟩⟩⟩⟩⟩⟩⟩⟩
theorem s_X2_isTerm_0 : Snd PG.nam M72 0 (m_aload 0 1) := snd_aload_n dX2_isTerm_0 rfl
theorem s_X2_isTerm_1 : Snd PG.nam M72 1 (m_getf [(1, 15)] 4) := snd_getf dX2_isTerm_1 fd_X2_181
theorem s_X2_isTerm_4 : Snd PG.nam M72 4 (m_const (.int (nI 2)) 5) := snd_iconst dX2_isTerm_4 (by decide)
theorem s_X2_isTerm_5 : Snd PG.nam M72 5 (m_icmp (fun x z => if x = z then 8 else 10)) := snd_icmp_ne dX2_isTerm_5 (by decide)
theorem s_X2_isTerm_8 : Snd PG.nam M72 8 (m_const (.int (nI 1)) 9) := snd_iconst dX2_isTerm_8 (by decide)
theorem s_X2_isTerm_9 : Snd PG.nam M72 9 (m_iret .boolean) := snd_iret dX2_isTerm_9 rfl
theorem s_X2_isTerm_10 : Snd PG.nam M72 10 (m_const (.int (nI 0)) 11) := snd_iconst dX2_isTerm_10 (by decide)
theorem s_X2_isTerm_11 : Snd PG.nam M72 11 (m_istore 1 12) := snd_istore_n dX2_isTerm_11 rfl (by decide)
theorem s_X2_isTerm_12 : Snd PG.nam M72 12 (m_const (.int (nI 0)) 13) := snd_iconst dX2_isTerm_12 (by decide)
theorem s_X2_isTerm_13 : Snd PG.nam M72 13 (m_istore 2 14) := snd_istore_n dX2_isTerm_13 rfl (by decide)
theorem s_X2_isTerm_14 : Snd PG.nam M72 14 (m_iload 2 15) := snd_iload_n dX2_isTerm_14 rfl
theorem s_X2_isTerm_15 : Snd PG.nam M72 15 (m_const (.int (nI 11)) 17) := snd_bipush dX2_isTerm_15 (by decide)
theorem s_X2_isTerm_17 : Snd PG.nam M72 17 (m_icmp (fun x z => if x < z then 20 else 36)) := snd_icmp_ge dX2_isTerm_17 (by decide)
theorem s_X2_isTerm_20 : Snd PG.nam M72 20 (m_aload 0 21) := snd_aload_n dX2_isTerm_20 rfl
theorem s_X2_isTerm_21 : Snd PG.nam M72 21 (m_iload 2 22) := snd_iload_n dX2_isTerm_21 rfl
theorem s_X2_isTerm_22 : Snd PG.nam M72 22 (m_callV false [(1, 63)] 1 25) := snd_callV (nam := PG.nam) (List.forall_mem_cons.mpr ⟨dr_V (ym := PG.nam 63) dX2_isTerm_22 (Or.inl w1692) mi_63 rfl (lw_all_tbl qs35), (fun q hq => absurd hq List.not_mem_nil)⟩) (by decide)
theorem s_X2_isTerm_25 : Snd PG.nam M72 25 (m_ifz (fun x => if x = 0 then 30 else 28)) := snd_if_eq dX2_isTerm_25 (by decide)
theorem s_X2_isTerm_28 : Snd PG.nam M72 28 (m_const (.int (nI 1)) 29) := snd_iconst dX2_isTerm_28 (by decide)
theorem s_X2_isTerm_29 : Snd PG.nam M72 29 (m_istore 1 30) := snd_istore_n dX2_isTerm_29 rfl (by decide)
theorem s_X2_isTerm_30 : Snd PG.nam M72 30 (m_iinc 2 (nI 1) 33) := snd_iinc dX2_isTerm_30 (by decide) (by decide)
theorem s_X2_isTerm_33 : Snd PG.nam M72 33 (m_goto 14) := snd_goto dX2_isTerm_33 (by decide)
theorem s_X2_isTerm_36 : Snd PG.nam M72 36 (m_aload 0 37) := snd_aload_n dX2_isTerm_36 rfl
theorem s_X2_isTerm_37 : Snd PG.nam M72 37 (m_getf [(1, 15)] 40) := snd_getf dX2_isTerm_37 fd_X2_181
theorem s_X2_isTerm_40 : Snd PG.nam M72 40 (m_const (.int (nI 1)) 41) := snd_iconst dX2_isTerm_40 (by decide)
theorem s_X2_isTerm_41 : Snd PG.nam M72 41 (m_icmp (fun x z => if x = z then 44 else 52)) := snd_icmp_ne dX2_isTerm_41 (by decide)
theorem s_X2_isTerm_44 : Snd PG.nam M72 44 (m_iload 1 45) := snd_iload_n dX2_isTerm_44 rfl
theorem s_X2_isTerm_45 : Snd PG.nam M72 45 (m_ifz (fun x => if x = 0 then 48 else 52)) := snd_if_ne dX2_isTerm_45 (by decide)
theorem s_X2_isTerm_48 : Snd PG.nam M72 48 (m_const (.int (nI 1)) 49) := snd_iconst dX2_isTerm_48 (by decide)
theorem s_X2_isTerm_49 : Snd PG.nam M72 49 (m_goto 53) := snd_goto dX2_isTerm_49 (by decide)
theorem s_X2_isTerm_52 : Snd PG.nam M72 52 (m_const (.int (nI 0)) 53) := snd_iconst dX2_isTerm_52 (by decide)
theorem s_X2_isTerm_53 : Snd PG.nam M72 53 (m_iret .boolean) := snd_iret dX2_isTerm_53 rfl
theorem T72 : ∀ q ∈ S72, Snd PG.nam M72 q.1 q.2 := List.forall_mem_cons.mpr ⟨s_X2_isTerm_0, List.forall_mem_cons.mpr ⟨s_X2_isTerm_1, List.forall_mem_cons.mpr ⟨s_X2_isTerm_4, List.forall_mem_cons.mpr ⟨s_X2_isTerm_5, List.forall_mem_cons.mpr ⟨s_X2_isTerm_8, List.forall_mem_cons.mpr ⟨s_X2_isTerm_9, List.forall_mem_cons.mpr ⟨s_X2_isTerm_10, List.forall_mem_cons.mpr ⟨s_X2_isTerm_11, List.forall_mem_cons.mpr ⟨s_X2_isTerm_12, List.forall_mem_cons.mpr ⟨s_X2_isTerm_13, List.forall_mem_cons.mpr ⟨s_X2_isTerm_14, List.forall_mem_cons.mpr ⟨s_X2_isTerm_15, List.forall_mem_cons.mpr ⟨s_X2_isTerm_17, List.forall_mem_cons.mpr ⟨s_X2_isTerm_20, List.forall_mem_cons.mpr ⟨s_X2_isTerm_21, List.forall_mem_cons.mpr ⟨s_X2_isTerm_22, List.forall_mem_cons.mpr ⟨s_X2_isTerm_25, List.forall_mem_cons.mpr ⟨s_X2_isTerm_28, List.forall_mem_cons.mpr ⟨s_X2_isTerm_29, List.forall_mem_cons.mpr ⟨s_X2_isTerm_30, List.forall_mem_cons.mpr ⟨s_X2_isTerm_33, List.forall_mem_cons.mpr ⟨s_X2_isTerm_36, List.forall_mem_cons.mpr ⟨s_X2_isTerm_37, List.forall_mem_cons.mpr ⟨s_X2_isTerm_40, List.forall_mem_cons.mpr ⟨s_X2_isTerm_41, List.forall_mem_cons.mpr ⟨s_X2_isTerm_44, List.forall_mem_cons.mpr ⟨s_X2_isTerm_45, List.forall_mem_cons.mpr ⟨s_X2_isTerm_48, List.forall_mem_cons.mpr ⟨s_X2_isTerm_49, List.forall_mem_cons.mpr ⟨s_X2_isTerm_52, List.forall_mem_cons.mpr ⟨s_X2_isTerm_53, (fun q hq => absurd hq List.not_mem_nil)⟩⟩⟩⟩⟩⟩⟩⟩⟩⟩⟩⟩⟩⟩⟩⟩⟩⟩⟩⟩⟩⟩⟩⟩⟩⟩⟩⟩⟩⟩⟩
theorem s_X2_readTest_0 : Snd PG.nam M73 0 (m_aload 0 1) := snd_aload_n dX2_readTest_0 rfl
theorem s_X2_readTest_1 : Snd PG.nam M73 1 (m_getf [(1, 39)] 4) := snd_getf dX2_readTest_1 fd_X2_247
theorem s_X2_readTest_4 : Snd PG.nam M73 4 (m_istore 1 5) := snd_istore_n dX2_readTest_4 rfl (by decide)
theorem s_X2_readTest_5 : Snd PG.nam M73 5 (m_aload 0 6) := snd_aload_n dX2_readTest_5 rfl
theorem s_X2_readTest_6 : Snd PG.nam M73 6 (m_dup 7) := snd_dup dX2_readTest_6
theorem s_X2_readTest_7 : Snd PG.nam M73 7 (m_getf [(1, 39)] 10) := snd_getf dX2_readTest_7 fd_X2_247
theorem s_X2_readTest_10 : Snd PG.nam M73 10 (m_const (.int (nI 1)) 11) := snd_iconst dX2_readTest_10 (by decide)
theorem s_X2_readTest_11 : Snd PG.nam M73 11 (m_ibin (fun a b => a + b) 12) := snd_iadd dX2_readTest_11
theorem s_X2_readTest_12 : Snd PG.nam M73 12 (m_putf [(1, 39)] .int 15) := snd_putf dX2_readTest_12 fd_X2_247
theorem s_X2_readTest_15 : Snd PG.nam M73 15 (m_aload 0 16) := snd_aload_n dX2_readTest_15 rfl
theorem s_X2_readTest_16 : Snd PG.nam M73 16 (m_getf [(1, 36)] 19) := snd_getf dX2_readTest_16 fd_X2_55
theorem s_X2_readTest_19 : Snd PG.nam M73 19 (m_iload 1 20) := snd_iload_n dX2_readTest_19 rfl
theorem s_X2_readTest_20 : Snd PG.nam M73 20 (m_aload 0 21) := snd_aload_n dX2_readTest_20 rfl
theorem s_X2_readTest_21 : Snd PG.nam M73 21 (m_getf [(1, 29)] 24) := snd_getf dX2_readTest_21 fd_X2_40
theorem s_X2_readTest_24 : Snd PG.nam M73 24 (m_aload 0 25) := snd_aload_n dX2_readTest_24 rfl
theorem s_X2_readTest_25 : Snd PG.nam M73 25 (m_getf [(1, 27)] 28) := snd_getf dX2_readTest_25 fd_X2_250
theorem s_X2_readTest_28 : Snd PG.nam M73 28 (m_const (.int (nI 1)) 29) := snd_iconst dX2_readTest_28 (by decide)
theorem s_X2_readTest_29 : Snd PG.nam M73 29 (m_ibin (fun a b => a - b) 30) := snd_isub dX2_readTest_29
theorem s_X2_readTest_30 : Snd PG.nam M73 30 (m_iald [.int] 31) := snd_iald dX2_readTest_30
theorem s_X2_readTest_31 : Snd PG.nam M73 31 (m_iast [.int] 32) := snd_iast dX2_readTest_31
theorem s_X2_readTest_32 : Snd PG.nam M73 32 (m_aload 0 33) := snd_aload_n dX2_readTest_32 rfl
theorem s_X2_readTest_33 : Snd PG.nam M73 33 (m_getf [(1, 38)] 36) := snd_getf dX2_readTest_33 fd_X2_61
theorem s_X2_readTest_36 : Snd PG.nam M73 36 (m_iload 1 37) := snd_iload_n dX2_readTest_36 rfl
theorem s_X2_readTest_37 : Snd PG.nam M73 37 (m_const (.int (nI 0)) 38) := snd_iconst dX2_readTest_37 (by decide)
theorem s_X2_readTest_38 : Snd PG.nam M73 38 (m_iast [.byte, .boolean] 39) := snd_bast dX2_readTest_38
theorem s_X2_readTest_39 : Snd PG.nam M73 39 (m_const (.int (nI 0)) 40) := snd_iconst dX2_readTest_39 (by decide)
theorem s_X2_readTest_40 : Snd PG.nam M73 40 (m_istore 2 41) := snd_istore_n dX2_readTest_40 rfl (by decide)
theorem s_X2_readTest_41 : Snd PG.nam M73 41 (m_aload 0 42) := snd_aload_n dX2_readTest_41 rfl
theorem s_X2_readTest_42 : Snd PG.nam M73 42 (m_const (.int (nI 9)) 44) := snd_bipush dX2_readTest_42 (by decide)
theorem s_X2_readTest_44 : Snd PG.nam M73 44 (m_callV false [(1, 63)] 1 47) := snd_callV (nam := PG.nam) (List.forall_mem_cons.mpr ⟨dr_V (ym := PG.nam 63) dX2_readTest_44 (Or.inl w1692) mi_63 rfl (lw_all_tbl qs35), (fun q hq => absurd hq List.not_mem_nil)⟩) (by decide)
theorem s_X2_readTest_47 : Snd PG.nam M73 47 (m_ifz (fun x => if x = 0 then 101 else 50)) := snd_if_eq dX2_readTest_47 (by decide)
theorem s_X2_readTest_50 : Snd PG.nam M73 50 (m_aload 0 51) := snd_aload_n dX2_readTest_50 rfl
theorem s_X2_readTest_51 : Snd PG.nam M73 51 (m_getf [(1, 20)] 54) := snd_getf dX2_readTest_51 fd_X2_220
theorem s_X2_readTest_54 : Snd PG.nam M73 54 (m_ifz (fun x => if x < 0 then 57 else 101)) := snd_if_ge dX2_readTest_54 (by decide)
theorem s_X2_readTest_57 : Snd PG.nam M73 57 (m_aload 0 58) := snd_aload_n dX2_readTest_57 rfl
theorem s_X2_readTest_58 : Snd PG.nam M73 58 (m_getf [(1, 38)] 61) := snd_getf dX2_readTest_58 fd_X2_61
theorem s_X2_readTest_61 : Snd PG.nam M73 61 (m_iload 1 62) := snd_iload_n dX2_readTest_61 rfl
theorem s_X2_readTest_62 : Snd PG.nam M73 62 (m_aload 0 63) := snd_aload_n dX2_readTest_62 rfl
theorem s_X2_readTest_63 : Snd PG.nam M73 63 (m_getf [(1, 38)] 66) := snd_getf dX2_readTest_63 fd_X2_61
theorem s_X2_readTest_66 : Snd PG.nam M73 66 (m_iload 1 67) := snd_iload_n dX2_readTest_66 rfl
theorem s_X2_readTest_67 : Snd PG.nam M73 67 (m_iald [.byte, .boolean] 68) := snd_bald dX2_readTest_67
theorem s_X2_readTest_68 : Snd PG.nam M73 68 (m_ifz (fun x => if x = 0 then 71 else 75)) := snd_if_ne dX2_readTest_68 (by decide)
theorem s_X2_readTest_71 : Snd PG.nam M73 71 (m_const (.int (nI 1)) 72) := snd_iconst dX2_readTest_71 (by decide)
theorem s_X2_readTest_72 : Snd PG.nam M73 72 (m_goto 76) := snd_goto dX2_readTest_72 (by decide)
theorem s_X2_readTest_75 : Snd PG.nam M73 75 (m_const (.int (nI 0)) 76) := snd_iconst dX2_readTest_75 (by decide)
theorem s_X2_readTest_76 : Snd PG.nam M73 76 (m_iast [.byte, .boolean] 77) := snd_bast dX2_readTest_76
theorem s_X2_readTest_77 : Snd PG.nam M73 77 (m_aload 0 78) := snd_aload_n dX2_readTest_77 rfl
theorem s_X2_readTest_78 : Snd PG.nam M73 78 (m_iload 2 79) := snd_iload_n dX2_readTest_78 rfl
theorem s_X2_readTest_79 : Snd PG.nam M73 79 (m_const (.int (nI 4)) 80) := snd_iconst dX2_readTest_79 (by decide)
theorem s_X2_readTest_80 : Snd PG.nam M73 80 (m_icmp (fun x z => if x < z then 83 else 87)) := snd_icmp_ge dX2_readTest_80 (by decide)
theorem s_X2_readTest_83 : Snd PG.nam M73 83 (m_const (.int (nI 1)) 84) := snd_iconst dX2_readTest_83 (by decide)
theorem s_X2_readTest_84 : Snd PG.nam M73 84 (m_goto 88) := snd_goto dX2_readTest_84 (by decide)
theorem s_X2_readTest_87 : Snd PG.nam M73 87 (m_const (.int (nI 0)) 88) := snd_iconst dX2_readTest_87 (by decide)
theorem s_X2_readTest_88 : Snd PG.nam M73 88 (m_callV false [(1, 64)] 1 91) := snd_callV (nam := PG.nam) (List.forall_mem_cons.mpr ⟨dr_V (ym := PG.nam 64) dX2_readTest_88 (Or.inl w1707) mi_64 rfl (lw_all_tbl qs36), (fun q hq => absurd hq List.not_mem_nil)⟩) (by decide)
theorem s_X2_readTest_91 : Snd PG.nam M73 91 (m_ifz (fun x => if x = 0 then 94 else 95)) := snd_if_ne dX2_readTest_91 (by decide)
theorem s_X2_readTest_94 : Snd PG.nam M73 94 (m_vret) := snd_vret dX2_readTest_94 rfl
theorem s_X2_readTest_95 : Snd PG.nam M73 95 (m_iinc 2 (nI 1) 98) := snd_iinc dX2_readTest_95 (by decide) (by decide)
theorem s_X2_readTest_98 : Snd PG.nam M73 98 (m_goto 41) := snd_goto dX2_readTest_98 (by decide)
theorem s_X2_readTest_101 : Snd PG.nam M73 101 (m_aload 0 102) := snd_aload_n dX2_readTest_101 rfl
theorem s_X2_readTest_102 : Snd PG.nam M73 102 (m_const (.int (nI 10)) 104) := snd_bipush dX2_readTest_102 (by decide)
theorem s_X2_readTest_104 : Snd PG.nam M73 104 (m_callV false [(1, 63)] 1 107) := snd_callV (nam := PG.nam) (List.forall_mem_cons.mpr ⟨dr_V (ym := PG.nam 63) dX2_readTest_104 (Or.inl w1692) mi_63 rfl (lw_all_tbl qs35), (fun q hq => absurd hq List.not_mem_nil)⟩) (by decide)
theorem s_X2_readTest_107 : Snd PG.nam M73 107 (m_ifz (fun x => if x = 0 then 138 else 110)) := snd_if_eq dX2_readTest_107 (by decide)
theorem s_X2_readTest_110 : Snd PG.nam M73 110 (m_aload 0 111) := snd_aload_n dX2_readTest_110 rfl
theorem s_X2_readTest_111 : Snd PG.nam M73 111 (m_callV true [(1, 58)] 0 114) := snd_callV (nam := PG.nam) (List.forall_mem_cons.mpr ⟨dr_V (ym := PG.nam 58) dX2_readTest_111 (Or.inl w1672) mi_58 rfl (lw_all_tbl qs32), (fun q hq => absurd hq List.not_mem_nil)⟩) (by decide)
theorem s_X2_readTest_114 : Snd PG.nam M73 114 (m_aload 0 115) := snd_aload_n dX2_readTest_114 rfl
theorem s_X2_readTest_115 : Snd PG.nam M73 115 (m_getf [(1, 37)] 118) := snd_getf dX2_readTest_115 fd_X2_58
theorem s_X2_readTest_118 : Snd PG.nam M73 118 (m_iload 1 119) := snd_iload_n dX2_readTest_118 rfl
theorem s_X2_readTest_119 : Snd PG.nam M73 119 (m_const (.int (nI 98)) 121) := snd_bipush dX2_readTest_119 (by decide)
theorem s_X2_readTest_121 : Snd PG.nam M73 121 (m_iast [.int] 122) := snd_iast dX2_readTest_121
theorem s_X2_readTest_122 : Snd PG.nam M73 122 (m_aload 0 123) := snd_aload_n dX2_readTest_122 rfl
theorem s_X2_readTest_123 : Snd PG.nam M73 123 (m_getf [(1, 33)] 126) := snd_getf dX2_readTest_123 fd_X2_49
theorem s_X2_readTest_126 : Snd PG.nam M73 126 (m_const (.int (nI 60)) 128) := snd_bipush dX2_readTest_126 (by decide)
theorem s_X2_readTest_128 : Snd PG.nam M73 128 (m_const (.int (nI 2)) 129) := snd_iconst dX2_readTest_128 (by decide)
theorem s_X2_readTest_129 : Snd PG.nam M73 129 (m_iload 1 130) := snd_iload_n dX2_readTest_129 rfl
theorem s_X2_readTest_130 : Snd PG.nam M73 130 (m_ibin (fun a b => a * b) 131) := snd_imul dX2_readTest_130
theorem s_X2_readTest_131 : Snd PG.nam M73 131 (m_ibin (fun a b => a + b) 132) := snd_iadd dX2_readTest_131
theorem s_X2_readTest_132 : Snd PG.nam M73 132 (m_aload 0 133) := snd_aload_n dX2_readTest_132 rfl
theorem s_X2_readTest_133 : Snd PG.nam M73 133 (m_callV false [(1, 66)] 0 136) := snd_callV (nam := PG.nam) (List.forall_mem_cons.mpr ⟨dr_V (ym := PG.nam 66) dX2_readTest_133 (Or.inl w1715) mi_66 rfl (lw_all_tbl qs38), (fun q hq => absurd hq List.not_mem_nil)⟩) (by decide)
theorem s_X2_readTest_136 : Snd PG.nam M73 136 (m_iast [.int] 137) := snd_iast dX2_readTest_136
theorem s_X2_readTest_137 : Snd PG.nam M73 137 (m_vret) := snd_vret dX2_readTest_137 rfl
theorem s_X2_readTest_138 : Snd PG.nam M73 138 (m_aload 0 139) := snd_aload_n dX2_readTest_138 rfl
theorem s_X2_readTest_139 : Snd PG.nam M73 139 (m_const (.int (nI 60)) 141) := snd_bipush dX2_readTest_139 (by decide)
theorem s_X2_readTest_141 : Snd PG.nam M73 141 (m_const (.int (nI 2)) 142) := snd_iconst dX2_readTest_141 (by decide)
theorem s_X2_readTest_142 : Snd PG.nam M73 142 (m_iload 1 143) := snd_iload_n dX2_readTest_142 rfl
theorem s_X2_readTest_143 : Snd PG.nam M73 143 (m_ibin (fun a b => a * b) 144) := snd_imul dX2_readTest_143
theorem s_X2_readTest_144 : Snd PG.nam M73 144 (m_ibin (fun a b => a + b) 145) := snd_iadd dX2_readTest_144
theorem s_X2_readTest_145 : Snd PG.nam M73 145 (m_callV true [(1, 74)] 1 148) := snd_callV (nam := PG.nam) (List.forall_mem_cons.mpr ⟨dr_V (ym := PG.nam 74) dX2_readTest_145 (Or.inl w1747) mi_74 rfl (lw_all_tbl qs46), (fun q hq => absurd hq List.not_mem_nil)⟩) (by decide)
theorem s_X2_readTest_148 : Snd PG.nam M73 148 (m_aload 0 149) := snd_aload_n dX2_readTest_148 rfl
theorem s_X2_readTest_149 : Snd PG.nam M73 149 (m_getf [(1, 20)] 152) := snd_getf dX2_readTest_149 fd_X2_220
theorem s_X2_readTest_152 : Snd PG.nam M73 152 (m_ifz (fun x => if x < 0 then 156 else 155)) := snd_if_lt dX2_readTest_152 (by decide)
theorem s_X2_readTest_155 : Snd PG.nam M73 155 (m_vret) := snd_vret dX2_readTest_155 rfl
theorem s_X2_readTest_156 : Snd PG.nam M73 156 (m_aload 0 157) := snd_aload_n dX2_readTest_156 rfl
theorem s_X2_readTest_157 : Snd PG.nam M73 157 (m_getf [(1, 37)] 160) := snd_getf dX2_readTest_157 fd_X2_58
theorem s_X2_readTest_160 : Snd PG.nam M73 160 (m_iload 1 161) := snd_iload_n dX2_readTest_160 rfl
theorem s_X2_readTest_161 : Snd PG.nam M73 161 (m_aload 0 162) := snd_aload_n dX2_readTest_161 rfl
theorem s_X2_readTest_162 : Snd PG.nam M73 162 (m_getf [(1, 16)] 165) := snd_getf dX2_readTest_162 fd_X2_164
theorem s_X2_readTest_165 : Snd PG.nam M73 165 (m_l2i 166) := snd_l2i dX2_readTest_165
theorem s_X2_readTest_166 : Snd PG.nam M73 166 (m_iast [.int] 167) := snd_iast dX2_readTest_166
theorem s_X2_readTest_167 : Snd PG.nam M73 167 (m_aload 0 168) := snd_aload_n dX2_readTest_167 rfl
theorem s_X2_readTest_168 : Snd PG.nam M73 168 (m_aload 0 169) := snd_aload_n dX2_readTest_168 rfl
theorem s_X2_readTest_169 : Snd PG.nam M73 169 (m_const (.int (nI 61)) 171) := snd_bipush dX2_readTest_169 (by decide)
theorem s_X2_readTest_171 : Snd PG.nam M73 171 (m_callV false [(1, 69)] 1 174) := snd_callV (nam := PG.nam) (List.forall_mem_cons.mpr ⟨dr_V (ym := PG.nam 69) dX2_readTest_171 (Or.inl w1727) mi_69 rfl (lw_all_tbl qs41), (fun q hq => absurd hq List.not_mem_nil)⟩) (by decide)
theorem s_X2_readTest_174 : Snd PG.nam M73 174 (m_ifz (fun x => if x = 0 then 177 else 204)) := snd_if_ne dX2_readTest_174 (by decide)
theorem s_X2_readTest_177 : Snd PG.nam M73 177 (m_aload 0 178) := snd_aload_n dX2_readTest_177 rfl
theorem s_X2_readTest_178 : Snd PG.nam M73 178 (m_const (.int (nI 60)) 180) := snd_bipush dX2_readTest_178 (by decide)
theorem s_X2_readTest_180 : Snd PG.nam M73 180 (m_callV false [(1, 69)] 1 183) := snd_callV (nam := PG.nam) (List.forall_mem_cons.mpr ⟨dr_V (ym := PG.nam 69) dX2_readTest_180 (Or.inl w1727) mi_69 rfl (lw_all_tbl qs41), (fun q hq => absurd hq List.not_mem_nil)⟩) (by decide)
theorem s_X2_readTest_183 : Snd PG.nam M73 183 (m_ifz (fun x => if x = 0 then 186 else 204)) := snd_if_ne dX2_readTest_183 (by decide)
theorem s_X2_readTest_186 : Snd PG.nam M73 186 (m_aload 0 187) := snd_aload_n dX2_readTest_186 rfl
theorem s_X2_readTest_187 : Snd PG.nam M73 187 (m_const (.int (nI 62)) 189) := snd_bipush dX2_readTest_187 (by decide)
theorem s_X2_readTest_189 : Snd PG.nam M73 189 (m_callV false [(1, 69)] 1 192) := snd_callV (nam := PG.nam) (List.forall_mem_cons.mpr ⟨dr_V (ym := PG.nam 69) dX2_readTest_189 (Or.inl w1727) mi_69 rfl (lw_all_tbl qs41), (fun q hq => absurd hq List.not_mem_nil)⟩) (by decide)
theorem s_X2_readTest_192 : Snd PG.nam M73 192 (m_ifz (fun x => if x = 0 then 195 else 204)) := snd_if_ne dX2_readTest_192 (by decide)
theorem s_X2_readTest_195 : Snd PG.nam M73 195 (m_aload 0 196) := snd_aload_n dX2_readTest_195 rfl
theorem s_X2_readTest_196 : Snd PG.nam M73 196 (m_const (.int (nI 33)) 198) := snd_bipush dX2_readTest_196 (by decide)
theorem s_X2_readTest_198 : Snd PG.nam M73 198 (m_callV false [(1, 69)] 1 201) := snd_callV (nam := PG.nam) (List.forall_mem_cons.mpr ⟨dr_V (ym := PG.nam 69) dX2_readTest_198 (Or.inl w1727) mi_69 rfl (lw_all_tbl qs41), (fun q hq => absurd hq List.not_mem_nil)⟩) (by decide)
theorem s_X2_readTest_201 : Snd PG.nam M73 201 (m_ifz (fun x => if x = 0 then 208 else 204)) := snd_if_eq dX2_readTest_201 (by decide)
theorem s_X2_readTest_204 : Snd PG.nam M73 204 (m_const (.int (nI 1)) 205) := snd_iconst dX2_readTest_204 (by decide)
theorem s_X2_readTest_205 : Snd PG.nam M73 205 (m_goto 209) := snd_goto dX2_readTest_205 (by decide)
theorem s_X2_readTest_208 : Snd PG.nam M73 208 (m_const (.int (nI 0)) 209) := snd_iconst dX2_readTest_208 (by decide)
theorem s_X2_readTest_209 : Snd PG.nam M73 209 (m_callV false [(1, 64)] 1 212) := snd_callV (nam := PG.nam) (List.forall_mem_cons.mpr ⟨dr_V (ym := PG.nam 64) dX2_readTest_209 (Or.inl w1707) mi_64 rfl (lw_all_tbl qs36), (fun q hq => absurd hq List.not_mem_nil)⟩) (by decide)
theorem s_X2_readTest_212 : Snd PG.nam M73 212 (m_ifz (fun x => if x = 0 then 215 else 216)) := snd_if_ne dX2_readTest_212 (by decide)
theorem s_X2_readTest_215 : Snd PG.nam M73 215 (m_vret) := snd_vret dX2_readTest_215 rfl
theorem s_X2_readTest_216 : Snd PG.nam M73 216 (m_aload 0 217) := snd_aload_n dX2_readTest_216 rfl
theorem s_X2_readTest_217 : Snd PG.nam M73 217 (m_const (.int (nI 60)) 219) := snd_bipush dX2_readTest_217 (by decide)
theorem s_X2_readTest_219 : Snd PG.nam M73 219 (m_const (.int (nI 2)) 220) := snd_iconst dX2_readTest_219 (by decide)
theorem s_X2_readTest_220 : Snd PG.nam M73 220 (m_iload 1 221) := snd_iload_n dX2_readTest_220 rfl
theorem s_X2_readTest_221 : Snd PG.nam M73 221 (m_ibin (fun a b => a * b) 222) := snd_imul dX2_readTest_221
theorem s_X2_readTest_222 : Snd PG.nam M73 222 (m_ibin (fun a b => a + b) 223) := snd_iadd dX2_readTest_222
theorem s_X2_readTest_223 : Snd PG.nam M73 223 (m_const (.int (nI 1)) 224) := snd_iconst dX2_readTest_223 (by decide)
theorem s_X2_readTest_224 : Snd PG.nam M73 224 (m_ibin (fun a b => a + b) 225) := snd_iadd dX2_readTest_224
theorem s_X2_readTest_225 : Snd PG.nam M73 225 (m_callV true [(1, 74)] 1 228) := snd_callV (nam := PG.nam) (List.forall_mem_cons.mpr ⟨dr_V (ym := PG.nam 74) dX2_readTest_225 (Or.inl w1747) mi_74 rfl (lw_all_tbl qs46), (fun q hq => absurd hq List.not_mem_nil)⟩) (by decide)
theorem s_X2_readTest_228 : Snd PG.nam M73 228 (m_vret) := snd_vret dX2_readTest_228 rfl
theorem T73 : ∀ q ∈ S73, Snd PG.nam M73 q.1 q.2 := List.forall_mem_cons.mpr ⟨s_X2_readTest_0, List.forall_mem_cons.mpr ⟨s_X2_readTest_1, List.forall_mem_cons.mpr ⟨s_X2_readTest_4, List.forall_mem_cons.mpr ⟨s_X2_readTest_5, List.forall_mem_cons.mpr ⟨s_X2_readTest_6, List.forall_mem_cons.mpr ⟨s_X2_readTest_7, List.forall_mem_cons.mpr ⟨s_X2_readTest_10, List.forall_mem_cons.mpr ⟨s_X2_readTest_11, List.forall_mem_cons.mpr ⟨s_X2_readTest_12, List.forall_mem_cons.mpr ⟨s_X2_readTest_15, List.forall_mem_cons.mpr ⟨s_X2_readTest_16, List.forall_mem_cons.mpr ⟨s_X2_readTest_19, List.forall_mem_cons.mpr ⟨s_X2_readTest_20, List.forall_mem_cons.mpr ⟨s_X2_readTest_21, List.forall_mem_cons.mpr ⟨s_X2_readTest_24, List.forall_mem_cons.mpr ⟨s_X2_readTest_25, List.forall_mem_cons.mpr ⟨s_X2_readTest_28, List.forall_mem_cons.mpr ⟨s_X2_readTest_29, List.forall_mem_cons.mpr ⟨s_X2_readTest_30, List.forall_mem_cons.mpr ⟨s_X2_readTest_31, List.forall_mem_cons.mpr ⟨s_X2_readTest_32, List.forall_mem_cons.mpr ⟨s_X2_readTest_33, List.forall_mem_cons.mpr ⟨s_X2_readTest_36, List.forall_mem_cons.mpr ⟨s_X2_readTest_37, List.forall_mem_cons.mpr ⟨s_X2_readTest_38, List.forall_mem_cons.mpr ⟨s_X2_readTest_39, List.forall_mem_cons.mpr ⟨s_X2_readTest_40, List.forall_mem_cons.mpr ⟨s_X2_readTest_41, List.forall_mem_cons.mpr ⟨s_X2_readTest_42, List.forall_mem_cons.mpr ⟨s_X2_readTest_44, List.forall_mem_cons.mpr ⟨s_X2_readTest_47, List.forall_mem_cons.mpr ⟨s_X2_readTest_50, List.forall_mem_cons.mpr ⟨s_X2_readTest_51, List.forall_mem_cons.mpr ⟨s_X2_readTest_54, List.forall_mem_cons.mpr ⟨s_X2_readTest_57, List.forall_mem_cons.mpr ⟨s_X2_readTest_58, List.forall_mem_cons.mpr ⟨s_X2_readTest_61, List.forall_mem_cons.mpr ⟨s_X2_readTest_62, List.forall_mem_cons.mpr ⟨s_X2_readTest_63, List.forall_mem_cons.mpr ⟨s_X2_readTest_66, List.forall_mem_cons.mpr ⟨s_X2_readTest_67, List.forall_mem_cons.mpr ⟨s_X2_readTest_68, List.forall_mem_cons.mpr ⟨s_X2_readTest_71, List.forall_mem_cons.mpr ⟨s_X2_readTest_72, List.forall_mem_cons.mpr ⟨s_X2_readTest_75, List.forall_mem_cons.mpr ⟨s_X2_readTest_76, List.forall_mem_cons.mpr ⟨s_X2_readTest_77, List.forall_mem_cons.mpr ⟨s_X2_readTest_78, List.forall_mem_cons.mpr ⟨s_X2_readTest_79, List.forall_mem_cons.mpr ⟨s_X2_readTest_80, List.forall_mem_cons.mpr ⟨s_X2_readTest_83, List.forall_mem_cons.mpr ⟨s_X2_readTest_84, List.forall_mem_cons.mpr ⟨s_X2_readTest_87, List.forall_mem_cons.mpr ⟨s_X2_readTest_88, List.forall_mem_cons.mpr ⟨s_X2_readTest_91, List.forall_mem_cons.mpr ⟨s_X2_readTest_94, List.forall_mem_cons.mpr ⟨s_X2_readTest_95, List.forall_mem_cons.mpr ⟨s_X2_readTest_98, List.forall_mem_cons.mpr ⟨s_X2_readTest_101, List.forall_mem_cons.mpr ⟨s_X2_readTest_102, List.forall_mem_cons.mpr ⟨s_X2_readTest_104, List.forall_mem_cons.mpr ⟨s_X2_readTest_107, List.forall_mem_cons.mpr ⟨s_X2_readTest_110, List.forall_mem_cons.mpr ⟨s_X2_readTest_111, List.forall_mem_cons.mpr ⟨s_X2_readTest_114, List.forall_mem_cons.mpr ⟨s_X2_readTest_115, List.forall_mem_cons.mpr ⟨s_X2_readTest_118, List.forall_mem_cons.mpr ⟨s_X2_readTest_119, List.forall_mem_cons.mpr ⟨s_X2_readTest_121, List.forall_mem_cons.mpr ⟨s_X2_readTest_122, List.forall_mem_cons.mpr ⟨s_X2_readTest_123, List.forall_mem_cons.mpr ⟨s_X2_readTest_126, List.forall_mem_cons.mpr ⟨s_X2_readTest_128, List.forall_mem_cons.mpr ⟨s_X2_readTest_129, List.forall_mem_cons.mpr ⟨s_X2_readTest_130, List.forall_mem_cons.mpr ⟨s_X2_readTest_131, List.forall_mem_cons.mpr ⟨s_X2_readTest_132, List.forall_mem_cons.mpr ⟨s_X2_readTest_133, List.forall_mem_cons.mpr ⟨s_X2_readTest_136, List.forall_mem_cons.mpr ⟨s_X2_readTest_137, List.forall_mem_cons.mpr ⟨s_X2_readTest_138, List.forall_mem_cons.mpr ⟨s_X2_readTest_139, List.forall_mem_cons.mpr ⟨s_X2_readTest_141, List.forall_mem_cons.mpr ⟨s_X2_readTest_142, List.forall_mem_cons.mpr ⟨s_X2_readTest_143, List.forall_mem_cons.mpr ⟨s_X2_readTest_144, List.forall_mem_cons.mpr ⟨s_X2_readTest_145, List.forall_mem_cons.mpr ⟨s_X2_readTest_148, List.forall_mem_cons.mpr ⟨s_X2_readTest_149, List.forall_mem_cons.mpr ⟨s_X2_readTest_152, List.forall_mem_cons.mpr ⟨s_X2_readTest_155, List.forall_mem_cons.mpr ⟨s_X2_readTest_156, List.forall_mem_cons.mpr ⟨s_X2_readTest_157, List.forall_mem_cons.mpr ⟨s_X2_readTest_160, List.forall_mem_cons.mpr ⟨s_X2_readTest_161, List.forall_mem_cons.mpr ⟨s_X2_readTest_162, List.forall_mem_cons.mpr ⟨s_X2_readTest_165, List.forall_mem_cons.mpr ⟨s_X2_readTest_166, List.forall_mem_cons.mpr ⟨s_X2_readTest_167, List.forall_mem_cons.mpr ⟨s_X2_readTest_168, List.forall_mem_cons.mpr ⟨s_X2_readTest_169, List.forall_mem_cons.mpr ⟨s_X2_readTest_171, List.forall_mem_cons.mpr ⟨s_X2_readTest_174, List.forall_mem_cons.mpr ⟨s_X2_readTest_177, List.forall_mem_cons.mpr ⟨s_X2_readTest_178, List.forall_mem_cons.mpr ⟨s_X2_readTest_180, List.forall_mem_cons.mpr ⟨s_X2_readTest_183, List.forall_mem_cons.mpr ⟨s_X2_readTest_186, List.forall_mem_cons.mpr ⟨s_X2_readTest_187, List.forall_mem_cons.mpr ⟨s_X2_readTest_189, List.forall_mem_cons.mpr ⟨s_X2_readTest_192, List.forall_mem_cons.mpr ⟨s_X2_readTest_195, List.forall_mem_cons.mpr ⟨s_X2_readTest_196, List.forall_mem_cons.mpr ⟨s_X2_readTest_198, List.forall_mem_cons.mpr ⟨s_X2_readTest_201, List.forall_mem_cons.mpr ⟨s_X2_readTest_204, List.forall_mem_cons.mpr ⟨s_X2_readTest_205, List.forall_mem_cons.mpr ⟨s_X2_readTest_208, List.forall_mem_cons.mpr ⟨s_X2_readTest_209, List.forall_mem_cons.mpr ⟨s_X2_readTest_212, List.forall_mem_cons.mpr ⟨s_X2_readTest_215, List.forall_mem_cons.mpr ⟨s_X2_readTest_216, List.forall_mem_cons.mpr ⟨s_X2_readTest_217, List.forall_mem_cons.mpr ⟨s_X2_readTest_219, List.forall_mem_cons.mpr ⟨s_X2_readTest_220, List.forall_mem_cons.mpr ⟨s_X2_readTest_221, List.forall_mem_cons.mpr ⟨s_X2_readTest_222, List.forall_mem_cons.mpr ⟨s_X2_readTest_223, List.forall_mem_cons.mpr ⟨s_X2_readTest_224, List.forall_mem_cons.mpr ⟨s_X2_readTest_225, List.forall_mem_cons.mpr ⟨s_X2_readTest_228, (fun q hq => absurd hq List.not_mem_nil)⟩⟩⟩⟩⟩⟩⟩⟩⟩⟩⟩⟩⟩⟩⟩⟩⟩⟩⟩⟩⟩⟩⟩⟩⟩⟩⟩⟩⟩⟩⟩⟩⟩⟩⟩⟩⟩⟩⟩⟩⟩⟩⟩⟩⟩⟩⟩⟩⟩⟩⟩⟩⟩⟩⟩⟩⟩⟩⟩⟩⟩⟩⟩⟩⟩⟩⟩⟩⟩⟩⟩⟩⟩⟩⟩⟩⟩⟩⟩⟩⟩⟩⟩⟩⟩⟩⟩⟩⟩⟩⟩⟩⟩⟩⟩⟩⟩⟩⟩⟩⟩⟩⟩⟩⟩⟩⟩⟩⟩⟩⟩⟩⟩⟩⟩⟩⟩⟩⟩⟩⟩⟩⟩⟩⟩⟩⟩⟩⟩⟩⟩
theorem s_X2_readSide_0 : Snd PG.nam M74 0 (m_aload 0 1) := snd_aload_n dX2_readSide_0 rfl
theorem s_X2_readSide_1 : Snd PG.nam M74 1 (m_getf [(1, 33)] 4) := snd_getf dX2_readSide_1 fd_X2_49
theorem s_X2_readSide_4 : Snd PG.nam M74 4 (m_iload 1 5) := snd_iload_n dX2_readSide_4 rfl
theorem s_X2_readSide_5 : Snd PG.nam M74 5 (m_const (.int (-1)) 6) := snd_iconst dX2_readSide_5 (by decide)
theorem s_X2_readSide_6 : Snd PG.nam M74 6 (m_iast [.int] 7) := snd_iast dX2_readSide_6
theorem s_X2_readSide_7 : Snd PG.nam M74 7 (m_aload 0 8) := snd_aload_n dX2_readSide_7 rfl
theorem s_X2_readSide_8 : Snd PG.nam M74 8 (m_getf [(1, 15)] 11) := snd_getf dX2_readSide_8 fd_X2_181
theorem s_X2_readSide_11 : Snd PG.nam M74 11 (m_const (.int (nI 3)) 12) := snd_iconst dX2_readSide_11 (by decide)
theorem s_X2_readSide_12 : Snd PG.nam M74 12 (m_icmp (fun x z => if x = z then 15 else 28)) := snd_icmp_ne dX2_readSide_12 (by decide)
theorem s_X2_readSide_15 : Snd PG.nam M74 15 (m_aload 0 16) := snd_aload_n dX2_readSide_15 rfl
theorem s_X2_readSide_16 : Snd PG.nam M74 16 (m_getf [(1, 33)] 19) := snd_getf dX2_readSide_16 fd_X2_49
theorem s_X2_readSide_19 : Snd PG.nam M74 19 (m_iload 1 20) := snd_iload_n dX2_readSide_19 rfl
theorem s_X2_readSide_20 : Snd PG.nam M74 20 (m_aload 0 21) := snd_aload_n dX2_readSide_20 rfl
theorem s_X2_readSide_21 : Snd PG.nam M74 21 (m_callV false [(1, 66)] 0 24) := snd_callV (nam := PG.nam) (List.forall_mem_cons.mpr ⟨dr_V (ym := PG.nam 66) dX2_readSide_21 (Or.inl w1715) mi_66 rfl (lw_all_tbl qs38), (fun q hq => absurd hq List.not_mem_nil)⟩) (by decide)
theorem s_X2_readSide_24 : Snd PG.nam M74 24 (m_iast [.int] 25) := snd_iast dX2_readSide_24
theorem s_X2_readSide_25 : Snd PG.nam M74 25 (m_goto 66) := snd_goto dX2_readSide_25 (by decide)
theorem s_X2_readSide_28 : Snd PG.nam M74 28 (m_aload 0 29) := snd_aload_n dX2_readSide_28 rfl
theorem s_X2_readSide_29 : Snd PG.nam M74 29 (m_getf [(1, 34)] 32) := snd_getf dX2_readSide_29 fd_X2_52
theorem s_X2_readSide_32 : Snd PG.nam M74 32 (m_iload 1 33) := snd_iload_n dX2_readSide_32 rfl
theorem s_X2_readSide_33 : Snd PG.nam M74 33 (m_aload 0 34) := snd_aload_n dX2_readSide_33 rfl
theorem s_X2_readSide_34 : Snd PG.nam M74 34 (m_getf [(1, 15)] 37) := snd_getf dX2_readSide_34 fd_X2_181
theorem s_X2_readSide_37 : Snd PG.nam M74 37 (m_const (.int (nI 2)) 38) := snd_iconst dX2_readSide_37 (by decide)
theorem s_X2_readSide_38 : Snd PG.nam M74 38 (m_icmp (fun x z => if x = z then 41 else 52)) := snd_icmp_ne dX2_readSide_38 (by decide)
theorem s_X2_readSide_41 : Snd PG.nam M74 41 (m_const (.long (-1 : Int64)) 44) := snd_ldc2 dX2_readSide_41 w1610
theorem s_X2_readSide_44 : Snd PG.nam M74 44 (m_aload 0 45) := snd_aload_n dX2_readSide_44 rfl
theorem s_X2_readSide_45 : Snd PG.nam M74 45 (m_getf [(1, 16)] 48) := snd_getf dX2_readSide_45 fd_X2_164
theorem s_X2_readSide_48 : Snd PG.nam M74 48 (m_lbin (fun a b => a - b) 49) := snd_lsub dX2_readSide_48
theorem s_X2_readSide_49 : Snd PG.nam M74 49 (m_goto 56) := snd_goto dX2_readSide_49 (by decide)
theorem s_X2_readSide_52 : Snd PG.nam M74 52 (m_aload 0 53) := snd_aload_n dX2_readSide_52 rfl
theorem s_X2_readSide_53 : Snd PG.nam M74 53 (m_getf [(1, 16)] 56) := snd_getf dX2_readSide_53 fd_X2_164
theorem s_X2_readSide_56 : Snd PG.nam M74 56 (m_last 57) := snd_last dX2_readSide_56
theorem s_X2_readSide_57 : Snd PG.nam M74 57 (m_aload 0 58) := snd_aload_n dX2_readSide_57 rfl
theorem s_X2_readSide_58 : Snd PG.nam M74 58 (m_aload 0 59) := snd_aload_n dX2_readSide_58 rfl
theorem s_X2_readSide_59 : Snd PG.nam M74 59 (m_callV false [(1, 72)] 0 62) := snd_callV (nam := PG.nam) (List.forall_mem_cons.mpr ⟨dr_V (ym := PG.nam 72) dX2_readSide_59 (Or.inl w1739) mi_72 rfl (lw_all_tbl qs44), (fun q hq => absurd hq List.not_mem_nil)⟩) (by decide)
theorem s_X2_readSide_62 : Snd PG.nam M74 62 (m_callV false [(1, 64)] 1 65) := snd_callV (nam := PG.nam) (List.forall_mem_cons.mpr ⟨dr_V (ym := PG.nam 64) dX2_readSide_62 (Or.inl w1707) mi_64 rfl (lw_all_tbl qs36), (fun q hq => absurd hq List.not_mem_nil)⟩) (by decide)
theorem s_X2_readSide_65 : Snd PG.nam M74 65 (m_istore 2 66) := snd_istore_n dX2_readSide_65 rfl (by decide)
theorem s_X2_readSide_66 : Snd PG.nam M74 66 (m_vret) := snd_vret dX2_readSide_66 rfl
theorem T74 : ∀ q ∈ S74, Snd PG.nam M74 q.1 q.2 := List.forall_mem_cons.mpr ⟨s_X2_readSide_0, List.forall_mem_cons.mpr ⟨s_X2_readSide_1, List.forall_mem_cons.mpr ⟨s_X2_readSide_4, List.forall_mem_cons.mpr ⟨s_X2_readSide_5, List.forall_mem_cons.mpr ⟨s_X2_readSide_6, List.forall_mem_cons.mpr ⟨s_X2_readSide_7, List.forall_mem_cons.mpr ⟨s_X2_readSide_8, List.forall_mem_cons.mpr ⟨s_X2_readSide_11, List.forall_mem_cons.mpr ⟨s_X2_readSide_12, List.forall_mem_cons.mpr ⟨s_X2_readSide_15, List.forall_mem_cons.mpr ⟨s_X2_readSide_16, List.forall_mem_cons.mpr ⟨s_X2_readSide_19, List.forall_mem_cons.mpr ⟨s_X2_readSide_20, List.forall_mem_cons.mpr ⟨s_X2_readSide_21, List.forall_mem_cons.mpr ⟨s_X2_readSide_24, List.forall_mem_cons.mpr ⟨s_X2_readSide_25, List.forall_mem_cons.mpr ⟨s_X2_readSide_28, List.forall_mem_cons.mpr ⟨s_X2_readSide_29, List.forall_mem_cons.mpr ⟨s_X2_readSide_32, List.forall_mem_cons.mpr ⟨s_X2_readSide_33, List.forall_mem_cons.mpr ⟨s_X2_readSide_34, List.forall_mem_cons.mpr ⟨s_X2_readSide_37, List.forall_mem_cons.mpr ⟨s_X2_readSide_38, List.forall_mem_cons.mpr ⟨s_X2_readSide_41, List.forall_mem_cons.mpr ⟨s_X2_readSide_44, List.forall_mem_cons.mpr ⟨s_X2_readSide_45, List.forall_mem_cons.mpr ⟨s_X2_readSide_48, List.forall_mem_cons.mpr ⟨s_X2_readSide_49, List.forall_mem_cons.mpr ⟨s_X2_readSide_52, List.forall_mem_cons.mpr ⟨s_X2_readSide_53, List.forall_mem_cons.mpr ⟨s_X2_readSide_56, List.forall_mem_cons.mpr ⟨s_X2_readSide_57, List.forall_mem_cons.mpr ⟨s_X2_readSide_58, List.forall_mem_cons.mpr ⟨s_X2_readSide_59, List.forall_mem_cons.mpr ⟨s_X2_readSide_62, List.forall_mem_cons.mpr ⟨s_X2_readSide_65, List.forall_mem_cons.mpr ⟨s_X2_readSide_66, (fun q hq => absurd hq List.not_mem_nil)⟩⟩⟩⟩⟩⟩⟩⟩⟩⟩⟩⟩⟩⟩⟩⟩⟩⟩⟩⟩⟩⟩⟩⟩⟩⟩⟩⟩⟩⟩⟩⟩⟩⟩⟩⟩⟩
theorem s_X2_readOn_0 : Snd PG.nam M75 0 (m_aload 0 1) := snd_aload_n dX2_readOn_0 rfl
theorem s_X2_readOn_1 : Snd PG.nam M75 1 (m_const (.int (nI 6)) 3) := snd_bipush dX2_readOn_1 (by decide)
theorem s_X2_readOn_3 : Snd PG.nam M75 3 (m_callV false [(1, 63)] 1 6) := snd_callV (nam := PG.nam) (List.forall_mem_cons.mpr ⟨dr_V (ym := PG.nam 63) dX2_readOn_3 (Or.inl w1692) mi_63 rfl (lw_all_tbl qs35), (fun q hq => absurd hq List.not_mem_nil)⟩) (by decide)
theorem s_X2_readOn_6 : Snd PG.nam M75 6 (m_ifz (fun x => if x = 0 then 9 else 18)) := snd_if_ne dX2_readOn_6 (by decide)
theorem s_X2_readOn_9 : Snd PG.nam M75 9 (m_aload 0 10) := snd_aload_n dX2_readOn_9 rfl
theorem s_X2_readOn_10 : Snd PG.nam M75 10 (m_const (.int (nI 7)) 12) := snd_bipush dX2_readOn_10 (by decide)
theorem s_X2_readOn_12 : Snd PG.nam M75 12 (m_callV false [(1, 63)] 1 15) := snd_callV (nam := PG.nam) (List.forall_mem_cons.mpr ⟨dr_V (ym := PG.nam 63) dX2_readOn_12 (Or.inl w1692) mi_63 rfl (lw_all_tbl qs35), (fun q hq => absurd hq List.not_mem_nil)⟩) (by decide)
theorem s_X2_readOn_15 : Snd PG.nam M75 15 (m_ifz (fun x => if x = 0 then 45 else 18)) := snd_if_eq dX2_readOn_15 (by decide)
theorem s_X2_readOn_18 : Snd PG.nam M75 18 (m_aload 0 19) := snd_aload_n dX2_readOn_18 rfl
theorem s_X2_readOn_19 : Snd PG.nam M75 19 (m_const (.int (nI 6)) 21) := snd_bipush dX2_readOn_19 (by decide)
theorem s_X2_readOn_21 : Snd PG.nam M75 21 (m_callV false [(1, 63)] 1 24) := snd_callV (nam := PG.nam) (List.forall_mem_cons.mpr ⟨dr_V (ym := PG.nam 63) dX2_readOn_21 (Or.inl w1692) mi_63 rfl (lw_all_tbl qs35), (fun q hq => absurd hq List.not_mem_nil)⟩) (by decide)
theorem s_X2_readOn_24 : Snd PG.nam M75 24 (m_ifz (fun x => if x = 0 then 31 else 27)) := snd_if_eq dX2_readOn_24 (by decide)
theorem s_X2_readOn_27 : Snd PG.nam M75 27 (m_const (.int (nI 1)) 28) := snd_iconst dX2_readOn_27 (by decide)
theorem s_X2_readOn_28 : Snd PG.nam M75 28 (m_goto 32) := snd_goto dX2_readOn_28 (by decide)
theorem s_X2_readOn_31 : Snd PG.nam M75 31 (m_const (.int (nI 2)) 32) := snd_iconst dX2_readOn_31 (by decide)
theorem s_X2_readOn_32 : Snd PG.nam M75 32 (m_istore 1 33) := snd_istore_n dX2_readOn_32 rfl (by decide)
theorem s_X2_readOn_33 : Snd PG.nam M75 33 (m_aload 0 34) := snd_aload_n dX2_readOn_33 rfl
theorem s_X2_readOn_34 : Snd PG.nam M75 34 (m_callV true [(1, 58)] 0 37) := snd_callV (nam := PG.nam) (List.forall_mem_cons.mpr ⟨dr_V (ym := PG.nam 58) dX2_readOn_34 (Or.inl w1672) mi_58 rfl (lw_all_tbl qs32), (fun q hq => absurd hq List.not_mem_nil)⟩) (by decide)
theorem s_X2_readOn_37 : Snd PG.nam M75 37 (m_aload 0 38) := snd_aload_n dX2_readOn_37 rfl
theorem s_X2_readOn_38 : Snd PG.nam M75 38 (m_iload 1 39) := snd_iload_n dX2_readOn_38 rfl
theorem s_X2_readOn_39 : Snd PG.nam M75 39 (m_callV true [(1, 68)] 1 42) := snd_callV (nam := PG.nam) (List.forall_mem_cons.mpr ⟨dr_V (ym := PG.nam 68) dX2_readOn_39 (Or.inl w1723) mi_68 rfl (lw_all_tbl qs40), (fun q hq => absurd hq List.not_mem_nil)⟩) (by decide)
theorem s_X2_readOn_42 : Snd PG.nam M75 42 (m_goto 76) := snd_goto dX2_readOn_42 (by decide)
theorem s_X2_readOn_45 : Snd PG.nam M75 45 (m_aload 0 46) := snd_aload_n dX2_readOn_45 rfl
theorem s_X2_readOn_46 : Snd PG.nam M75 46 (m_const (.int (nI 123)) 48) := snd_bipush dX2_readOn_46 (by decide)
theorem s_X2_readOn_48 : Snd PG.nam M75 48 (m_callV false [(1, 69)] 1 51) := snd_callV (nam := PG.nam) (List.forall_mem_cons.mpr ⟨dr_V (ym := PG.nam 69) dX2_readOn_48 (Or.inl w1727) mi_69 rfl (lw_all_tbl qs41), (fun q hq => absurd hq List.not_mem_nil)⟩) (by decide)
theorem s_X2_readOn_51 : Snd PG.nam M75 51 (m_ifz (fun x => if x = 0 then 76 else 54)) := snd_if_eq dX2_readOn_51 (by decide)
theorem s_X2_readOn_54 : Snd PG.nam M75 54 (m_aload 0 55) := snd_aload_n dX2_readOn_54 rfl
theorem s_X2_readOn_55 : Snd PG.nam M75 55 (m_const (.int (nI 6)) 57) := snd_bipush dX2_readOn_55 (by decide)
theorem s_X2_readOn_57 : Snd PG.nam M75 57 (m_const (.int (nI 0)) 58) := snd_iconst dX2_readOn_57 (by decide)
theorem s_X2_readOn_58 : Snd PG.nam M75 58 (m_callV true [(1, 70)] 2 61) := snd_callV (nam := PG.nam) (List.forall_mem_cons.mpr ⟨dr_V (ym := PG.nam 70) dX2_readOn_58 (Or.inl w1731) mi_70 rfl (lw_all_tbl qs42), (fun q hq => absurd hq List.not_mem_nil)⟩) (by decide)
theorem s_X2_readOn_61 : Snd PG.nam M75 61 (m_aload 0 62) := snd_aload_n dX2_readOn_61 rfl
theorem s_X2_readOn_62 : Snd PG.nam M75 62 (m_getf [(1, 42)] 65) := snd_getf dX2_readOn_62 fd_X2_67
theorem s_X2_readOn_65 : Snd PG.nam M75 65 (m_aload 0 66) := snd_aload_n dX2_readOn_65 rfl
theorem s_X2_readOn_66 : Snd PG.nam M75 66 (m_getf [(1, 27)] 69) := snd_getf dX2_readOn_66 fd_X2_250
theorem s_X2_readOn_69 : Snd PG.nam M75 69 (m_const (.int (nI 0)) 70) := snd_iconst dX2_readOn_69 (by decide)
theorem s_X2_readOn_70 : Snd PG.nam M75 70 (m_iast [.int] 71) := snd_iast dX2_readOn_70
theorem s_X2_readOn_71 : Snd PG.nam M75 71 (m_aload 0 72) := snd_aload_n dX2_readOn_71 rfl
theorem s_X2_readOn_72 : Snd PG.nam M75 72 (m_const (.int (nI 3)) 73) := snd_iconst dX2_readOn_72 (by decide)
theorem s_X2_readOn_73 : Snd PG.nam M75 73 (m_callV true [(1, 68)] 1 76) := snd_callV (nam := PG.nam) (List.forall_mem_cons.mpr ⟨dr_V (ym := PG.nam 68) dX2_readOn_73 (Or.inl w1723) mi_68 rfl (lw_all_tbl qs40), (fun q hq => absurd hq List.not_mem_nil)⟩) (by decide)
theorem s_X2_readOn_76 : Snd PG.nam M75 76 (m_vret) := snd_vret dX2_readOn_76 rfl
theorem T75 : ∀ q ∈ S75, Snd PG.nam M75 q.1 q.2 := List.forall_mem_cons.mpr ⟨s_X2_readOn_0, List.forall_mem_cons.mpr ⟨s_X2_readOn_1, List.forall_mem_cons.mpr ⟨s_X2_readOn_3, List.forall_mem_cons.mpr ⟨s_X2_readOn_6, List.forall_mem_cons.mpr ⟨s_X2_readOn_9, List.forall_mem_cons.mpr ⟨s_X2_readOn_10, List.forall_mem_cons.mpr ⟨s_X2_readOn_12, List.forall_mem_cons.mpr ⟨s_X2_readOn_15, List.forall_mem_cons.mpr ⟨s_X2_readOn_18, List.forall_mem_cons.mpr ⟨s_X2_readOn_19, List.forall_mem_cons.mpr ⟨s_X2_readOn_21, List.forall_mem_cons.mpr ⟨s_X2_readOn_24, List.forall_mem_cons.mpr ⟨s_X2_readOn_27, List.forall_mem_cons.mpr ⟨s_X2_readOn_28, List.forall_mem_cons.mpr ⟨s_X2_readOn_31, List.forall_mem_cons.mpr ⟨s_X2_readOn_32, List.forall_mem_cons.mpr ⟨s_X2_readOn_33, List.forall_mem_cons.mpr ⟨s_X2_readOn_34, List.forall_mem_cons.mpr ⟨s_X2_readOn_37, List.forall_mem_cons.mpr ⟨s_X2_readOn_38, List.forall_mem_cons.mpr ⟨s_X2_readOn_39, List.forall_mem_cons.mpr ⟨s_X2_readOn_42, List.forall_mem_cons.mpr ⟨s_X2_readOn_45, List.forall_mem_cons.mpr ⟨s_X2_readOn_46, List.forall_mem_cons.mpr ⟨s_X2_readOn_48, List.forall_mem_cons.mpr ⟨s_X2_readOn_51, List.forall_mem_cons.mpr ⟨s_X2_readOn_54, List.forall_mem_cons.mpr ⟨s_X2_readOn_55, List.forall_mem_cons.mpr ⟨s_X2_readOn_57, List.forall_mem_cons.mpr ⟨s_X2_readOn_58, List.forall_mem_cons.mpr ⟨s_X2_readOn_61, List.forall_mem_cons.mpr ⟨s_X2_readOn_62, List.forall_mem_cons.mpr ⟨s_X2_readOn_65, List.forall_mem_cons.mpr ⟨s_X2_readOn_66, List.forall_mem_cons.mpr ⟨s_X2_readOn_69, List.forall_mem_cons.mpr ⟨s_X2_readOn_70, List.forall_mem_cons.mpr ⟨s_X2_readOn_71, List.forall_mem_cons.mpr ⟨s_X2_readOn_72, List.forall_mem_cons.mpr ⟨s_X2_readOn_73, List.forall_mem_cons.mpr ⟨s_X2_readOn_76, (fun q hq => absurd hq List.not_mem_nil)⟩⟩⟩⟩⟩⟩⟩⟩⟩⟩⟩⟩⟩⟩⟩⟩⟩⟩⟩⟩⟩⟩⟩⟩⟩⟩⟩⟩⟩⟩⟩⟩⟩⟩⟩⟩⟩⟩⟩⟩
theorem s_X2_readClose_0 : Snd PG.nam M76 0 (m_aload 0 1) := snd_aload_n dX2_readClose_0 rfl
theorem s_X2_readClose_1 : Snd PG.nam M76 1 (m_callV true [(1, 58)] 0 4) := snd_callV (nam := PG.nam) (List.forall_mem_cons.mpr ⟨dr_V (ym := PG.nam 58) dX2_readClose_1 (Or.inl w1672) mi_58 rfl (lw_all_tbl qs32), (fun q hq => absurd hq List.not_mem_nil)⟩) (by decide)
theorem s_X2_readClose_4 : Snd PG.nam M76 4 (m_aload 0 5) := snd_aload_n dX2_readClose_4 rfl
theorem s_X2_readClose_5 : Snd PG.nam M76 5 (m_dup 6) := snd_dup dX2_readClose_5
theorem s_X2_readClose_6 : Snd PG.nam M76 6 (m_getf [(1, 27)] 9) := snd_getf dX2_readClose_6 fd_X2_250
theorem s_X2_readClose_9 : Snd PG.nam M76 9 (m_const (.int (nI 1)) 10) := snd_iconst dX2_readClose_9 (by decide)
theorem s_X2_readClose_10 : Snd PG.nam M76 10 (m_ibin (fun a b => a - b) 11) := snd_isub dX2_readClose_10
theorem s_X2_readClose_11 : Snd PG.nam M76 11 (m_putf [(1, 27)] .int 14) := snd_putf dX2_readClose_11 fd_X2_250
theorem s_X2_readClose_14 : Snd PG.nam M76 14 (m_aload 0 15) := snd_aload_n dX2_readClose_14 rfl
theorem s_X2_readClose_15 : Snd PG.nam M76 15 (m_const (.int (nI 3)) 16) := snd_iconst dX2_readClose_15 (by decide)
theorem s_X2_readClose_16 : Snd PG.nam M76 16 (m_aload 0 17) := snd_aload_n dX2_readClose_16 rfl
theorem s_X2_readClose_17 : Snd PG.nam M76 17 (m_getf [(1, 29)] 20) := snd_getf dX2_readClose_17 fd_X2_40
theorem s_X2_readClose_20 : Snd PG.nam M76 20 (m_aload 0 21) := snd_aload_n dX2_readClose_20 rfl
theorem s_X2_readClose_21 : Snd PG.nam M76 21 (m_getf [(1, 27)] 24) := snd_getf dX2_readClose_21 fd_X2_250
theorem s_X2_readClose_24 : Snd PG.nam M76 24 (m_iald [.int] 25) := snd_iald dX2_readClose_24
theorem s_X2_readClose_25 : Snd PG.nam M76 25 (m_callV true [(1, 70)] 2 28) := snd_callV (nam := PG.nam) (List.forall_mem_cons.mpr ⟨dr_V (ym := PG.nam 70) dX2_readClose_25 (Or.inl w1731) mi_70 rfl (lw_all_tbl qs42), (fun q hq => absurd hq List.not_mem_nil)⟩) (by decide)
theorem s_X2_readClose_28 : Snd PG.nam M76 28 (m_aload 0 29) := snd_aload_n dX2_readClose_28 rfl
theorem s_X2_readClose_29 : Snd PG.nam M76 29 (m_getf [(1, 28)] 32) := snd_getf dX2_readClose_29 fd_X2_37
theorem s_X2_readClose_32 : Snd PG.nam M76 32 (m_aload 0 33) := snd_aload_n dX2_readClose_32 rfl
theorem s_X2_readClose_33 : Snd PG.nam M76 33 (m_getf [(1, 27)] 36) := snd_getf dX2_readClose_33 fd_X2_250
theorem s_X2_readClose_36 : Snd PG.nam M76 36 (m_iald [.int] 37) := snd_iald dX2_readClose_36
theorem s_X2_readClose_37 : Snd PG.nam M76 37 (m_istore 1 38) := snd_istore_n dX2_readClose_37 rfl (by decide)
theorem s_X2_readClose_38 : Snd PG.nam M76 38 (m_iload 1 39) := snd_iload_n dX2_readClose_38 rfl
theorem s_X2_readClose_39 : Snd PG.nam M76 39 (m_const (.int (nI 1)) 40) := snd_iconst dX2_readClose_39 (by decide)
theorem s_X2_readClose_40 : Snd PG.nam M76 40 (m_icmp (fun x z => if x = z then 43 else 52)) := snd_icmp_ne dX2_readClose_40 (by decide)
theorem s_X2_readClose_43 : Snd PG.nam M76 43 (m_aload 0 44) := snd_aload_n dX2_readClose_43 rfl
theorem s_X2_readClose_44 : Snd PG.nam M76 44 (m_const (.int (nI 4)) 45) := snd_iconst dX2_readClose_44 (by decide)
theorem s_X2_readClose_45 : Snd PG.nam M76 45 (m_const (.int (nI 0)) 46) := snd_iconst dX2_readClose_45 (by decide)
theorem s_X2_readClose_46 : Snd PG.nam M76 46 (m_callV true [(1, 70)] 2 49) := snd_callV (nam := PG.nam) (List.forall_mem_cons.mpr ⟨dr_V (ym := PG.nam 70) dX2_readClose_46 (Or.inl w1731) mi_70 rfl (lw_all_tbl qs42), (fun q hq => absurd hq List.not_mem_nil)⟩) (by decide)
theorem s_X2_readClose_49 : Snd PG.nam M76 49 (m_goto 106) := snd_goto dX2_readClose_49 (by decide)
theorem s_X2_readClose_52 : Snd PG.nam M76 52 (m_iload 1 53) := snd_iload_n dX2_readClose_52 rfl
theorem s_X2_readClose_53 : Snd PG.nam M76 53 (m_const (.int (nI 2)) 54) := snd_iconst dX2_readClose_53 (by decide)
theorem s_X2_readClose_54 : Snd PG.nam M76 54 (m_icmp (fun x z => if x = z then 57 else 66)) := snd_icmp_ne dX2_readClose_54 (by decide)
theorem s_X2_readClose_57 : Snd PG.nam M76 57 (m_aload 0 58) := snd_aload_n dX2_readClose_57 rfl
theorem s_X2_readClose_58 : Snd PG.nam M76 58 (m_const (.int (nI 5)) 59) := snd_iconst dX2_readClose_58 (by decide)
theorem s_X2_readClose_59 : Snd PG.nam M76 59 (m_const (.int (nI 0)) 60) := snd_iconst dX2_readClose_59 (by decide)
theorem s_X2_readClose_60 : Snd PG.nam M76 60 (m_callV true [(1, 70)] 2 63) := snd_callV (nam := PG.nam) (List.forall_mem_cons.mpr ⟨dr_V (ym := PG.nam 70) dX2_readClose_60 (Or.inl w1731) mi_70 rfl (lw_all_tbl qs42), (fun q hq => absurd hq List.not_mem_nil)⟩) (by decide)
theorem s_X2_readClose_63 : Snd PG.nam M76 63 (m_goto 106) := snd_goto dX2_readClose_63 (by decide)
theorem s_X2_readClose_66 : Snd PG.nam M76 66 (m_iload 1 67) := snd_iload_n dX2_readClose_66 rfl
theorem s_X2_readClose_67 : Snd PG.nam M76 67 (m_const (.int (nI 3)) 68) := snd_iconst dX2_readClose_67 (by decide)
theorem s_X2_readClose_68 : Snd PG.nam M76 68 (m_icmp (fun x z => if x = z then 71 else 106)) := snd_icmp_ne dX2_readClose_68 (by decide)
theorem s_X2_readClose_71 : Snd PG.nam M76 71 (m_aload 0 72) := snd_aload_n dX2_readClose_71 rfl
theorem s_X2_readClose_72 : Snd PG.nam M76 72 (m_const (.int (nI 7)) 74) := snd_bipush dX2_readClose_72 (by decide)
theorem s_X2_readClose_74 : Snd PG.nam M76 74 (m_const (.int (nI 0)) 75) := snd_iconst dX2_readClose_74 (by decide)
theorem s_X2_readClose_75 : Snd PG.nam M76 75 (m_callV true [(1, 70)] 2 78) := snd_callV (nam := PG.nam) (List.forall_mem_cons.mpr ⟨dr_V (ym := PG.nam 70) dX2_readClose_75 (Or.inl w1731) mi_70 rfl (lw_all_tbl qs42), (fun q hq => absurd hq List.not_mem_nil)⟩) (by decide)
theorem s_X2_readClose_78 : Snd PG.nam M76 78 (m_aload 0 79) := snd_aload_n dX2_readClose_78 rfl
theorem s_X2_readClose_79 : Snd PG.nam M76 79 (m_const (.int (nI 8)) 81) := snd_bipush dX2_readClose_79 (by decide)
theorem s_X2_readClose_81 : Snd PG.nam M76 81 (m_callV false [(1, 63)] 1 84) := snd_callV (nam := PG.nam) (List.forall_mem_cons.mpr ⟨dr_V (ym := PG.nam 63) dX2_readClose_81 (Or.inl w1692) mi_63 rfl (lw_all_tbl qs35), (fun q hq => absurd hq List.not_mem_nil)⟩) (by decide)
theorem s_X2_readClose_84 : Snd PG.nam M76 84 (m_ifz (fun x => if x = 0 then 99 else 87)) := snd_if_eq dX2_readClose_84 (by decide)
theorem s_X2_readClose_87 : Snd PG.nam M76 87 (m_aload 0 88) := snd_aload_n dX2_readClose_87 rfl
theorem s_X2_readClose_88 : Snd PG.nam M76 88 (m_callV true [(1, 58)] 0 91) := snd_callV (nam := PG.nam) (List.forall_mem_cons.mpr ⟨dr_V (ym := PG.nam 58) dX2_readClose_88 (Or.inl w1672) mi_58 rfl (lw_all_tbl qs32), (fun q hq => absurd hq List.not_mem_nil)⟩) (by decide)
theorem s_X2_readClose_91 : Snd PG.nam M76 91 (m_aload 0 92) := snd_aload_n dX2_readClose_91 rfl
theorem s_X2_readClose_92 : Snd PG.nam M76 92 (m_const (.int (nI 3)) 93) := snd_iconst dX2_readClose_92 (by decide)
theorem s_X2_readClose_93 : Snd PG.nam M76 93 (m_callV true [(1, 68)] 1 96) := snd_callV (nam := PG.nam) (List.forall_mem_cons.mpr ⟨dr_V (ym := PG.nam 68) dX2_readClose_93 (Or.inl w1723) mi_68 rfl (lw_all_tbl qs40), (fun q hq => absurd hq List.not_mem_nil)⟩) (by decide)
theorem s_X2_readClose_96 : Snd PG.nam M76 96 (m_goto 106) := snd_goto dX2_readClose_96 (by decide)
theorem s_X2_readClose_99 : Snd PG.nam M76 99 (m_aload 0 100) := snd_aload_n dX2_readClose_99 rfl
theorem s_X2_readClose_100 : Snd PG.nam M76 100 (m_const (.int (nI 8)) 102) := snd_bipush dX2_readClose_100 (by decide)
theorem s_X2_readClose_102 : Snd PG.nam M76 102 (m_const (.int (nI 0)) 103) := snd_iconst dX2_readClose_102 (by decide)
theorem s_X2_readClose_103 : Snd PG.nam M76 103 (m_callV true [(1, 70)] 2 106) := snd_callV (nam := PG.nam) (List.forall_mem_cons.mpr ⟨dr_V (ym := PG.nam 70) dX2_readClose_103 (Or.inl w1731) mi_70 rfl (lw_all_tbl qs42), (fun q hq => absurd hq List.not_mem_nil)⟩) (by decide)
theorem s_X2_readClose_106 : Snd PG.nam M76 106 (m_vret) := snd_vret dX2_readClose_106 rfl
theorem T76 : ∀ q ∈ S76, Snd PG.nam M76 q.1 q.2 := List.forall_mem_cons.mpr ⟨s_X2_readClose_0, List.forall_mem_cons.mpr ⟨s_X2_readClose_1, List.forall_mem_cons.mpr ⟨s_X2_readClose_4, List.forall_mem_cons.mpr ⟨s_X2_readClose_5, List.forall_mem_cons.mpr ⟨s_X2_readClose_6, List.forall_mem_cons.mpr ⟨s_X2_readClose_9, List.forall_mem_cons.mpr ⟨s_X2_readClose_10, List.forall_mem_cons.mpr ⟨s_X2_readClose_11, List.forall_mem_cons.mpr ⟨s_X2_readClose_14, List.forall_mem_cons.mpr ⟨s_X2_readClose_15, List.forall_mem_cons.mpr ⟨s_X2_readClose_16, List.forall_mem_cons.mpr ⟨s_X2_readClose_17, List.forall_mem_cons.mpr ⟨s_X2_readClose_20, List.forall_mem_cons.mpr ⟨s_X2_readClose_21, List.forall_mem_cons.mpr ⟨s_X2_readClose_24, List.forall_mem_cons.mpr ⟨s_X2_readClose_25, List.forall_mem_cons.mpr ⟨s_X2_readClose_28, List.forall_mem_cons.mpr ⟨s_X2_readClose_29, List.forall_mem_cons.mpr ⟨s_X2_readClose_32, List.forall_mem_cons.mpr ⟨s_X2_readClose_33, List.forall_mem_cons.mpr ⟨s_X2_readClose_36, List.forall_mem_cons.mpr ⟨s_X2_readClose_37, List.forall_mem_cons.mpr ⟨s_X2_readClose_38, List.forall_mem_cons.mpr ⟨s_X2_readClose_39, List.forall_mem_cons.mpr ⟨s_X2_readClose_40, List.forall_mem_cons.mpr ⟨s_X2_readClose_43, List.forall_mem_cons.mpr ⟨s_X2_readClose_44, List.forall_mem_cons.mpr ⟨s_X2_readClose_45, List.forall_mem_cons.mpr ⟨s_X2_readClose_46, List.forall_mem_cons.mpr ⟨s_X2_readClose_49, List.forall_mem_cons.mpr ⟨s_X2_readClose_52, List.forall_mem_cons.mpr ⟨s_X2_readClose_53, List.forall_mem_cons.mpr ⟨s_X2_readClose_54, List.forall_mem_cons.mpr ⟨s_X2_readClose_57, List.forall_mem_cons.mpr ⟨s_X2_readClose_58, List.forall_mem_cons.mpr ⟨s_X2_readClose_59, List.forall_mem_cons.mpr ⟨s_X2_readClose_60, List.forall_mem_cons.mpr ⟨s_X2_readClose_63, List.forall_mem_cons.mpr ⟨s_X2_readClose_66, List.forall_mem_cons.mpr ⟨s_X2_readClose_67, List.forall_mem_cons.mpr ⟨s_X2_readClose_68, List.forall_mem_cons.mpr ⟨s_X2_readClose_71, List.forall_mem_cons.mpr ⟨s_X2_readClose_72, List.forall_mem_cons.mpr ⟨s_X2_readClose_74, List.forall_mem_cons.mpr ⟨s_X2_readClose_75, List.forall_mem_cons.mpr ⟨s_X2_readClose_78, List.forall_mem_cons.mpr ⟨s_X2_readClose_79, List.forall_mem_cons.mpr ⟨s_X2_readClose_81, List.forall_mem_cons.mpr ⟨s_X2_readClose_84, List.forall_mem_cons.mpr ⟨s_X2_readClose_87, List.forall_mem_cons.mpr ⟨s_X2_readClose_88, List.forall_mem_cons.mpr ⟨s_X2_readClose_91, List.forall_mem_cons.mpr ⟨s_X2_readClose_92, List.forall_mem_cons.mpr ⟨s_X2_readClose_93, List.forall_mem_cons.mpr ⟨s_X2_readClose_96, List.forall_mem_cons.mpr ⟨s_X2_readClose_99, List.forall_mem_cons.mpr ⟨s_X2_readClose_100, List.forall_mem_cons.mpr ⟨s_X2_readClose_102, List.forall_mem_cons.mpr ⟨s_X2_readClose_103, List.forall_mem_cons.mpr ⟨s_X2_readClose_106, (fun q hq => absurd hq List.not_mem_nil)⟩⟩⟩⟩⟩⟩⟩⟩⟩⟩⟩⟩⟩⟩⟩⟩⟩⟩⟩⟩⟩⟩⟩⟩⟩⟩⟩⟩⟩⟩⟩⟩⟩⟩⟩⟩⟩⟩⟩⟩⟩⟩⟩⟩⟩⟩⟩⟩⟩⟩⟩⟩⟩⟩⟩⟩⟩⟩⟩⟩
theorem s_X2_work_0 : Snd PG.nam M77 0 (m_iload 1 1) := snd_iload_n dX2_work_0 rfl
theorem s_X2_work_1 : Snd PG.nam M77 1 (m_const (.int (nI 1)) 2) := snd_iconst dX2_work_1 (by decide)
theorem s_X2_work_2 : Snd PG.nam M77 2 (m_icmp (fun x z => if x = z then 11 else 5)) := snd_icmp_eq dX2_work_2 (by decide)
theorem s_X2_work_5 : Snd PG.nam M77 5 (m_iload 1 6) := snd_iload_n dX2_work_5 rfl
theorem s_X2_work_6 : Snd PG.nam M77 6 (m_const (.int (nI 6)) 8) := snd_bipush dX2_work_6 (by decide)
theorem s_X2_work_8 : Snd PG.nam M77 8 (m_icmp (fun x z => if x = z then 11 else 57)) := snd_icmp_ne dX2_work_8 (by decide)
theorem s_X2_work_11 : Snd PG.nam M77 11 (m_aload 0 12) := snd_aload_n dX2_work_11 rfl
theorem s_X2_work_12 : Snd PG.nam M77 12 (m_getf [(1, 49)] 15) := snd_getf dX2_work_12 fd_X2_76
theorem s_X2_work_15 : Snd PG.nam M77 15 (m_aload 0 16) := snd_aload_n dX2_work_15 rfl
theorem s_X2_work_16 : Snd PG.nam M77 16 (m_getf [(1, 50)] 19) := snd_getf dX2_work_16 fd_X2_318
theorem s_X2_work_19 : Snd PG.nam M77 19 (m_iload 1 20) := snd_iload_n dX2_work_19 rfl
theorem s_X2_work_20 : Snd PG.nam M77 20 (m_const (.int (nI 1)) 21) := snd_iconst dX2_work_20 (by decide)
theorem s_X2_work_21 : Snd PG.nam M77 21 (m_icmp (fun x z => if x = z then 24 else 28)) := snd_icmp_ne dX2_work_21 (by decide)
theorem s_X2_work_24 : Snd PG.nam M77 24 (m_const (.int (nI 1)) 25) := snd_iconst dX2_work_24 (by decide)
theorem s_X2_work_25 : Snd PG.nam M77 25 (m_goto 29) := snd_goto dX2_work_25 (by decide)
theorem s_X2_work_28 : Snd PG.nam M77 28 (m_const (.int (nI 0)) 29) := snd_iconst dX2_work_28 (by decide)
theorem s_X2_work_29 : Snd PG.nam M77 29 (m_iast [.int] 30) := snd_iast dX2_work_29
theorem s_X2_work_30 : Snd PG.nam M77 30 (m_aload 0 31) := snd_aload_n dX2_work_30 rfl
theorem s_X2_work_31 : Snd PG.nam M77 31 (m_getf [(1, 48)] 34) := snd_getf dX2_work_31 fd_X2_73
theorem s_X2_work_34 : Snd PG.nam M77 34 (m_const (.int (nI 150)) 37) := snd_sipush dX2_work_34 (by decide)
theorem s_X2_work_37 : Snd PG.nam M77 37 (m_aload 0 38) := snd_aload_n dX2_work_37 rfl
theorem s_X2_work_38 : Snd PG.nam M77 38 (m_getf [(1, 50)] 41) := snd_getf dX2_work_38 fd_X2_318
theorem s_X2_work_41 : Snd PG.nam M77 41 (m_ibin (fun a b => a * b) 42) := snd_imul dX2_work_41
theorem s_X2_work_42 : Snd PG.nam M77 42 (m_const (.int (nI 0)) 43) := snd_iconst dX2_work_42 (by decide)
theorem s_X2_work_43 : Snd PG.nam M77 43 (m_iast [.int] 44) := snd_iast dX2_work_43
theorem s_X2_work_44 : Snd PG.nam M77 44 (m_aload 0 45) := snd_aload_n dX2_work_44 rfl
theorem s_X2_work_45 : Snd PG.nam M77 45 (m_dup 46) := snd_dup dX2_work_45
theorem s_X2_work_46 : Snd PG.nam M77 46 (m_getf [(1, 50)] 49) := snd_getf dX2_work_46 fd_X2_318
theorem s_X2_work_49 : Snd PG.nam M77 49 (m_const (.int (nI 1)) 50) := snd_iconst dX2_work_49 (by decide)
theorem s_X2_work_50 : Snd PG.nam M77 50 (m_ibin (fun a b => a + b) 51) := snd_iadd dX2_work_50
theorem s_X2_work_51 : Snd PG.nam M77 51 (m_putf [(1, 50)] .int 54) := snd_putf dX2_work_51 fd_X2_318
theorem s_X2_work_54 : Snd PG.nam M77 54 (m_goto 174) := snd_goto dX2_work_54 (by decide)
theorem s_X2_work_57 : Snd PG.nam M77 57 (m_iload 1 58) := snd_iload_n dX2_work_57 rfl
theorem s_X2_work_58 : Snd PG.nam M77 58 (m_const (.int (nI 2)) 59) := snd_iconst dX2_work_58 (by decide)
theorem s_X2_work_59 : Snd PG.nam M77 59 (m_icmp (fun x z => if x = z then 62 else 75)) := snd_icmp_ne dX2_work_59 (by decide)
theorem s_X2_work_62 : Snd PG.nam M77 62 (m_aload 0 63) := snd_aload_n dX2_work_62 rfl
theorem s_X2_work_63 : Snd PG.nam M77 63 (m_iload 2 64) := snd_iload_n dX2_work_63 rfl
theorem s_X2_work_64 : Snd PG.nam M77 64 (m_callV true [(1, 78)] 1 67) := snd_callV (nam := PG.nam) (List.forall_mem_cons.mpr ⟨dr_V (ym := PG.nam 78) dX2_work_64 (Or.inl w1763) mi_78 rfl (lw_all_tbl qs50), (fun q hq => absurd hq List.not_mem_nil)⟩) (by decide)
theorem s_X2_work_67 : Snd PG.nam M77 67 (m_aload 0 68) := snd_aload_n dX2_work_67 rfl
theorem s_X2_work_68 : Snd PG.nam M77 68 (m_const (.int (nI 0)) 69) := snd_iconst dX2_work_68 (by decide)
theorem s_X2_work_69 : Snd PG.nam M77 69 (m_callV true [(1, 79)] 1 72) := snd_callV (nam := PG.nam) (List.forall_mem_cons.mpr ⟨dr_V (ym := PG.nam 79) dX2_work_69 (Or.inl w1767) mi_79 rfl (lw_all_tbl qs51), (fun q hq => absurd hq List.not_mem_nil)⟩) (by decide)
theorem s_X2_work_72 : Snd PG.nam M77 72 (m_goto 174) := snd_goto dX2_work_72 (by decide)
theorem s_X2_work_75 : Snd PG.nam M77 75 (m_iload 1 76) := snd_iload_n dX2_work_75 rfl
theorem s_X2_work_76 : Snd PG.nam M77 76 (m_const (.int (nI 3)) 77) := snd_iconst dX2_work_76 (by decide)
theorem s_X2_work_77 : Snd PG.nam M77 77 (m_icmp (fun x z => if x = z then 80 else 88)) := snd_icmp_ne dX2_work_77 (by decide)
theorem s_X2_work_80 : Snd PG.nam M77 80 (m_aload 0 81) := snd_aload_n dX2_work_80 rfl
theorem s_X2_work_81 : Snd PG.nam M77 81 (m_iload 2 82) := snd_iload_n dX2_work_81 rfl
theorem s_X2_work_82 : Snd PG.nam M77 82 (m_callV true [(1, 84)] 1 85) := snd_callV (nam := PG.nam) (List.forall_mem_cons.mpr ⟨dr_V (ym := PG.nam 84) dX2_work_82 (Or.inl w1787) mi_84 rfl (lw_all_tbl qs56), (fun q hq => absurd hq List.not_mem_nil)⟩) (by decide)
theorem s_X2_work_85 : Snd PG.nam M77 85 (m_goto 174) := snd_goto dX2_work_85 (by decide)
theorem s_X2_work_88 : Snd PG.nam M77 88 (m_iload 1 89) := snd_iload_n dX2_work_88 rfl
theorem s_X2_work_89 : Snd PG.nam M77 89 (m_const (.int (nI 4)) 90) := snd_iconst dX2_work_89 (by decide)
theorem s_X2_work_90 : Snd PG.nam M77 90 (m_icmp (fun x z => if x = z then 93 else 101)) := snd_icmp_ne dX2_work_90 (by decide)
theorem s_X2_work_93 : Snd PG.nam M77 93 (m_aload 0 94) := snd_aload_n dX2_work_93 rfl
theorem s_X2_work_94 : Snd PG.nam M77 94 (m_const (.int (nI 1)) 95) := snd_iconst dX2_work_94 (by decide)
theorem s_X2_work_95 : Snd PG.nam M77 95 (m_callV true [(1, 79)] 1 98) := snd_callV (nam := PG.nam) (List.forall_mem_cons.mpr ⟨dr_V (ym := PG.nam 79) dX2_work_95 (Or.inl w1767) mi_79 rfl (lw_all_tbl qs51), (fun q hq => absurd hq List.not_mem_nil)⟩) (by decide)
theorem s_X2_work_98 : Snd PG.nam M77 98 (m_goto 174) := snd_goto dX2_work_98 (by decide)
theorem s_X2_work_101 : Snd PG.nam M77 101 (m_iload 1 102) := snd_iload_n dX2_work_101 rfl
theorem s_X2_work_102 : Snd PG.nam M77 102 (m_const (.int (nI 5)) 103) := snd_iconst dX2_work_102 (by decide)
theorem s_X2_work_103 : Snd PG.nam M77 103 (m_icmp (fun x z => if x = z then 106 else 114)) := snd_icmp_ne dX2_work_103 (by decide)
theorem s_X2_work_106 : Snd PG.nam M77 106 (m_aload 0 107) := snd_aload_n dX2_work_106 rfl
theorem s_X2_work_107 : Snd PG.nam M77 107 (m_const (.int (nI 2)) 108) := snd_iconst dX2_work_107 (by decide)
theorem s_X2_work_108 : Snd PG.nam M77 108 (m_callV true [(1, 79)] 1 111) := snd_callV (nam := PG.nam) (List.forall_mem_cons.mpr ⟨dr_V (ym := PG.nam 79) dX2_work_108 (Or.inl w1767) mi_79 rfl (lw_all_tbl qs51), (fun q hq => absurd hq List.not_mem_nil)⟩) (by decide)
theorem s_X2_work_111 : Snd PG.nam M77 111 (m_goto 174) := snd_goto dX2_work_111 (by decide)
theorem s_X2_work_114 : Snd PG.nam M77 114 (m_iload 1 115) := snd_iload_n dX2_work_114 rfl
theorem s_X2_work_115 : Snd PG.nam M77 115 (m_const (.int (nI 8)) 117) := snd_bipush dX2_work_115 (by decide)
theorem s_X2_work_117 : Snd PG.nam M77 117 (m_icmp (fun x z => if x = z then 120 else 128)) := snd_icmp_ne dX2_work_117 (by decide)
theorem s_X2_work_120 : Snd PG.nam M77 120 (m_aload 0 121) := snd_aload_n dX2_work_120 rfl
theorem s_X2_work_121 : Snd PG.nam M77 121 (m_const (.int (nI 0)) 122) := snd_iconst dX2_work_121 (by decide)
theorem s_X2_work_122 : Snd PG.nam M77 122 (m_callV true [(1, 79)] 1 125) := snd_callV (nam := PG.nam) (List.forall_mem_cons.mpr ⟨dr_V (ym := PG.nam 79) dX2_work_122 (Or.inl w1767) mi_79 rfl (lw_all_tbl qs51), (fun q hq => absurd hq List.not_mem_nil)⟩) (by decide)
theorem s_X2_work_125 : Snd PG.nam M77 125 (m_goto 174) := snd_goto dX2_work_125 (by decide)
theorem s_X2_work_128 : Snd PG.nam M77 128 (m_aload 0 129) := snd_aload_n dX2_work_128 rfl
theorem s_X2_work_129 : Snd PG.nam M77 129 (m_dup 130) := snd_dup dX2_work_129
theorem s_X2_work_130 : Snd PG.nam M77 130 (m_getf [(1, 50)] 133) := snd_getf dX2_work_130 fd_X2_318
theorem s_X2_work_133 : Snd PG.nam M77 133 (m_const (.int (nI 1)) 134) := snd_iconst dX2_work_133 (by decide)
theorem s_X2_work_134 : Snd PG.nam M77 134 (m_ibin (fun a b => a - b) 135) := snd_isub dX2_work_134
theorem s_X2_work_135 : Snd PG.nam M77 135 (m_putf [(1, 50)] .int 138) := snd_putf dX2_work_135 fd_X2_318
theorem s_X2_work_138 : Snd PG.nam M77 138 (m_const (.int (nI 0)) 139) := snd_iconst dX2_work_138 (by decide)
theorem s_X2_work_139 : Snd PG.nam M77 139 (m_istore 3 140) := snd_istore_n dX2_work_139 rfl (by decide)
theorem s_X2_work_140 : Snd PG.nam M77 140 (m_iload 3 141) := snd_iload_n dX2_work_140 rfl
theorem s_X2_work_141 : Snd PG.nam M77 141 (m_aload 0 142) := snd_aload_n dX2_work_141 rfl
theorem s_X2_work_142 : Snd PG.nam M77 142 (m_getf [(1, 49)] 145) := snd_getf dX2_work_142 fd_X2_76
theorem s_X2_work_145 : Snd PG.nam M77 145 (m_aload 0 146) := snd_aload_n dX2_work_145 rfl
theorem s_X2_work_146 : Snd PG.nam M77 146 (m_getf [(1, 50)] 149) := snd_getf dX2_work_146 fd_X2_318
theorem s_X2_work_149 : Snd PG.nam M77 149 (m_iald [.int] 150) := snd_iald dX2_work_149
theorem s_X2_work_150 : Snd PG.nam M77 150 (m_icmp (fun x z => if x < z then 153 else 174)) := snd_icmp_ge dX2_work_150 (by decide)
theorem s_X2_work_153 : Snd PG.nam M77 153 (m_aload 0 154) := snd_aload_n dX2_work_153 rfl
theorem s_X2_work_154 : Snd PG.nam M77 154 (m_aload 0 155) := snd_aload_n dX2_work_154 rfl
theorem s_X2_work_155 : Snd PG.nam M77 155 (m_getf [(1, 50)] 158) := snd_getf dX2_work_155 fd_X2_318
theorem s_X2_work_158 : Snd PG.nam M77 158 (m_const (.int (nI 1)) 159) := snd_iconst dX2_work_158 (by decide)
theorem s_X2_work_159 : Snd PG.nam M77 159 (m_ibin (fun a b => a - b) 160) := snd_isub dX2_work_159
theorem s_X2_work_160 : Snd PG.nam M77 160 (m_aload 0 161) := snd_aload_n dX2_work_160 rfl
theorem s_X2_work_161 : Snd PG.nam M77 161 (m_getf [(1, 50)] 164) := snd_getf dX2_work_161 fd_X2_318
theorem s_X2_work_164 : Snd PG.nam M77 164 (m_iload 3 165) := snd_iload_n dX2_work_164 rfl
theorem s_X2_work_165 : Snd PG.nam M77 165 (m_callV true [(1, 82)] 3 168) := snd_callV (nam := PG.nam) (List.forall_mem_cons.mpr ⟨dr_V (ym := PG.nam 82) dX2_work_165 (Or.inl w1779) mi_82 rfl (lw_all_tbl qs54), (fun q hq => absurd hq List.not_mem_nil)⟩) (by decide)
theorem s_X2_work_168 : Snd PG.nam M77 168 (m_iinc 3 (nI 1) 171) := snd_iinc dX2_work_168 (by decide) (by decide)
theorem s_X2_work_171 : Snd PG.nam M77 171 (m_goto 140) := snd_goto dX2_work_171 (by decide)
theorem s_X2_work_174 : Snd PG.nam M77 174 (m_vret) := snd_vret dX2_work_174 rfl
theorem T77 : ∀ q ∈ S77, Snd PG.nam M77 q.1 q.2 := List.forall_mem_cons.mpr ⟨s_X2_work_0, List.forall_mem_cons.mpr ⟨s_X2_work_1, List.forall_mem_cons.mpr ⟨s_X2_work_2, List.forall_mem_cons.mpr ⟨s_X2_work_5, List.forall_mem_cons.mpr ⟨s_X2_work_6, List.forall_mem_cons.mpr ⟨s_X2_work_8, List.forall_mem_cons.mpr ⟨s_X2_work_11, List.forall_mem_cons.mpr ⟨s_X2_work_12, List.forall_mem_cons.mpr ⟨s_X2_work_15, List.forall_mem_cons.mpr ⟨s_X2_work_16, List.forall_mem_cons.mpr ⟨s_X2_work_19, List.forall_mem_cons.mpr ⟨s_X2_work_20, List.forall_mem_cons.mpr ⟨s_X2_work_21, List.forall_mem_cons.mpr ⟨s_X2_work_24, List.forall_mem_cons.mpr ⟨s_X2_work_25, List.forall_mem_cons.mpr ⟨s_X2_work_28, List.forall_mem_cons.mpr ⟨s_X2_work_29, List.forall_mem_cons.mpr ⟨s_X2_work_30, List.forall_mem_cons.mpr ⟨s_X2_work_31, List.forall_mem_cons.mpr ⟨s_X2_work_34, List.forall_mem_cons.mpr ⟨s_X2_work_37, List.forall_mem_cons.mpr ⟨s_X2_work_38, List.forall_mem_cons.mpr ⟨s_X2_work_41, List.forall_mem_cons.mpr ⟨s_X2_work_42, List.forall_mem_cons.mpr ⟨s_X2_work_43, List.forall_mem_cons.mpr ⟨s_X2_work_44, List.forall_mem_cons.mpr ⟨s_X2_work_45, List.forall_mem_cons.mpr ⟨s_X2_work_46, List.forall_mem_cons.mpr ⟨s_X2_work_49, List.forall_mem_cons.mpr ⟨s_X2_work_50, List.forall_mem_cons.mpr ⟨s_X2_work_51, List.forall_mem_cons.mpr ⟨s_X2_work_54, List.forall_mem_cons.mpr ⟨s_X2_work_57, List.forall_mem_cons.mpr ⟨s_X2_work_58, List.forall_mem_cons.mpr ⟨s_X2_work_59, List.forall_mem_cons.mpr ⟨s_X2_work_62, List.forall_mem_cons.mpr ⟨s_X2_work_63, List.forall_mem_cons.mpr ⟨s_X2_work_64, List.forall_mem_cons.mpr ⟨s_X2_work_67, List.forall_mem_cons.mpr ⟨s_X2_work_68, List.forall_mem_cons.mpr ⟨s_X2_work_69, List.forall_mem_cons.mpr ⟨s_X2_work_72, List.forall_mem_cons.mpr ⟨s_X2_work_75, List.forall_mem_cons.mpr ⟨s_X2_work_76, List.forall_mem_cons.mpr ⟨s_X2_work_77, List.forall_mem_cons.mpr ⟨s_X2_work_80, List.forall_mem_cons.mpr ⟨s_X2_work_81, List.forall_mem_cons.mpr ⟨s_X2_work_82, List.forall_mem_cons.mpr ⟨s_X2_work_85, List.forall_mem_cons.mpr ⟨s_X2_work_88, List.forall_mem_cons.mpr ⟨s_X2_work_89, List.forall_mem_cons.mpr ⟨s_X2_work_90, List.forall_mem_cons.mpr ⟨s_X2_work_93, List.forall_mem_cons.mpr ⟨s_X2_work_94, List.forall_mem_cons.mpr ⟨s_X2_work_95, List.forall_mem_cons.mpr ⟨s_X2_work_98, List.forall_mem_cons.mpr ⟨s_X2_work_101, List.forall_mem_cons.mpr ⟨s_X2_work_102, List.forall_mem_cons.mpr ⟨s_X2_work_103, List.forall_mem_cons.mpr ⟨s_X2_work_106, List.forall_mem_cons.mpr ⟨s_X2_work_107, List.forall_mem_cons.mpr ⟨s_X2_work_108, List.forall_mem_cons.mpr ⟨s_X2_work_111, List.forall_mem_cons.mpr ⟨s_X2_work_114, List.forall_mem_cons.mpr ⟨s_X2_work_115, List.forall_mem_cons.mpr ⟨s_X2_work_117, List.forall_mem_cons.mpr ⟨s_X2_work_120, List.forall_mem_cons.mpr ⟨s_X2_work_121, List.forall_mem_cons.mpr ⟨s_X2_work_122, List.forall_mem_cons.mpr ⟨s_X2_work_125, List.forall_mem_cons.mpr ⟨s_X2_work_128, List.forall_mem_cons.mpr ⟨s_X2_work_129, List.forall_mem_cons.mpr ⟨s_X2_work_130, List.forall_mem_cons.mpr ⟨s_X2_work_133, List.forall_mem_cons.mpr ⟨s_X2_work_134, List.forall_mem_cons.mpr ⟨s_X2_work_135, List.forall_mem_cons.mpr ⟨s_X2_work_138, List.forall_mem_cons.mpr ⟨s_X2_work_139, List.forall_mem_cons.mpr ⟨s_X2_work_140, List.forall_mem_cons.mpr ⟨s_X2_work_141, List.forall_mem_cons.mpr ⟨s_X2_work_142, List.forall_mem_cons.mpr ⟨s_X2_work_145, List.forall_mem_cons.mpr ⟨s_X2_work_146, List.forall_mem_cons.mpr ⟨s_X2_work_149, List.forall_mem_cons.mpr ⟨s_X2_work_150, List.forall_mem_cons.mpr ⟨s_X2_work_153, List.forall_mem_cons.mpr ⟨s_X2_work_154, List.forall_mem_cons.mpr ⟨s_X2_work_155, List.forall_mem_cons.mpr ⟨s_X2_work_158, List.forall_mem_cons.mpr ⟨s_X2_work_159, List.forall_mem_cons.mpr ⟨s_X2_work_160, List.forall_mem_cons.mpr ⟨s_X2_work_161, List.forall_mem_cons.mpr ⟨s_X2_work_164, List.forall_mem_cons.mpr ⟨s_X2_work_165, List.forall_mem_cons.mpr ⟨s_X2_work_168, List.forall_mem_cons.mpr ⟨s_X2_work_171, List.forall_mem_cons.mpr ⟨s_X2_work_174, (fun q hq => absurd hq List.not_mem_nil)⟩⟩⟩⟩⟩⟩⟩⟩⟩⟩⟩⟩⟩⟩⟩⟩⟩⟩⟩⟩⟩⟩⟩⟩⟩⟩⟩⟩⟩⟩⟩⟩⟩⟩⟩⟩⟩⟩⟩⟩⟩⟩⟩⟩⟩⟩⟩⟩⟩⟩⟩⟩⟩⟩⟩⟩⟩⟩⟩⟩⟩⟩⟩⟩⟩⟩⟩⟩⟩⟩⟩⟩⟩⟩⟩⟩⟩⟩⟩⟩⟩⟩⟩⟩⟩⟩⟩⟩⟩⟩⟩⟩⟩⟩⟩⟩⟩
theorem s_X2_match_0 : Snd PG.nam M78 0 (m_aload 0 1) := snd_aload_n dX2_match_0 rfl
theorem s_X2_match_1 : Snd PG.nam M78 1 (m_getf [(1, 50)] 4) := snd_getf dX2_match_1 fd_X2_318
theorem s_X2_match_4 : Snd PG.nam M78 4 (m_istore 2 5) := snd_istore_n dX2_match_4 rfl (by decide)
theorem s_X2_match_5 : Snd PG.nam M78 5 (m_aload 0 6) := snd_aload_n dX2_match_5 rfl
theorem s_X2_match_6 : Snd PG.nam M78 6 (m_getf [(1, 49)] 9) := snd_getf dX2_match_6 fd_X2_76
theorem s_X2_match_9 : Snd PG.nam M78 9 (m_iload 2 10) := snd_iload_n dX2_match_9 rfl
theorem s_X2_match_10 : Snd PG.nam M78 10 (m_const (.int (nI 0)) 11) := snd_iconst dX2_match_10 (by decide)
theorem s_X2_match_11 : Snd PG.nam M78 11 (m_iast [.int] 12) := snd_iast dX2_match_11
theorem s_X2_match_12 : Snd PG.nam M78 12 (m_aload 0 13) := snd_aload_n dX2_match_12 rfl
theorem s_X2_match_13 : Snd PG.nam M78 13 (m_dup 14) := snd_dup dX2_match_13
theorem s_X2_match_14 : Snd PG.nam M78 14 (m_getf [(1, 50)] 17) := snd_getf dX2_match_14 fd_X2_318
theorem s_X2_match_17 : Snd PG.nam M78 17 (m_const (.int (nI 1)) 18) := snd_iconst dX2_match_17 (by decide)
theorem s_X2_match_18 : Snd PG.nam M78 18 (m_ibin (fun a b => a + b) 19) := snd_iadd dX2_match_18
theorem s_X2_match_19 : Snd PG.nam M78 19 (m_putf [(1, 50)] .int 22) := snd_putf dX2_match_19 fd_X2_318
theorem s_X2_match_22 : Snd PG.nam M78 22 (m_const (.int (nI 0)) 23) := snd_iconst dX2_match_22 (by decide)
theorem s_X2_match_23 : Snd PG.nam M78 23 (m_istore 3 24) := snd_istore_n dX2_match_23 rfl (by decide)
theorem s_X2_match_24 : Snd PG.nam M78 24 (m_iload 3 25) := snd_iload_n dX2_match_24 rfl
theorem s_X2_match_25 : Snd PG.nam M78 25 (m_aload 0 26) := snd_aload_n dX2_match_25 rfl
theorem s_X2_match_26 : Snd PG.nam M78 26 (m_getf [(1, 1)] 29) := snd_getf dX2_match_26 fd_X2_102
theorem s_X2_match_29 : Snd PG.nam M78 29 (m_icmp (fun x z => if x < z then 32 else 227)) := snd_icmp_ge dX2_match_29 (by decide)
theorem s_X2_match_32 : Snd PG.nam M78 32 (m_const (.int (nI 150)) 35) := snd_sipush dX2_match_32 (by decide)
theorem s_X2_match_35 : Snd PG.nam M78 35 (m_iload 2 36) := snd_iload_n dX2_match_35 rfl
theorem s_X2_match_36 : Snd PG.nam M78 36 (m_ibin (fun a b => a * b) 37) := snd_imul dX2_match_36
theorem s_X2_match_37 : Snd PG.nam M78 37 (m_aload 0 38) := snd_aload_n dX2_match_37 rfl
theorem s_X2_match_38 : Snd PG.nam M78 38 (m_getf [(1, 49)] 41) := snd_getf dX2_match_38 fd_X2_76
theorem s_X2_match_41 : Snd PG.nam M78 41 (m_iload 2 42) := snd_iload_n dX2_match_41 rfl
theorem s_X2_match_42 : Snd PG.nam M78 42 (m_iald [.int] 43) := snd_iald dX2_match_42
theorem s_X2_match_43 : Snd PG.nam M78 43 (m_ibin (fun a b => a + b) 44) := snd_iadd dX2_match_43
theorem s_X2_match_44 : Snd PG.nam M78 44 (m_istore 4 46) := snd_istore dX2_match_44 (by decide)
theorem s_X2_match_46 : Snd PG.nam M78 46 (m_aload 0 47) := snd_aload_n dX2_match_46 rfl
theorem s_X2_match_47 : Snd PG.nam M78 47 (m_getf [(1, 48)] 50) := snd_getf dX2_match_47 fd_X2_73
theorem s_X2_match_50 : Snd PG.nam M78 50 (m_iload 4 52) := snd_iload dX2_match_50
theorem s_X2_match_52 : Snd PG.nam M78 52 (m_const (.int (nI 0)) 53) := snd_iconst dX2_match_52 (by decide)
theorem s_X2_match_53 : Snd PG.nam M78 53 (m_iast [.int] 54) := snd_iast dX2_match_53
theorem s_X2_match_54 : Snd PG.nam M78 54 (m_const (.int (nI 1)) 55) := snd_iconst dX2_match_54 (by decide)
theorem s_X2_match_55 : Snd PG.nam M78 55 (m_istore 5 57) := snd_istore dX2_match_55 (by decide)
theorem s_X2_match_57 : Snd PG.nam M78 57 (m_const (.int (nI 0)) 58) := snd_iconst dX2_match_57 (by decide)
theorem s_X2_match_58 : Snd PG.nam M78 58 (m_istore 6 60) := snd_istore dX2_match_58 (by decide)
theorem s_X2_match_60 : Snd PG.nam M78 60 (m_iload 6 62) := snd_iload dX2_match_60
theorem s_X2_match_62 : Snd PG.nam M78 62 (m_const (.int (nI 3)) 63) := snd_iconst dX2_match_62 (by decide)
theorem s_X2_match_63 : Snd PG.nam M78 63 (m_icmp (fun x z => if x < z then 66 else 206)) := snd_icmp_ge dX2_match_63 (by decide)
theorem s_X2_match_66 : Snd PG.nam M78 66 (m_aload 0 67) := snd_aload_n dX2_match_66 rfl
theorem s_X2_match_67 : Snd PG.nam M78 67 (m_getf [(1, 0)] 70) := snd_getf dX2_match_67 fd_X2_7
theorem s_X2_match_70 : Snd PG.nam M78 70 (m_const (.int (nI 3)) 71) := snd_iconst dX2_match_70 (by decide)
theorem s_X2_match_71 : Snd PG.nam M78 71 (m_iload 3 72) := snd_iload_n dX2_match_71 rfl
theorem s_X2_match_72 : Snd PG.nam M78 72 (m_ibin (fun a b => a * b) 73) := snd_imul dX2_match_72
theorem s_X2_match_73 : Snd PG.nam M78 73 (m_iload 6 75) := snd_iload dX2_match_73
theorem s_X2_match_75 : Snd PG.nam M78 75 (m_ibin (fun a b => a + b) 76) := snd_iadd dX2_match_75
theorem s_X2_match_76 : Snd PG.nam M78 76 (m_lald 77) := snd_lald dX2_match_76
theorem s_X2_match_77 : Snd PG.nam M78 77 (m_lstore 7 79) := snd_lstore dX2_match_77 (by decide)
theorem s_X2_match_79 : Snd PG.nam M78 79 (m_aload 0 80) := snd_aload_n dX2_match_79 rfl
theorem s_X2_match_80 : Snd PG.nam M78 80 (m_getf [(1, 33)] 83) := snd_getf dX2_match_80 fd_X2_49
theorem s_X2_match_83 : Snd PG.nam M78 83 (m_iload 1 84) := snd_iload_n dX2_match_83 rfl
theorem s_X2_match_84 : Snd PG.nam M78 84 (m_iload 6 86) := snd_iload dX2_match_84
theorem s_X2_match_86 : Snd PG.nam M78 86 (m_ibin (fun a b => a + b) 87) := snd_iadd dX2_match_86
theorem s_X2_match_87 : Snd PG.nam M78 87 (m_iald [.int] 88) := snd_iald dX2_match_87
theorem s_X2_match_88 : Snd PG.nam M78 88 (m_istore 9 90) := snd_istore dX2_match_88 (by decide)
theorem s_X2_match_90 : Snd PG.nam M78 90 (m_iload 9 92) := snd_iload dX2_match_90
theorem s_X2_match_92 : Snd PG.nam M78 92 (m_ifz (fun x => if x < 0 then 95 else 123)) := snd_if_ge dX2_match_92 (by decide)
theorem s_X2_match_95 : Snd PG.nam M78 95 (m_iload 5 97) := snd_iload dX2_match_95
theorem s_X2_match_97 : Snd PG.nam M78 97 (m_aload 0 98) := snd_aload_n dX2_match_97 rfl
theorem s_X2_match_98 : Snd PG.nam M78 98 (m_getf [(1, 34)] 101) := snd_getf dX2_match_98 fd_X2_52
theorem s_X2_match_101 : Snd PG.nam M78 101 (m_iload 1 102) := snd_iload_n dX2_match_101 rfl
theorem s_X2_match_102 : Snd PG.nam M78 102 (m_iload 6 104) := snd_iload dX2_match_102
theorem s_X2_match_104 : Snd PG.nam M78 104 (m_ibin (fun a b => a + b) 105) := snd_iadd dX2_match_104
theorem s_X2_match_105 : Snd PG.nam M78 105 (m_lald 106) := snd_lald dX2_match_105
theorem s_X2_match_106 : Snd PG.nam M78 106 (m_lload 7 108) := snd_lload dX2_match_106
theorem s_X2_match_108 : Snd PG.nam M78 108 (m_lcmp 109) := snd_lcmp dX2_match_108
theorem s_X2_match_109 : Snd PG.nam M78 109 (m_ifz (fun x => if x = 0 then 112 else 116)) := snd_if_ne dX2_match_109 (by decide)
theorem s_X2_match_112 : Snd PG.nam M78 112 (m_const (.int (nI 1)) 113) := snd_iconst dX2_match_112 (by decide)
theorem s_X2_match_113 : Snd PG.nam M78 113 (m_goto 117) := snd_goto dX2_match_113 (by decide)
theorem s_X2_match_116 : Snd PG.nam M78 116 (m_const (.int (nI 0)) 117) := snd_iconst dX2_match_116 (by decide)
theorem s_X2_match_117 : Snd PG.nam M78 117 (m_ibin (fun a b => a &&& b) 118) := snd_iand dX2_match_117
theorem s_X2_match_118 : Snd PG.nam M78 118 (m_istore 5 120) := snd_istore dX2_match_118 (by decide)
theorem s_X2_match_120 : Snd PG.nam M78 120 (m_goto 200) := snd_goto dX2_match_120 (by decide)
theorem s_X2_match_123 : Snd PG.nam M78 123 (m_aload 0 124) := snd_aload_n dX2_match_123 rfl
theorem s_X2_match_124 : Snd PG.nam M78 124 (m_getf [(1, 48)] 127) := snd_getf dX2_match_124 fd_X2_73
theorem s_X2_match_127 : Snd PG.nam M78 127 (m_iload 4 129) := snd_iload dX2_match_127
theorem s_X2_match_129 : Snd PG.nam M78 129 (m_iald [.int] 130) := snd_iald dX2_match_129
theorem s_X2_match_130 : Snd PG.nam M78 130 (m_iload 9 132) := snd_iload dX2_match_130
theorem s_X2_match_132 : Snd PG.nam M78 132 (m_ibin (fun a b => a >>> (b &&& 31)) 133) := snd_ishr dX2_match_132
theorem s_X2_match_133 : Snd PG.nam M78 133 (m_const (.int (nI 1)) 134) := snd_iconst dX2_match_133 (by decide)
theorem s_X2_match_134 : Snd PG.nam M78 134 (m_ibin (fun a b => a &&& b) 135) := snd_iand dX2_match_134
theorem s_X2_match_135 : Snd PG.nam M78 135 (m_const (.int (nI 1)) 136) := snd_iconst dX2_match_135 (by decide)
theorem s_X2_match_136 : Snd PG.nam M78 136 (m_icmp (fun x z => if x = z then 139 else 171)) := snd_icmp_ne dX2_match_136 (by decide)
theorem s_X2_match_139 : Snd PG.nam M78 139 (m_iload 5 141) := snd_iload dX2_match_139
theorem s_X2_match_141 : Snd PG.nam M78 141 (m_aload 0 142) := snd_aload_n dX2_match_141 rfl
theorem s_X2_match_142 : Snd PG.nam M78 142 (m_getf [(1, 47)] 145) := snd_getf dX2_match_142 fd_X2_70
theorem s_X2_match_145 : Snd PG.nam M78 145 (m_const (.int (nI 6)) 147) := snd_bipush dX2_match_145 (by decide)
theorem s_X2_match_147 : Snd PG.nam M78 147 (m_iload 4 149) := snd_iload dX2_match_147
theorem s_X2_match_149 : Snd PG.nam M78 149 (m_ibin (fun a b => a * b) 150) := snd_imul dX2_match_149
theorem s_X2_match_150 : Snd PG.nam M78 150 (m_iload 9 152) := snd_iload dX2_match_150
theorem s_X2_match_152 : Snd PG.nam M78 152 (m_ibin (fun a b => a + b) 153) := snd_iadd dX2_match_152
theorem s_X2_match_153 : Snd PG.nam M78 153 (m_lald 154) := snd_lald dX2_match_153
theorem s_X2_match_154 : Snd PG.nam M78 154 (m_lload 7 156) := snd_lload dX2_match_154
theorem s_X2_match_156 : Snd PG.nam M78 156 (m_lcmp 157) := snd_lcmp dX2_match_156
theorem s_X2_match_157 : Snd PG.nam M78 157 (m_ifz (fun x => if x = 0 then 160 else 164)) := snd_if_ne dX2_match_157 (by decide)
theorem s_X2_match_160 : Snd PG.nam M78 160 (m_const (.int (nI 1)) 161) := snd_iconst dX2_match_160 (by decide)
theorem s_X2_match_161 : Snd PG.nam M78 161 (m_goto 165) := snd_goto dX2_match_161 (by decide)
theorem s_X2_match_164 : Snd PG.nam M78 164 (m_const (.int (nI 0)) 165) := snd_iconst dX2_match_164 (by decide)
theorem s_X2_match_165 : Snd PG.nam M78 165 (m_ibin (fun a b => a &&& b) 166) := snd_iand dX2_match_165
theorem s_X2_match_166 : Snd PG.nam M78 166 (m_istore 5 168) := snd_istore dX2_match_166 (by decide)
theorem s_X2_match_168 : Snd PG.nam M78 168 (m_goto 200) := snd_goto dX2_match_168 (by decide)
theorem s_X2_match_171 : Snd PG.nam M78 171 (m_aload 0 172) := snd_aload_n dX2_match_171 rfl
theorem s_X2_match_172 : Snd PG.nam M78 172 (m_getf [(1, 48)] 175) := snd_getf dX2_match_172 fd_X2_73
theorem s_X2_match_175 : Snd PG.nam M78 175 (m_iload 4 177) := snd_iload dX2_match_175
theorem s_X2_match_177 : Snd PG.nam M78 177 (m_dup2 178) := snd_dup2 dX2_match_177
theorem s_X2_match_178 : Snd PG.nam M78 178 (m_iald [.int] 179) := snd_iald dX2_match_178
theorem s_X2_match_179 : Snd PG.nam M78 179 (m_const (.int (nI 1)) 180) := snd_iconst dX2_match_179 (by decide)
theorem s_X2_match_180 : Snd PG.nam M78 180 (m_iload 9 182) := snd_iload dX2_match_180
theorem s_X2_match_182 : Snd PG.nam M78 182 (m_ibin (fun a b => a <<< (b &&& 31)) 183) := snd_ishl dX2_match_182
theorem s_X2_match_183 : Snd PG.nam M78 183 (m_ibin (fun a b => a ||| b) 184) := snd_ior dX2_match_183
theorem s_X2_match_184 : Snd PG.nam M78 184 (m_iast [.int] 185) := snd_iast dX2_match_184
theorem s_X2_match_185 : Snd PG.nam M78 185 (m_aload 0 186) := snd_aload_n dX2_match_185 rfl
theorem s_X2_match_186 : Snd PG.nam M78 186 (m_getf [(1, 47)] 189) := snd_getf dX2_match_186 fd_X2_70
theorem s_X2_match_189 : Snd PG.nam M78 189 (m_const (.int (nI 6)) 191) := snd_bipush dX2_match_189 (by decide)
theorem s_X2_match_191 : Snd PG.nam M78 191 (m_iload 4 193) := snd_iload dX2_match_191
theorem s_X2_match_193 : Snd PG.nam M78 193 (m_ibin (fun a b => a * b) 194) := snd_imul dX2_match_193
theorem s_X2_match_194 : Snd PG.nam M78 194 (m_iload 9 196) := snd_iload dX2_match_194
theorem s_X2_match_196 : Snd PG.nam M78 196 (m_ibin (fun a b => a + b) 197) := snd_iadd dX2_match_196
theorem s_X2_match_197 : Snd PG.nam M78 197 (m_lload 7 199) := snd_lload dX2_match_197
theorem s_X2_match_199 : Snd PG.nam M78 199 (m_last 200) := snd_last dX2_match_199
theorem s_X2_match_200 : Snd PG.nam M78 200 (m_iinc 6 (nI 1) 203) := snd_iinc dX2_match_200 (by decide) (by decide)
theorem s_X2_match_203 : Snd PG.nam M78 203 (m_goto 60) := snd_goto dX2_match_203 (by decide)
theorem s_X2_match_206 : Snd PG.nam M78 206 (m_iload 5 208) := snd_iload dX2_match_206
theorem s_X2_match_208 : Snd PG.nam M78 208 (m_ifz (fun x => if x = 0 then 221 else 211)) := snd_if_eq dX2_match_208 (by decide)
theorem s_X2_match_211 : Snd PG.nam M78 211 (m_aload 0 212) := snd_aload_n dX2_match_211 rfl
theorem s_X2_match_212 : Snd PG.nam M78 212 (m_getf [(1, 49)] 215) := snd_getf dX2_match_212 fd_X2_76
theorem s_X2_match_215 : Snd PG.nam M78 215 (m_iload 2 216) := snd_iload_n dX2_match_215 rfl
theorem s_X2_match_216 : Snd PG.nam M78 216 (m_dup2 217) := snd_dup2 dX2_match_216
theorem s_X2_match_217 : Snd PG.nam M78 217 (m_iald [.int] 218) := snd_iald dX2_match_217
theorem s_X2_match_218 : Snd PG.nam M78 218 (m_const (.int (nI 1)) 219) := snd_iconst dX2_match_218 (by decide)
theorem s_X2_match_219 : Snd PG.nam M78 219 (m_ibin (fun a b => a + b) 220) := snd_iadd dX2_match_219
theorem s_X2_match_220 : Snd PG.nam M78 220 (m_iast [.int] 221) := snd_iast dX2_match_220
theorem s_X2_match_221 : Snd PG.nam M78 221 (m_iinc 3 (nI 1) 224) := snd_iinc dX2_match_221 (by decide) (by decide)
theorem s_X2_match_224 : Snd PG.nam M78 224 (m_goto 24) := snd_goto dX2_match_224 (by decide)
theorem s_X2_match_227 : Snd PG.nam M78 227 (m_vret) := snd_vret dX2_match_227 rfl
theorem T78 : ∀ q ∈ S78, Snd PG.nam M78 q.1 q.2 := List.forall_mem_cons.mpr ⟨s_X2_match_0, List.forall_mem_cons.mpr ⟨s_X2_match_1, List.forall_mem_cons.mpr ⟨s_X2_match_4, List.forall_mem_cons.mpr ⟨s_X2_match_5, List.forall_mem_cons.mpr ⟨s_X2_match_6, List.forall_mem_cons.mpr ⟨s_X2_match_9, List.forall_mem_cons.mpr ⟨s_X2_match_10, List.forall_mem_cons.mpr ⟨s_X2_match_11, List.forall_mem_cons.mpr ⟨s_X2_match_12, List.forall_mem_cons.mpr ⟨s_X2_match_13, List.forall_mem_cons.mpr ⟨s_X2_match_14, List.forall_mem_cons.mpr ⟨s_X2_match_17, List.forall_mem_cons.mpr ⟨s_X2_match_18, List.forall_mem_cons.mpr ⟨s_X2_match_19, List.forall_mem_cons.mpr ⟨s_X2_match_22, List.forall_mem_cons.mpr ⟨s_X2_match_23, List.forall_mem_cons.mpr ⟨s_X2_match_24, List.forall_mem_cons.mpr ⟨s_X2_match_25, List.forall_mem_cons.mpr ⟨s_X2_match_26, List.forall_mem_cons.mpr ⟨s_X2_match_29, List.forall_mem_cons.mpr ⟨s_X2_match_32, List.forall_mem_cons.mpr ⟨s_X2_match_35, List.forall_mem_cons.mpr ⟨s_X2_match_36, List.forall_mem_cons.mpr ⟨s_X2_match_37, List.forall_mem_cons.mpr ⟨s_X2_match_38, List.forall_mem_cons.mpr ⟨s_X2_match_41, List.forall_mem_cons.mpr ⟨s_X2_match_42, List.forall_mem_cons.mpr ⟨s_X2_match_43, List.forall_mem_cons.mpr ⟨s_X2_match_44, List.forall_mem_cons.mpr ⟨s_X2_match_46, List.forall_mem_cons.mpr ⟨s_X2_match_47, List.forall_mem_cons.mpr ⟨s_X2_match_50, List.forall_mem_cons.mpr ⟨s_X2_match_52, List.forall_mem_cons.mpr ⟨s_X2_match_53, List.forall_mem_cons.mpr ⟨s_X2_match_54, List.forall_mem_cons.mpr ⟨s_X2_match_55, List.forall_mem_cons.mpr ⟨s_X2_match_57, List.forall_mem_cons.mpr ⟨s_X2_match_58, List.forall_mem_cons.mpr ⟨s_X2_match_60, List.forall_mem_cons.mpr ⟨s_X2_match_62, List.forall_mem_cons.mpr ⟨s_X2_match_63, List.forall_mem_cons.mpr ⟨s_X2_match_66, List.forall_mem_cons.mpr ⟨s_X2_match_67, List.forall_mem_cons.mpr ⟨s_X2_match_70, List.forall_mem_cons.mpr ⟨s_X2_match_71, List.forall_mem_cons.mpr ⟨s_X2_match_72, List.forall_mem_cons.mpr ⟨s_X2_match_73, List.forall_mem_cons.mpr ⟨s_X2_match_75, List.forall_mem_cons.mpr ⟨s_X2_match_76, List.forall_mem_cons.mpr ⟨s_X2_match_77, List.forall_mem_cons.mpr ⟨s_X2_match_79, List.forall_mem_cons.mpr ⟨s_X2_match_80, List.forall_mem_cons.mpr ⟨s_X2_match_83, List.forall_mem_cons.mpr ⟨s_X2_match_84, List.forall_mem_cons.mpr ⟨s_X2_match_86, List.forall_mem_cons.mpr ⟨s_X2_match_87, List.forall_mem_cons.mpr ⟨s_X2_match_88, List.forall_mem_cons.mpr ⟨s_X2_match_90, List.forall_mem_cons.mpr ⟨s_X2_match_92, List.forall_mem_cons.mpr ⟨s_X2_match_95, List.forall_mem_cons.mpr ⟨s_X2_match_97, List.forall_mem_cons.mpr ⟨s_X2_match_98, List.forall_mem_cons.mpr ⟨s_X2_match_101, List.forall_mem_cons.mpr ⟨s_X2_match_102, List.forall_mem_cons.mpr ⟨s_X2_match_104, List.forall_mem_cons.mpr ⟨s_X2_match_105, List.forall_mem_cons.mpr ⟨s_X2_match_106, List.forall_mem_cons.mpr ⟨s_X2_match_108, List.forall_mem_cons.mpr ⟨s_X2_match_109, List.forall_mem_cons.mpr ⟨s_X2_match_112, List.forall_mem_cons.mpr ⟨s_X2_match_113, List.forall_mem_cons.mpr ⟨s_X2_match_116, List.forall_mem_cons.mpr ⟨s_X2_match_117, List.forall_mem_cons.mpr ⟨s_X2_match_118, List.forall_mem_cons.mpr ⟨s_X2_match_120, List.forall_mem_cons.mpr ⟨s_X2_match_123, List.forall_mem_cons.mpr ⟨s_X2_match_124, List.forall_mem_cons.mpr ⟨s_X2_match_127, List.forall_mem_cons.mpr ⟨s_X2_match_129, List.forall_mem_cons.mpr ⟨s_X2_match_130, List.forall_mem_cons.mpr ⟨s_X2_match_132, List.forall_mem_cons.mpr ⟨s_X2_match_133, List.forall_mem_cons.mpr ⟨s_X2_match_134, List.forall_mem_cons.mpr ⟨s_X2_match_135, List.forall_mem_cons.mpr ⟨s_X2_match_136, List.forall_mem_cons.mpr ⟨s_X2_match_139, List.forall_mem_cons.mpr ⟨s_X2_match_141, List.forall_mem_cons.mpr ⟨s_X2_match_142, List.forall_mem_cons.mpr ⟨s_X2_match_145, List.forall_mem_cons.mpr ⟨s_X2_match_147, List.forall_mem_cons.mpr ⟨s_X2_match_149, List.forall_mem_cons.mpr ⟨s_X2_match_150, List.forall_mem_cons.mpr ⟨s_X2_match_152, List.forall_mem_cons.mpr ⟨s_X2_match_153, List.forall_mem_cons.mpr ⟨s_X2_match_154, List.forall_mem_cons.mpr ⟨s_X2_match_156, List.forall_mem_cons.mpr ⟨s_X2_match_157, List.forall_mem_cons.mpr ⟨s_X2_match_160, List.forall_mem_cons.mpr ⟨s_X2_match_161, List.forall_mem_cons.mpr ⟨s_X2_match_164, List.forall_mem_cons.mpr ⟨s_X2_match_165, List.forall_mem_cons.mpr ⟨s_X2_match_166, List.forall_mem_cons.mpr ⟨s_X2_match_168, List.forall_mem_cons.mpr ⟨s_X2_match_171, List.forall_mem_cons.mpr ⟨s_X2_match_172, List.forall_mem_cons.mpr ⟨s_X2_match_175, List.forall_mem_cons.mpr ⟨s_X2_match_177, List.forall_mem_cons.mpr ⟨s_X2_match_178, List.forall_mem_cons.mpr ⟨s_X2_match_179, List.forall_mem_cons.mpr ⟨s_X2_match_180, List.forall_mem_cons.mpr ⟨s_X2_match_182, List.forall_mem_cons.mpr ⟨s_X2_match_183, List.forall_mem_cons.mpr ⟨s_X2_match_184, List.forall_mem_cons.mpr ⟨s_X2_match_185, List.forall_mem_cons.mpr ⟨s_X2_match_186, List.forall_mem_cons.mpr ⟨s_X2_match_189, List.forall_mem_cons.mpr ⟨s_X2_match_191, List.forall_mem_cons.mpr ⟨s_X2_match_193, List.forall_mem_cons.mpr ⟨s_X2_match_194, List.forall_mem_cons.mpr ⟨s_X2_match_196, List.forall_mem_cons.mpr ⟨s_X2_match_197, List.forall_mem_cons.mpr ⟨s_X2_match_199, List.forall_mem_cons.mpr ⟨s_X2_match_200, List.forall_mem_cons.mpr ⟨s_X2_match_203, List.forall_mem_cons.mpr ⟨s_X2_match_206, List.forall_mem_cons.mpr ⟨s_X2_match_208, List.forall_mem_cons.mpr ⟨s_X2_match_211, List.forall_mem_cons.mpr ⟨s_X2_match_212, List.forall_mem_cons.mpr ⟨s_X2_match_215, List.forall_mem_cons.mpr ⟨s_X2_match_216, List.forall_mem_cons.mpr ⟨s_X2_match_217, List.forall_mem_cons.mpr ⟨s_X2_match_218, List.forall_mem_cons.mpr ⟨s_X2_match_219, List.forall_mem_cons.mpr ⟨s_X2_match_220, List.forall_mem_cons.mpr ⟨s_X2_match_221, List.forall_mem_cons.mpr ⟨s_X2_match_224, List.forall_mem_cons.mpr ⟨s_X2_match_227, (fun q hq => absurd hq List.not_mem_nil)⟩⟩⟩⟩⟩⟩⟩⟩⟩⟩⟩⟩⟩⟩⟩⟩⟩⟩⟩⟩⟩⟩⟩⟩⟩⟩⟩⟩⟩⟩⟩⟩⟩⟩⟩⟩⟩⟩⟩⟩⟩⟩⟩⟩⟩⟩⟩⟩⟩⟩⟩⟩⟩⟩⟩⟩⟩⟩⟩⟩⟩⟩⟩⟩⟩⟩⟩⟩⟩⟩⟩⟩⟩⟩⟩⟩⟩⟩⟩⟩⟩⟩⟩⟩⟩⟩⟩⟩⟩⟩⟩⟩⟩⟩⟩⟩⟩⟩⟩⟩⟩⟩⟩⟩⟩⟩⟩⟩⟩⟩⟩⟩⟩⟩⟩⟩⟩⟩⟩⟩⟩⟩⟩⟩⟩⟩⟩⟩⟩⟩⟩⟩⟩⟩⟩⟩⟩
theorem s_X2_combine_0 : Snd PG.nam M79 0 (m_aload 0 1) := snd_aload_n dX2_combine_0 rfl
theorem s_X2_combine_1 : Snd PG.nam M79 1 (m_getf [(1, 50)] 4) := snd_getf dX2_combine_1 fd_X2_318
theorem s_X2_combine_4 : Snd PG.nam M79 4 (m_const (.int (nI 2)) 5) := snd_iconst dX2_combine_4 (by decide)
theorem s_X2_combine_5 : Snd PG.nam M79 5 (m_ibin (fun a b => a - b) 6) := snd_isub dX2_combine_5
theorem s_X2_combine_6 : Snd PG.nam M79 6 (m_istore 2 7) := snd_istore_n dX2_combine_6 rfl (by decide)
theorem s_X2_combine_7 : Snd PG.nam M79 7 (m_aload 0 8) := snd_aload_n dX2_combine_7 rfl
theorem s_X2_combine_8 : Snd PG.nam M79 8 (m_getf [(1, 50)] 11) := snd_getf dX2_combine_8 fd_X2_318
theorem s_X2_combine_11 : Snd PG.nam M79 11 (m_const (.int (nI 1)) 12) := snd_iconst dX2_combine_11 (by decide)
theorem s_X2_combine_12 : Snd PG.nam M79 12 (m_ibin (fun a b => a - b) 13) := snd_isub dX2_combine_12
theorem s_X2_combine_13 : Snd PG.nam M79 13 (m_istore 3 14) := snd_istore_n dX2_combine_13 rfl (by decide)
theorem s_X2_combine_14 : Snd PG.nam M79 14 (m_aload 0 15) := snd_aload_n dX2_combine_14 rfl
theorem s_X2_combine_15 : Snd PG.nam M79 15 (m_getf [(1, 49)] 18) := snd_getf dX2_combine_15 fd_X2_76
theorem s_X2_combine_18 : Snd PG.nam M79 18 (m_const (.int (nI 10)) 20) := snd_bipush dX2_combine_18 (by decide)
theorem s_X2_combine_20 : Snd PG.nam M79 20 (m_const (.int (nI 0)) 21) := snd_iconst dX2_combine_20 (by decide)
theorem s_X2_combine_21 : Snd PG.nam M79 21 (m_iast [.int] 22) := snd_iast dX2_combine_21
theorem s_X2_combine_22 : Snd PG.nam M79 22 (m_const (.int (nI 0)) 23) := snd_iconst dX2_combine_22 (by decide)
theorem s_X2_combine_23 : Snd PG.nam M79 23 (m_istore 4 25) := snd_istore dX2_combine_23 (by decide)
theorem s_X2_combine_25 : Snd PG.nam M79 25 (m_iload 4 27) := snd_iload dX2_combine_25
theorem s_X2_combine_27 : Snd PG.nam M79 27 (m_aload 0 28) := snd_aload_n dX2_combine_27 rfl
theorem s_X2_combine_28 : Snd PG.nam M79 28 (m_getf [(1, 49)] 31) := snd_getf dX2_combine_28 fd_X2_76
theorem s_X2_combine_31 : Snd PG.nam M79 31 (m_iload 2 32) := snd_iload_n dX2_combine_31 rfl
theorem s_X2_combine_32 : Snd PG.nam M79 32 (m_iald [.int] 33) := snd_iald dX2_combine_32
theorem s_X2_combine_33 : Snd PG.nam M79 33 (m_icmp (fun x z => if x < z then 36 else 185)) := snd_icmp_ge dX2_combine_33 (by decide)
theorem s_X2_combine_36 : Snd PG.nam M79 36 (m_aload 0 37) := snd_aload_n dX2_combine_36 rfl
theorem s_X2_combine_37 : Snd PG.nam M79 37 (m_getf [(1, 51)] 40) := snd_getf dX2_combine_37 fd_X2_311
theorem s_X2_combine_40 : Snd PG.nam M79 40 (m_ifz (fun x => if x = 0 then 43 else 185)) := snd_if_ne dX2_combine_40 (by decide)
theorem s_X2_combine_43 : Snd PG.nam M79 43 (m_const (.int (nI 0)) 44) := snd_iconst dX2_combine_43 (by decide)
theorem s_X2_combine_44 : Snd PG.nam M79 44 (m_istore 5 46) := snd_istore dX2_combine_44 (by decide)
theorem s_X2_combine_46 : Snd PG.nam M79 46 (m_const (.int (nI 0)) 47) := snd_iconst dX2_combine_46 (by decide)
theorem s_X2_combine_47 : Snd PG.nam M79 47 (m_istore 6 49) := snd_istore dX2_combine_47 (by decide)
theorem s_X2_combine_49 : Snd PG.nam M79 49 (m_const (.int (nI 0)) 50) := snd_iconst dX2_combine_49 (by decide)
theorem s_X2_combine_50 : Snd PG.nam M79 50 (m_istore 7 52) := snd_istore dX2_combine_50 (by decide)
theorem s_X2_combine_52 : Snd PG.nam M79 52 (m_iload 7 54) := snd_iload dX2_combine_52
theorem s_X2_combine_54 : Snd PG.nam M79 54 (m_aload 0 55) := snd_aload_n dX2_combine_54 rfl
theorem s_X2_combine_55 : Snd PG.nam M79 55 (m_getf [(1, 49)] 58) := snd_getf dX2_combine_55 fd_X2_76
theorem s_X2_combine_58 : Snd PG.nam M79 58 (m_iload 3 59) := snd_iload_n dX2_combine_58 rfl
theorem s_X2_combine_59 : Snd PG.nam M79 59 (m_iald [.int] 60) := snd_iald dX2_combine_59
theorem s_X2_combine_60 : Snd PG.nam M79 60 (m_icmp (fun x z => if x < z then 63 else 150)) := snd_icmp_ge dX2_combine_60 (by decide)
theorem s_X2_combine_63 : Snd PG.nam M79 63 (m_aload 0 64) := snd_aload_n dX2_combine_63 rfl
theorem s_X2_combine_64 : Snd PG.nam M79 64 (m_getf [(1, 51)] 67) := snd_getf dX2_combine_64 fd_X2_311
theorem s_X2_combine_67 : Snd PG.nam M79 67 (m_ifz (fun x => if x = 0 then 70 else 150)) := snd_if_ne dX2_combine_67 (by decide)
theorem s_X2_combine_70 : Snd PG.nam M79 70 (m_aload 0 71) := snd_aload_n dX2_combine_70 rfl
theorem s_X2_combine_71 : Snd PG.nam M79 71 (m_const (.int (nI 150)) 74) := snd_sipush dX2_combine_71 (by decide)
theorem s_X2_combine_74 : Snd PG.nam M79 74 (m_iload 2 75) := snd_iload_n dX2_combine_74 rfl
theorem s_X2_combine_75 : Snd PG.nam M79 75 (m_ibin (fun a b => a * b) 76) := snd_imul dX2_combine_75
theorem s_X2_combine_76 : Snd PG.nam M79 76 (m_iload 4 78) := snd_iload dX2_combine_76
theorem s_X2_combine_78 : Snd PG.nam M79 78 (m_ibin (fun a b => a + b) 79) := snd_iadd dX2_combine_78
theorem s_X2_combine_79 : Snd PG.nam M79 79 (m_const (.int (nI 150)) 82) := snd_sipush dX2_combine_79 (by decide)
theorem s_X2_combine_82 : Snd PG.nam M79 82 (m_iload 3 83) := snd_iload_n dX2_combine_82 rfl
theorem s_X2_combine_83 : Snd PG.nam M79 83 (m_ibin (fun a b => a * b) 84) := snd_imul dX2_combine_83
theorem s_X2_combine_84 : Snd PG.nam M79 84 (m_iload 7 86) := snd_iload dX2_combine_84
theorem s_X2_combine_86 : Snd PG.nam M79 86 (m_ibin (fun a b => a + b) 87) := snd_iadd dX2_combine_86
theorem s_X2_combine_87 : Snd PG.nam M79 87 (m_callV false [(1, 80)] 2 90) := snd_callV (nam := PG.nam) (List.forall_mem_cons.mpr ⟨dr_V (ym := PG.nam 80) dX2_combine_87 (Or.inl w1771) mi_80 rfl (lw_all_tbl qs52), (fun q hq => absurd hq List.not_mem_nil)⟩) (by decide)
theorem s_X2_combine_90 : Snd PG.nam M79 90 (m_ifz (fun x => if x = 0 then 144 else 93)) := snd_if_eq dX2_combine_90 (by decide)
theorem s_X2_combine_93 : Snd PG.nam M79 93 (m_const (.int (nI 1)) 94) := snd_iconst dX2_combine_93 (by decide)
theorem s_X2_combine_94 : Snd PG.nam M79 94 (m_istore 5 96) := snd_istore dX2_combine_94 (by decide)
theorem s_X2_combine_96 : Snd PG.nam M79 96 (m_aload 0 97) := snd_aload_n dX2_combine_96 rfl
theorem s_X2_combine_97 : Snd PG.nam M79 97 (m_getf [(1, 48)] 100) := snd_getf dX2_combine_97 fd_X2_73
theorem s_X2_combine_100 : Snd PG.nam M79 100 (m_const (.int (nI 150)) 103) := snd_sipush dX2_combine_100 (by decide)
theorem s_X2_combine_103 : Snd PG.nam M79 103 (m_iload 2 104) := snd_iload_n dX2_combine_103 rfl
theorem s_X2_combine_104 : Snd PG.nam M79 104 (m_ibin (fun a b => a * b) 105) := snd_imul dX2_combine_104
theorem s_X2_combine_105 : Snd PG.nam M79 105 (m_iload 4 107) := snd_iload dX2_combine_105
theorem s_X2_combine_107 : Snd PG.nam M79 107 (m_ibin (fun a b => a + b) 108) := snd_iadd dX2_combine_107
theorem s_X2_combine_108 : Snd PG.nam M79 108 (m_iald [.int] 109) := snd_iald dX2_combine_108
theorem s_X2_combine_109 : Snd PG.nam M79 109 (m_aload 0 110) := snd_aload_n dX2_combine_109 rfl
theorem s_X2_combine_110 : Snd PG.nam M79 110 (m_getf [(1, 48)] 113) := snd_getf dX2_combine_110 fd_X2_73
theorem s_X2_combine_113 : Snd PG.nam M79 113 (m_const (.int (nI 150)) 116) := snd_sipush dX2_combine_113 (by decide)
theorem s_X2_combine_116 : Snd PG.nam M79 116 (m_iload 3 117) := snd_iload_n dX2_combine_116 rfl
theorem s_X2_combine_117 : Snd PG.nam M79 117 (m_ibin (fun a b => a * b) 118) := snd_imul dX2_combine_117
theorem s_X2_combine_118 : Snd PG.nam M79 118 (m_iload 7 120) := snd_iload dX2_combine_118
theorem s_X2_combine_120 : Snd PG.nam M79 120 (m_ibin (fun a b => a + b) 121) := snd_iadd dX2_combine_120
theorem s_X2_combine_121 : Snd PG.nam M79 121 (m_iald [.int] 122) := snd_iald dX2_combine_121
theorem s_X2_combine_122 : Snd PG.nam M79 122 (m_ibin (fun a b => a &&& b) 123) := snd_iand dX2_combine_122
theorem s_X2_combine_123 : Snd PG.nam M79 123 (m_ifz (fun x => if x = 0 then 129 else 126)) := snd_if_eq dX2_combine_123 (by decide)
theorem s_X2_combine_126 : Snd PG.nam M79 126 (m_const (.int (nI 1)) 127) := snd_iconst dX2_combine_126 (by decide)
theorem s_X2_combine_127 : Snd PG.nam M79 127 (m_istore 6 129) := snd_istore dX2_combine_127 (by decide)
theorem s_X2_combine_129 : Snd PG.nam M79 129 (m_iload 1 130) := snd_iload_n dX2_combine_129 rfl
theorem s_X2_combine_130 : Snd PG.nam M79 130 (m_const (.int (nI 2)) 131) := snd_iconst dX2_combine_130 (by decide)
theorem s_X2_combine_131 : Snd PG.nam M79 131 (m_icmp (fun x z => if x < z then 134 else 144)) := snd_icmp_ge dX2_combine_131 (by decide)
theorem s_X2_combine_134 : Snd PG.nam M79 134 (m_aload 0 135) := snd_aload_n dX2_combine_134 rfl
theorem s_X2_combine_135 : Snd PG.nam M79 135 (m_iload 2 136) := snd_iload_n dX2_combine_135 rfl
theorem s_X2_combine_136 : Snd PG.nam M79 136 (m_iload 4 138) := snd_iload dX2_combine_136
theorem s_X2_combine_138 : Snd PG.nam M79 138 (m_iload 3 139) := snd_iload_n dX2_combine_138 rfl
theorem s_X2_combine_139 : Snd PG.nam M79 139 (m_iload 7 141) := snd_iload dX2_combine_139
theorem s_X2_combine_141 : Snd PG.nam M79 141 (m_callV true [(1, 81)] 4 144) := snd_callV (nam := PG.nam) (List.forall_mem_cons.mpr ⟨dr_V (ym := PG.nam 81) dX2_combine_141 (Or.inl w1775) mi_81 rfl (lw_all_tbl qs53), (fun q hq => absurd hq List.not_mem_nil)⟩) (by decide)
theorem s_X2_combine_144 : Snd PG.nam M79 144 (m_iinc 7 (nI 1) 147) := snd_iinc dX2_combine_144 (by decide) (by decide)
theorem s_X2_combine_147 : Snd PG.nam M79 147 (m_goto 52) := snd_goto dX2_combine_147 (by decide)
theorem s_X2_combine_150 : Snd PG.nam M79 150 (m_iload 1 151) := snd_iload_n dX2_combine_150 rfl
theorem s_X2_combine_151 : Snd PG.nam M79 151 (m_const (.int (nI 1)) 152) := snd_iconst dX2_combine_151 (by decide)
theorem s_X2_combine_152 : Snd PG.nam M79 152 (m_icmp (fun x z => if x = z then 155 else 160)) := snd_icmp_ne dX2_combine_152 (by decide)
theorem s_X2_combine_155 : Snd PG.nam M79 155 (m_iload 5 157) := snd_iload dX2_combine_155
theorem s_X2_combine_157 : Snd PG.nam M79 157 (m_ifz (fun x => if x = 0 then 170 else 160)) := snd_if_eq dX2_combine_157 (by decide)
theorem s_X2_combine_160 : Snd PG.nam M79 160 (m_iload 1 161) := snd_iload_n dX2_combine_160 rfl
theorem s_X2_combine_161 : Snd PG.nam M79 161 (m_const (.int (nI 2)) 162) := snd_iconst dX2_combine_161 (by decide)
theorem s_X2_combine_162 : Snd PG.nam M79 162 (m_icmp (fun x z => if x = z then 165 else 179)) := snd_icmp_ne dX2_combine_162 (by decide)
theorem s_X2_combine_165 : Snd PG.nam M79 165 (m_iload 6 167) := snd_iload dX2_combine_165
theorem s_X2_combine_167 : Snd PG.nam M79 167 (m_ifz (fun x => if x = 0 then 170 else 179)) := snd_if_ne dX2_combine_167 (by decide)
theorem s_X2_combine_170 : Snd PG.nam M79 170 (m_aload 0 171) := snd_aload_n dX2_combine_170 rfl
theorem s_X2_combine_171 : Snd PG.nam M79 171 (m_const (.int (nI 10)) 173) := snd_bipush dX2_combine_171 (by decide)
theorem s_X2_combine_173 : Snd PG.nam M79 173 (m_iload 2 174) := snd_iload_n dX2_combine_173 rfl
theorem s_X2_combine_174 : Snd PG.nam M79 174 (m_iload 4 176) := snd_iload dX2_combine_174
theorem s_X2_combine_176 : Snd PG.nam M79 176 (m_callV true [(1, 82)] 3 179) := snd_callV (nam := PG.nam) (List.forall_mem_cons.mpr ⟨dr_V (ym := PG.nam 82) dX2_combine_176 (Or.inl w1779) mi_82 rfl (lw_all_tbl qs54), (fun q hq => absurd hq List.not_mem_nil)⟩) (by decide)
theorem s_X2_combine_179 : Snd PG.nam M79 179 (m_iinc 4 (nI 1) 182) := snd_iinc dX2_combine_179 (by decide) (by decide)
theorem s_X2_combine_182 : Snd PG.nam M79 182 (m_goto 25) := snd_goto dX2_combine_182 (by decide)
theorem s_X2_combine_185 : Snd PG.nam M79 185 (m_aload 0 186) := snd_aload_n dX2_combine_185 rfl
theorem s_X2_combine_186 : Snd PG.nam M79 186 (m_dup 187) := snd_dup dX2_combine_186
theorem s_X2_combine_187 : Snd PG.nam M79 187 (m_getf [(1, 50)] 190) := snd_getf dX2_combine_187 fd_X2_318
theorem s_X2_combine_190 : Snd PG.nam M79 190 (m_const (.int (nI 1)) 191) := snd_iconst dX2_combine_190 (by decide)
theorem s_X2_combine_191 : Snd PG.nam M79 191 (m_ibin (fun a b => a - b) 192) := snd_isub dX2_combine_191
theorem s_X2_combine_192 : Snd PG.nam M79 192 (m_putf [(1, 50)] .int 195) := snd_putf dX2_combine_192 fd_X2_318
theorem s_X2_combine_195 : Snd PG.nam M79 195 (m_aload 0 196) := snd_aload_n dX2_combine_195 rfl
theorem s_X2_combine_196 : Snd PG.nam M79 196 (m_getf [(1, 51)] 199) := snd_getf dX2_combine_196 fd_X2_311
theorem s_X2_combine_199 : Snd PG.nam M79 199 (m_ifz (fun x => if x = 0 then 202 else 209)) := snd_if_ne dX2_combine_199 (by decide)
theorem s_X2_combine_202 : Snd PG.nam M79 202 (m_aload 0 203) := snd_aload_n dX2_combine_202 rfl
theorem s_X2_combine_203 : Snd PG.nam M79 203 (m_const (.int (nI 10)) 205) := snd_bipush dX2_combine_203 (by decide)
theorem s_X2_combine_205 : Snd PG.nam M79 205 (m_iload 2 206) := snd_iload_n dX2_combine_205 rfl
theorem s_X2_combine_206 : Snd PG.nam M79 206 (m_callV true [(1, 83)] 2 209) := snd_callV (nam := PG.nam) (List.forall_mem_cons.mpr ⟨dr_V (ym := PG.nam 83) dX2_combine_206 (Or.inl w1783) mi_83 rfl (lw_all_tbl qs55), (fun q hq => absurd hq List.not_mem_nil)⟩) (by decide)
theorem s_X2_combine_209 : Snd PG.nam M79 209 (m_vret) := snd_vret dX2_combine_209 rfl
theorem T79 : ∀ q ∈ S79, Snd PG.nam M79 q.1 q.2 := List.forall_mem_cons.mpr ⟨s_X2_combine_0, List.forall_mem_cons.mpr ⟨s_X2_combine_1, List.forall_mem_cons.mpr ⟨s_X2_combine_4, List.forall_mem_cons.mpr ⟨s_X2_combine_5, List.forall_mem_cons.mpr ⟨s_X2_combine_6, List.forall_mem_cons.mpr ⟨s_X2_combine_7, List.forall_mem_cons.mpr ⟨s_X2_combine_8, List.forall_mem_cons.mpr ⟨s_X2_combine_11, List.forall_mem_cons.mpr ⟨s_X2_combine_12, List.forall_mem_cons.mpr ⟨s_X2_combine_13, List.forall_mem_cons.mpr ⟨s_X2_combine_14, List.forall_mem_cons.mpr ⟨s_X2_combine_15, List.forall_mem_cons.mpr ⟨s_X2_combine_18, List.forall_mem_cons.mpr ⟨s_X2_combine_20, List.forall_mem_cons.mpr ⟨s_X2_combine_21, List.forall_mem_cons.mpr ⟨s_X2_combine_22, List.forall_mem_cons.mpr ⟨s_X2_combine_23, List.forall_mem_cons.mpr ⟨s_X2_combine_25, List.forall_mem_cons.mpr ⟨s_X2_combine_27, List.forall_mem_cons.mpr ⟨s_X2_combine_28, List.forall_mem_cons.mpr ⟨s_X2_combine_31, List.forall_mem_cons.mpr ⟨s_X2_combine_32, List.forall_mem_cons.mpr ⟨s_X2_combine_33, List.forall_mem_cons.mpr ⟨s_X2_combine_36, List.forall_mem_cons.mpr ⟨s_X2_combine_37, List.forall_mem_cons.mpr ⟨s_X2_combine_40, List.forall_mem_cons.mpr ⟨s_X2_combine_43, List.forall_mem_cons.mpr ⟨s_X2_combine_44, List.forall_mem_cons.mpr ⟨s_X2_combine_46, List.forall_mem_cons.mpr ⟨s_X2_combine_47, List.forall_mem_cons.mpr ⟨s_X2_combine_49, List.forall_mem_cons.mpr ⟨s_X2_combine_50, List.forall_mem_cons.mpr ⟨s_X2_combine_52, List.forall_mem_cons.mpr ⟨s_X2_combine_54, List.forall_mem_cons.mpr ⟨s_X2_combine_55, List.forall_mem_cons.mpr ⟨s_X2_combine_58, List.forall_mem_cons.mpr ⟨s_X2_combine_59, List.forall_mem_cons.mpr ⟨s_X2_combine_60, List.forall_mem_cons.mpr ⟨s_X2_combine_63, List.forall_mem_cons.mpr ⟨s_X2_combine_64, List.forall_mem_cons.mpr ⟨s_X2_combine_67, List.forall_mem_cons.mpr ⟨s_X2_combine_70, List.forall_mem_cons.mpr ⟨s_X2_combine_71, List.forall_mem_cons.mpr ⟨s_X2_combine_74, List.forall_mem_cons.mpr ⟨s_X2_combine_75, List.forall_mem_cons.mpr ⟨s_X2_combine_76, List.forall_mem_cons.mpr ⟨s_X2_combine_78, List.forall_mem_cons.mpr ⟨s_X2_combine_79, List.forall_mem_cons.mpr ⟨s_X2_combine_82, List.forall_mem_cons.mpr ⟨s_X2_combine_83, List.forall_mem_cons.mpr ⟨s_X2_combine_84, List.forall_mem_cons.mpr ⟨s_X2_combine_86, List.forall_mem_cons.mpr ⟨s_X2_combine_87, List.forall_mem_cons.mpr ⟨s_X2_combine_90, List.forall_mem_cons.mpr ⟨s_X2_combine_93, List.forall_mem_cons.mpr ⟨s_X2_combine_94, List.forall_mem_cons.mpr ⟨s_X2_combine_96, List.forall_mem_cons.mpr ⟨s_X2_combine_97, List.forall_mem_cons.mpr ⟨s_X2_combine_100, List.forall_mem_cons.mpr ⟨s_X2_combine_103, List.forall_mem_cons.mpr ⟨s_X2_combine_104, List.forall_mem_cons.mpr ⟨s_X2_combine_105, List.forall_mem_cons.mpr ⟨s_X2_combine_107, List.forall_mem_cons.mpr ⟨s_X2_combine_108, List.forall_mem_cons.mpr ⟨s_X2_combine_109, List.forall_mem_cons.mpr ⟨s_X2_combine_110, List.forall_mem_cons.mpr ⟨s_X2_combine_113, List.forall_mem_cons.mpr ⟨s_X2_combine_116, List.forall_mem_cons.mpr ⟨s_X2_combine_117, List.forall_mem_cons.mpr ⟨s_X2_combine_118, List.forall_mem_cons.mpr ⟨s_X2_combine_120, List.forall_mem_cons.mpr ⟨s_X2_combine_121, List.forall_mem_cons.mpr ⟨s_X2_combine_122, List.forall_mem_cons.mpr ⟨s_X2_combine_123, List.forall_mem_cons.mpr ⟨s_X2_combine_126, List.forall_mem_cons.mpr ⟨s_X2_combine_127, List.forall_mem_cons.mpr ⟨s_X2_combine_129, List.forall_mem_cons.mpr ⟨s_X2_combine_130, List.forall_mem_cons.mpr ⟨s_X2_combine_131, List.forall_mem_cons.mpr ⟨s_X2_combine_134, List.forall_mem_cons.mpr ⟨s_X2_combine_135, List.forall_mem_cons.mpr ⟨s_X2_combine_136, List.forall_mem_cons.mpr ⟨s_X2_combine_138, List.forall_mem_cons.mpr ⟨s_X2_combine_139, List.forall_mem_cons.mpr ⟨s_X2_combine_141, List.forall_mem_cons.mpr ⟨s_X2_combine_144, List.forall_mem_cons.mpr ⟨s_X2_combine_147, List.forall_mem_cons.mpr ⟨s_X2_combine_150, List.forall_mem_cons.mpr ⟨s_X2_combine_151, List.forall_mem_cons.mpr ⟨s_X2_combine_152, List.forall_mem_cons.mpr ⟨s_X2_combine_155, List.forall_mem_cons.mpr ⟨s_X2_combine_157, List.forall_mem_cons.mpr ⟨s_X2_combine_160, List.forall_mem_cons.mpr ⟨s_X2_combine_161, List.forall_mem_cons.mpr ⟨s_X2_combine_162, List.forall_mem_cons.mpr ⟨s_X2_combine_165, List.forall_mem_cons.mpr ⟨s_X2_combine_167, List.forall_mem_cons.mpr ⟨s_X2_combine_170, List.forall_mem_cons.mpr ⟨s_X2_combine_171, List.forall_mem_cons.mpr ⟨s_X2_combine_173, List.forall_mem_cons.mpr ⟨s_X2_combine_174, List.forall_mem_cons.mpr ⟨s_X2_combine_176, List.forall_mem_cons.mpr ⟨s_X2_combine_179, List.forall_mem_cons.mpr ⟨s_X2_combine_182, List.forall_mem_cons.mpr ⟨s_X2_combine_185, List.forall_mem_cons.mpr ⟨s_X2_combine_186, List.forall_mem_cons.mpr ⟨s_X2_combine_187, List.forall_mem_cons.mpr ⟨s_X2_combine_190, List.forall_mem_cons.mpr ⟨s_X2_combine_191, List.forall_mem_cons.mpr ⟨s_X2_combine_192, List.forall_mem_cons.mpr ⟨s_X2_combine_195, List.forall_mem_cons.mpr ⟨s_X2_combine_196, List.forall_mem_cons.mpr ⟨s_X2_combine_199, List.forall_mem_cons.mpr ⟨s_X2_combine_202, List.forall_mem_cons.mpr ⟨s_X2_combine_203, List.forall_mem_cons.mpr ⟨s_X2_combine_205, List.forall_mem_cons.mpr ⟨s_X2_combine_206, List.forall_mem_cons.mpr ⟨s_X2_combine_209, (fun q hq => absurd hq List.not_mem_nil)⟩⟩⟩⟩⟩⟩⟩⟩⟩⟩⟩⟩⟩⟩⟩⟩⟩⟩⟩⟩⟩⟩⟩⟩⟩⟩⟩⟩⟩⟩⟩⟩⟩⟩⟩⟩⟩⟩⟩⟩⟩⟩⟩⟩⟩⟩⟩⟩⟩⟩⟩⟩⟩⟩⟩⟩⟩⟩⟩⟩⟩⟩⟩⟩⟩⟩⟩⟩⟩⟩⟩⟩⟩⟩⟩⟩⟩⟩⟩⟩⟩⟩⟩⟩⟩⟩⟩⟩⟩⟩⟩⟩⟩⟩⟩⟩⟩⟩⟩⟩⟩⟩⟩⟩⟩⟩⟩⟩⟩⟩⟩⟩⟩⟩⟩⟩⟩⟩
theorem s_X2_compatible_0 : Snd PG.nam M80 0 (m_const (.int (nI 0)) 1) := snd_iconst dX2_compatible_0 (by decide)
theorem s_X2_compatible_1 : Snd PG.nam M80 1 (m_istore 3 2) := snd_istore_n dX2_compatible_1 rfl (by decide)
theorem s_X2_compatible_2 : Snd PG.nam M80 2 (m_iload 3 3) := snd_iload_n dX2_compatible_2 rfl
theorem s_X2_compatible_3 : Snd PG.nam M80 3 (m_const (.int (nI 6)) 5) := snd_bipush dX2_compatible_3 (by decide)
theorem s_X2_compatible_5 : Snd PG.nam M80 5 (m_icmp (fun x z => if x < z then 8 else 63)) := snd_icmp_ge dX2_compatible_5 (by decide)
theorem s_X2_compatible_8 : Snd PG.nam M80 8 (m_aload 0 9) := snd_aload_n dX2_compatible_8 rfl
theorem s_X2_compatible_9 : Snd PG.nam M80 9 (m_getf [(1, 48)] 12) := snd_getf dX2_compatible_9 fd_X2_73
theorem s_X2_compatible_12 : Snd PG.nam M80 12 (m_iload 1 13) := snd_iload_n dX2_compatible_12 rfl
theorem s_X2_compatible_13 : Snd PG.nam M80 13 (m_iald [.int] 14) := snd_iald dX2_compatible_13
theorem s_X2_compatible_14 : Snd PG.nam M80 14 (m_aload 0 15) := snd_aload_n dX2_compatible_14 rfl
theorem s_X2_compatible_15 : Snd PG.nam M80 15 (m_getf [(1, 48)] 18) := snd_getf dX2_compatible_15 fd_X2_73
theorem s_X2_compatible_18 : Snd PG.nam M80 18 (m_iload 2 19) := snd_iload_n dX2_compatible_18 rfl
theorem s_X2_compatible_19 : Snd PG.nam M80 19 (m_iald [.int] 20) := snd_iald dX2_compatible_19
theorem s_X2_compatible_20 : Snd PG.nam M80 20 (m_ibin (fun a b => a &&& b) 21) := snd_iand dX2_compatible_20
theorem s_X2_compatible_21 : Snd PG.nam M80 21 (m_iload 3 22) := snd_iload_n dX2_compatible_21 rfl
theorem s_X2_compatible_22 : Snd PG.nam M80 22 (m_ibin (fun a b => a >>> (b &&& 31)) 23) := snd_ishr dX2_compatible_22
theorem s_X2_compatible_23 : Snd PG.nam M80 23 (m_const (.int (nI 1)) 24) := snd_iconst dX2_compatible_23 (by decide)
theorem s_X2_compatible_24 : Snd PG.nam M80 24 (m_ibin (fun a b => a &&& b) 25) := snd_iand dX2_compatible_24
theorem s_X2_compatible_25 : Snd PG.nam M80 25 (m_const (.int (nI 1)) 26) := snd_iconst dX2_compatible_25 (by decide)
theorem s_X2_compatible_26 : Snd PG.nam M80 26 (m_icmp (fun x z => if x = z then 29 else 57)) := snd_icmp_ne dX2_compatible_26 (by decide)
theorem s_X2_compatible_29 : Snd PG.nam M80 29 (m_aload 0 30) := snd_aload_n dX2_compatible_29 rfl
theorem s_X2_compatible_30 : Snd PG.nam M80 30 (m_getf [(1, 47)] 33) := snd_getf dX2_compatible_30 fd_X2_70
theorem s_X2_compatible_33 : Snd PG.nam M80 33 (m_const (.int (nI 6)) 35) := snd_bipush dX2_compatible_33 (by decide)
theorem s_X2_compatible_35 : Snd PG.nam M80 35 (m_iload 1 36) := snd_iload_n dX2_compatible_35 rfl
theorem s_X2_compatible_36 : Snd PG.nam M80 36 (m_ibin (fun a b => a * b) 37) := snd_imul dX2_compatible_36
theorem s_X2_compatible_37 : Snd PG.nam M80 37 (m_iload 3 38) := snd_iload_n dX2_compatible_37 rfl
theorem s_X2_compatible_38 : Snd PG.nam M80 38 (m_ibin (fun a b => a + b) 39) := snd_iadd dX2_compatible_38
theorem s_X2_compatible_39 : Snd PG.nam M80 39 (m_lald 40) := snd_lald dX2_compatible_39
theorem s_X2_compatible_40 : Snd PG.nam M80 40 (m_aload 0 41) := snd_aload_n dX2_compatible_40 rfl
theorem s_X2_compatible_41 : Snd PG.nam M80 41 (m_getf [(1, 47)] 44) := snd_getf dX2_compatible_41 fd_X2_70
theorem s_X2_compatible_44 : Snd PG.nam M80 44 (m_const (.int (nI 6)) 46) := snd_bipush dX2_compatible_44 (by decide)
theorem s_X2_compatible_46 : Snd PG.nam M80 46 (m_iload 2 47) := snd_iload_n dX2_compatible_46 rfl
theorem s_X2_compatible_47 : Snd PG.nam M80 47 (m_ibin (fun a b => a * b) 48) := snd_imul dX2_compatible_47
theorem s_X2_compatible_48 : Snd PG.nam M80 48 (m_iload 3 49) := snd_iload_n dX2_compatible_48 rfl
theorem s_X2_compatible_49 : Snd PG.nam M80 49 (m_ibin (fun a b => a + b) 50) := snd_iadd dX2_compatible_49
theorem s_X2_compatible_50 : Snd PG.nam M80 50 (m_lald 51) := snd_lald dX2_compatible_50
theorem s_X2_compatible_51 : Snd PG.nam M80 51 (m_lcmp 52) := snd_lcmp dX2_compatible_51
theorem s_X2_compatible_52 : Snd PG.nam M80 52 (m_ifz (fun x => if x = 0 then 57 else 55)) := snd_if_eq dX2_compatible_52 (by decide)
theorem s_X2_compatible_55 : Snd PG.nam M80 55 (m_const (.int (nI 0)) 56) := snd_iconst dX2_compatible_55 (by decide)
theorem s_X2_compatible_56 : Snd PG.nam M80 56 (m_iret .boolean) := snd_iret dX2_compatible_56 rfl
theorem s_X2_compatible_57 : Snd PG.nam M80 57 (m_iinc 3 (nI 1) 60) := snd_iinc dX2_compatible_57 (by decide) (by decide)
theorem s_X2_compatible_60 : Snd PG.nam M80 60 (m_goto 2) := snd_goto dX2_compatible_60 (by decide)
theorem s_X2_compatible_63 : Snd PG.nam M80 63 (m_const (.int (nI 1)) 64) := snd_iconst dX2_compatible_63 (by decide)
theorem s_X2_compatible_64 : Snd PG.nam M80 64 (m_iret .boolean) := snd_iret dX2_compatible_64 rfl
theorem T80 : ∀ q ∈ S80, Snd PG.nam M80 q.1 q.2 := List.forall_mem_cons.mpr ⟨s_X2_compatible_0, List.forall_mem_cons.mpr ⟨s_X2_compatible_1, List.forall_mem_cons.mpr ⟨s_X2_compatible_2, List.forall_mem_cons.mpr ⟨s_X2_compatible_3, List.forall_mem_cons.mpr ⟨s_X2_compatible_5, List.forall_mem_cons.mpr ⟨s_X2_compatible_8, List.forall_mem_cons.mpr ⟨s_X2_compatible_9, List.forall_mem_cons.mpr ⟨s_X2_compatible_12, List.forall_mem_cons.mpr ⟨s_X2_compatible_13, List.forall_mem_cons.mpr ⟨s_X2_compatible_14, List.forall_mem_cons.mpr ⟨s_X2_compatible_15, List.forall_mem_cons.mpr ⟨s_X2_compatible_18, List.forall_mem_cons.mpr ⟨s_X2_compatible_19, List.forall_mem_cons.mpr ⟨s_X2_compatible_20, List.forall_mem_cons.mpr ⟨s_X2_compatible_21, List.forall_mem_cons.mpr ⟨s_X2_compatible_22, List.forall_mem_cons.mpr ⟨s_X2_compatible_23, List.forall_mem_cons.mpr ⟨s_X2_compatible_24, List.forall_mem_cons.mpr ⟨s_X2_compatible_25, List.forall_mem_cons.mpr ⟨s_X2_compatible_26, List.forall_mem_cons.mpr ⟨s_X2_compatible_29, List.forall_mem_cons.mpr ⟨s_X2_compatible_30, List.forall_mem_cons.mpr ⟨s_X2_compatible_33, List.forall_mem_cons.mpr ⟨s_X2_compatible_35, List.forall_mem_cons.mpr ⟨s_X2_compatible_36, List.forall_mem_cons.mpr ⟨s_X2_compatible_37, List.forall_mem_cons.mpr ⟨s_X2_compatible_38, List.forall_mem_cons.mpr ⟨s_X2_compatible_39, List.forall_mem_cons.mpr ⟨s_X2_compatible_40, List.forall_mem_cons.mpr ⟨s_X2_compatible_41, List.forall_mem_cons.mpr ⟨s_X2_compatible_44, List.forall_mem_cons.mpr ⟨s_X2_compatible_46, List.forall_mem_cons.mpr ⟨s_X2_compatible_47, List.forall_mem_cons.mpr ⟨s_X2_compatible_48, List.forall_mem_cons.mpr ⟨s_X2_compatible_49, List.forall_mem_cons.mpr ⟨s_X2_compatible_50, List.forall_mem_cons.mpr ⟨s_X2_compatible_51, List.forall_mem_cons.mpr ⟨s_X2_compatible_52, List.forall_mem_cons.mpr ⟨s_X2_compatible_55, List.forall_mem_cons.mpr ⟨s_X2_compatible_56, List.forall_mem_cons.mpr ⟨s_X2_compatible_57, List.forall_mem_cons.mpr ⟨s_X2_compatible_60, List.forall_mem_cons.mpr ⟨s_X2_compatible_63, List.forall_mem_cons.mpr ⟨s_X2_compatible_64, (fun q hq => absurd hq List.not_mem_nil)⟩⟩⟩⟩⟩⟩⟩⟩⟩⟩⟩⟩⟩⟩⟩⟩⟩⟩⟩⟩⟩⟩⟩⟩⟩⟩⟩⟩⟩⟩⟩⟩⟩⟩⟩⟩⟩⟩⟩⟩⟩⟩⟩⟩
theorem s_X2_join_0 : Snd PG.nam M81 0 (m_aload 0 1) := snd_aload_n dX2_join_0 rfl
theorem s_X2_join_1 : Snd PG.nam M81 1 (m_const (.int (nI 10)) 3) := snd_bipush dX2_join_1 (by decide)
theorem s_X2_join_3 : Snd PG.nam M81 3 (m_iload 1 4) := snd_iload_n dX2_join_3 rfl
theorem s_X2_join_4 : Snd PG.nam M81 4 (m_iload 2 5) := snd_iload_n dX2_join_4 rfl
theorem s_X2_join_5 : Snd PG.nam M81 5 (m_callV true [(1, 82)] 3 8) := snd_callV (nam := PG.nam) (List.forall_mem_cons.mpr ⟨dr_V (ym := PG.nam 82) dX2_join_5 (Or.inl w1779) mi_82 rfl (lw_all_tbl qs54), (fun q hq => absurd hq List.not_mem_nil)⟩) (by decide)
theorem s_X2_join_8 : Snd PG.nam M81 8 (m_aload 0 9) := snd_aload_n dX2_join_8 rfl
theorem s_X2_join_9 : Snd PG.nam M81 9 (m_getf [(1, 51)] 12) := snd_getf dX2_join_9 fd_X2_311
theorem s_X2_join_12 : Snd PG.nam M81 12 (m_ifz (fun x => if x = 0 then 16 else 15)) := snd_if_eq dX2_join_12 (by decide)
theorem s_X2_join_15 : Snd PG.nam M81 15 (m_vret) := snd_vret dX2_join_15 rfl
theorem s_X2_join_16 : Snd PG.nam M81 16 (m_const (.int (nI 1500)) 19) := snd_sipush dX2_join_16 (by decide)
theorem s_X2_join_19 : Snd PG.nam M81 19 (m_aload 0 20) := snd_aload_n dX2_join_19 rfl
theorem s_X2_join_20 : Snd PG.nam M81 20 (m_getf [(1, 49)] 23) := snd_getf dX2_join_20 fd_X2_76
theorem s_X2_join_23 : Snd PG.nam M81 23 (m_const (.int (nI 10)) 25) := snd_bipush dX2_join_23 (by decide)
theorem s_X2_join_25 : Snd PG.nam M81 25 (m_iald [.int] 26) := snd_iald dX2_join_25
theorem s_X2_join_26 : Snd PG.nam M81 26 (m_ibin (fun a b => a + b) 27) := snd_iadd dX2_join_26
theorem s_X2_join_27 : Snd PG.nam M81 27 (m_const (.int (nI 1)) 28) := snd_iconst dX2_join_27 (by decide)
theorem s_X2_join_28 : Snd PG.nam M81 28 (m_ibin (fun a b => a - b) 29) := snd_isub dX2_join_28
theorem s_X2_join_29 : Snd PG.nam M81 29 (m_istore 5 31) := snd_istore dX2_join_29 (by decide)
theorem s_X2_join_31 : Snd PG.nam M81 31 (m_const (.int (nI 150)) 34) := snd_sipush dX2_join_31 (by decide)
theorem s_X2_join_34 : Snd PG.nam M81 34 (m_iload 3 35) := snd_iload_n dX2_join_34 rfl
theorem s_X2_join_35 : Snd PG.nam M81 35 (m_ibin (fun a b => a * b) 36) := snd_imul dX2_join_35
theorem s_X2_join_36 : Snd PG.nam M81 36 (m_iload 4 38) := snd_iload dX2_join_36
theorem s_X2_join_38 : Snd PG.nam M81 38 (m_ibin (fun a b => a + b) 39) := snd_iadd dX2_join_38
theorem s_X2_join_39 : Snd PG.nam M81 39 (m_istore 6 41) := snd_istore dX2_join_39 (by decide)
theorem s_X2_join_41 : Snd PG.nam M81 41 (m_const (.int (nI 0)) 42) := snd_iconst dX2_join_41 (by decide)
theorem s_X2_join_42 : Snd PG.nam M81 42 (m_istore 7 44) := snd_istore dX2_join_42 (by decide)
theorem s_X2_join_44 : Snd PG.nam M81 44 (m_iload 7 46) := snd_iload dX2_join_44
theorem s_X2_join_46 : Snd PG.nam M81 46 (m_const (.int (nI 6)) 48) := snd_bipush dX2_join_46 (by decide)
theorem s_X2_join_48 : Snd PG.nam M81 48 (m_icmp (fun x z => if x < z then 51 else 99)) := snd_icmp_ge dX2_join_48 (by decide)
theorem s_X2_join_51 : Snd PG.nam M81 51 (m_aload 0 52) := snd_aload_n dX2_join_51 rfl
theorem s_X2_join_52 : Snd PG.nam M81 52 (m_getf [(1, 48)] 55) := snd_getf dX2_join_52 fd_X2_73
theorem s_X2_join_55 : Snd PG.nam M81 55 (m_iload 6 57) := snd_iload dX2_join_55
theorem s_X2_join_57 : Snd PG.nam M81 57 (m_iald [.int] 58) := snd_iald dX2_join_57
theorem s_X2_join_58 : Snd PG.nam M81 58 (m_iload 7 60) := snd_iload dX2_join_58
theorem s_X2_join_60 : Snd PG.nam M81 60 (m_ibin (fun a b => a >>> (b &&& 31)) 61) := snd_ishr dX2_join_60
theorem s_X2_join_61 : Snd PG.nam M81 61 (m_const (.int (nI 1)) 62) := snd_iconst dX2_join_61 (by decide)
theorem s_X2_join_62 : Snd PG.nam M81 62 (m_ibin (fun a b => a &&& b) 63) := snd_iand dX2_join_62
theorem s_X2_join_63 : Snd PG.nam M81 63 (m_const (.int (nI 1)) 64) := snd_iconst dX2_join_63 (by decide)
theorem s_X2_join_64 : Snd PG.nam M81 64 (m_icmp (fun x z => if x = z then 67 else 93)) := snd_icmp_ne dX2_join_64 (by decide)
theorem s_X2_join_67 : Snd PG.nam M81 67 (m_aload 0 68) := snd_aload_n dX2_join_67 rfl
theorem s_X2_join_68 : Snd PG.nam M81 68 (m_getf [(1, 47)] 71) := snd_getf dX2_join_68 fd_X2_70
theorem s_X2_join_71 : Snd PG.nam M81 71 (m_const (.int (nI 6)) 73) := snd_bipush dX2_join_71 (by decide)
theorem s_X2_join_73 : Snd PG.nam M81 73 (m_iload 5 75) := snd_iload dX2_join_73
theorem s_X2_join_75 : Snd PG.nam M81 75 (m_ibin (fun a b => a * b) 76) := snd_imul dX2_join_75
theorem s_X2_join_76 : Snd PG.nam M81 76 (m_iload 7 78) := snd_iload dX2_join_76
theorem s_X2_join_78 : Snd PG.nam M81 78 (m_ibin (fun a b => a + b) 79) := snd_iadd dX2_join_78
theorem s_X2_join_79 : Snd PG.nam M81 79 (m_aload 0 80) := snd_aload_n dX2_join_79 rfl
theorem s_X2_join_80 : Snd PG.nam M81 80 (m_getf [(1, 47)] 83) := snd_getf dX2_join_80 fd_X2_70
theorem s_X2_join_83 : Snd PG.nam M81 83 (m_const (.int (nI 6)) 85) := snd_bipush dX2_join_83 (by decide)
theorem s_X2_join_85 : Snd PG.nam M81 85 (m_iload 6 87) := snd_iload dX2_join_85
theorem s_X2_join_87 : Snd PG.nam M81 87 (m_ibin (fun a b => a * b) 88) := snd_imul dX2_join_87
theorem s_X2_join_88 : Snd PG.nam M81 88 (m_iload 7 90) := snd_iload dX2_join_88
theorem s_X2_join_90 : Snd PG.nam M81 90 (m_ibin (fun a b => a + b) 91) := snd_iadd dX2_join_90
theorem s_X2_join_91 : Snd PG.nam M81 91 (m_lald 92) := snd_lald dX2_join_91
theorem s_X2_join_92 : Snd PG.nam M81 92 (m_last 93) := snd_last dX2_join_92
theorem s_X2_join_93 : Snd PG.nam M81 93 (m_iinc 7 (nI 1) 96) := snd_iinc dX2_join_93 (by decide) (by decide)
theorem s_X2_join_96 : Snd PG.nam M81 96 (m_goto 44) := snd_goto dX2_join_96 (by decide)
theorem s_X2_join_99 : Snd PG.nam M81 99 (m_aload 0 100) := snd_aload_n dX2_join_99 rfl
theorem s_X2_join_100 : Snd PG.nam M81 100 (m_getf [(1, 48)] 103) := snd_getf dX2_join_100 fd_X2_73
theorem s_X2_join_103 : Snd PG.nam M81 103 (m_iload 5 105) := snd_iload dX2_join_103
theorem s_X2_join_105 : Snd PG.nam M81 105 (m_dup2 106) := snd_dup2 dX2_join_105
theorem s_X2_join_106 : Snd PG.nam M81 106 (m_iald [.int] 107) := snd_iald dX2_join_106
theorem s_X2_join_107 : Snd PG.nam M81 107 (m_aload 0 108) := snd_aload_n dX2_join_107 rfl
theorem s_X2_join_108 : Snd PG.nam M81 108 (m_getf [(1, 48)] 111) := snd_getf dX2_join_108 fd_X2_73
theorem s_X2_join_111 : Snd PG.nam M81 111 (m_iload 6 113) := snd_iload dX2_join_111
theorem s_X2_join_113 : Snd PG.nam M81 113 (m_iald [.int] 114) := snd_iald dX2_join_113
theorem s_X2_join_114 : Snd PG.nam M81 114 (m_ibin (fun a b => a ||| b) 115) := snd_ior dX2_join_114
theorem s_X2_join_115 : Snd PG.nam M81 115 (m_iast [.int] 116) := snd_iast dX2_join_115
theorem s_X2_join_116 : Snd PG.nam M81 116 (m_vret) := snd_vret dX2_join_116 rfl
theorem T81 : ∀ q ∈ S81, Snd PG.nam M81 q.1 q.2 := List.forall_mem_cons.mpr ⟨s_X2_join_0, List.forall_mem_cons.mpr ⟨s_X2_join_1, List.forall_mem_cons.mpr ⟨s_X2_join_3, List.forall_mem_cons.mpr ⟨s_X2_join_4, List.forall_mem_cons.mpr ⟨s_X2_join_5, List.forall_mem_cons.mpr ⟨s_X2_join_8, List.forall_mem_cons.mpr ⟨s_X2_join_9, List.forall_mem_cons.mpr ⟨s_X2_join_12, List.forall_mem_cons.mpr ⟨s_X2_join_15, List.forall_mem_cons.mpr ⟨s_X2_join_16, List.forall_mem_cons.mpr ⟨s_X2_join_19, List.forall_mem_cons.mpr ⟨s_X2_join_20, List.forall_mem_cons.mpr ⟨s_X2_join_23, List.forall_mem_cons.mpr ⟨s_X2_join_25, List.forall_mem_cons.mpr ⟨s_X2_join_26, List.forall_mem_cons.mpr ⟨s_X2_join_27, List.forall_mem_cons.mpr ⟨s_X2_join_28, List.forall_mem_cons.mpr ⟨s_X2_join_29, List.forall_mem_cons.mpr ⟨s_X2_join_31, List.forall_mem_cons.mpr ⟨s_X2_join_34, List.forall_mem_cons.mpr ⟨s_X2_join_35, List.forall_mem_cons.mpr ⟨s_X2_join_36, List.forall_mem_cons.mpr ⟨s_X2_join_38, List.forall_mem_cons.mpr ⟨s_X2_join_39, List.forall_mem_cons.mpr ⟨s_X2_join_41, List.forall_mem_cons.mpr ⟨s_X2_join_42, List.forall_mem_cons.mpr ⟨s_X2_join_44, List.forall_mem_cons.mpr ⟨s_X2_join_46, List.forall_mem_cons.mpr ⟨s_X2_join_48, List.forall_mem_cons.mpr ⟨s_X2_join_51, List.forall_mem_cons.mpr ⟨s_X2_join_52, List.forall_mem_cons.mpr ⟨s_X2_join_55, List.forall_mem_cons.mpr ⟨s_X2_join_57, List.forall_mem_cons.mpr ⟨s_X2_join_58, List.forall_mem_cons.mpr ⟨s_X2_join_60, List.forall_mem_cons.mpr ⟨s_X2_join_61, List.forall_mem_cons.mpr ⟨s_X2_join_62, List.forall_mem_cons.mpr ⟨s_X2_join_63, List.forall_mem_cons.mpr ⟨s_X2_join_64, List.forall_mem_cons.mpr ⟨s_X2_join_67, List.forall_mem_cons.mpr ⟨s_X2_join_68, List.forall_mem_cons.mpr ⟨s_X2_join_71, List.forall_mem_cons.mpr ⟨s_X2_join_73, List.forall_mem_cons.mpr ⟨s_X2_join_75, List.forall_mem_cons.mpr ⟨s_X2_join_76, List.forall_mem_cons.mpr ⟨s_X2_join_78, List.forall_mem_cons.mpr ⟨s_X2_join_79, List.forall_mem_cons.mpr ⟨s_X2_join_80, List.forall_mem_cons.mpr ⟨s_X2_join_83, List.forall_mem_cons.mpr ⟨s_X2_join_85, List.forall_mem_cons.mpr ⟨s_X2_join_87, List.forall_mem_cons.mpr ⟨s_X2_join_88, List.forall_mem_cons.mpr ⟨s_X2_join_90, List.forall_mem_cons.mpr ⟨s_X2_join_91, List.forall_mem_cons.mpr ⟨s_X2_join_92, List.forall_mem_cons.mpr ⟨s_X2_join_93, List.forall_mem_cons.mpr ⟨s_X2_join_96, List.forall_mem_cons.mpr ⟨s_X2_join_99, List.forall_mem_cons.mpr ⟨s_X2_join_100, List.forall_mem_cons.mpr ⟨s_X2_join_103, List.forall_mem_cons.mpr ⟨s_X2_join_105, List.forall_mem_cons.mpr ⟨s_X2_join_106, List.forall_mem_cons.mpr ⟨s_X2_join_107, List.forall_mem_cons.mpr ⟨s_X2_join_108, List.forall_mem_cons.mpr ⟨s_X2_join_111, List.forall_mem_cons.mpr ⟨s_X2_join_113, List.forall_mem_cons.mpr ⟨s_X2_join_114, List.forall_mem_cons.mpr ⟨s_X2_join_115, List.forall_mem_cons.mpr ⟨s_X2_join_116, (fun q hq => absurd hq List.not_mem_nil)⟩⟩⟩⟩⟩⟩⟩⟩⟩⟩⟩⟩⟩⟩⟩⟩⟩⟩⟩⟩⟩⟩⟩⟩⟩⟩⟩⟩⟩⟩⟩⟩⟩⟩⟩⟩⟩⟩⟩⟩⟩⟩⟩⟩⟩⟩⟩⟩⟩⟩⟩⟩⟩⟩⟩⟩⟩⟩⟩⟩⟩⟩⟩⟩⟩⟩⟩⟩⟩
theorem s_X2_addTo_0 : Snd PG.nam M82 0 (m_aload 0 1) := snd_aload_n dX2_addTo_0 rfl
theorem s_X2_addTo_1 : Snd PG.nam M82 1 (m_getf [(1, 49)] 4) := snd_getf dX2_addTo_1 fd_X2_76
theorem s_X2_addTo_4 : Snd PG.nam M82 4 (m_iload 1 5) := snd_iload_n dX2_addTo_4 rfl
theorem s_X2_addTo_5 : Snd PG.nam M82 5 (m_iald [.int] 6) := snd_iald dX2_addTo_5
theorem s_X2_addTo_6 : Snd PG.nam M82 6 (m_const (.int (nI 150)) 9) := snd_sipush dX2_addTo_6 (by decide)
theorem s_X2_addTo_9 : Snd PG.nam M82 9 (m_icmp (fun x z => if x = z then 12 else 18)) := snd_icmp_ne dX2_addTo_9 (by decide)
theorem s_X2_addTo_12 : Snd PG.nam M82 12 (m_aload 0 13) := snd_aload_n dX2_addTo_12 rfl
theorem s_X2_addTo_13 : Snd PG.nam M82 13 (m_const (.int (nI 1)) 14) := snd_iconst dX2_addTo_13 (by decide)
theorem s_X2_addTo_14 : Snd PG.nam M82 14 (m_putf [(1, 51)] .boolean 17) := snd_putf dX2_addTo_14 fd_X2_311
theorem s_X2_addTo_17 : Snd PG.nam M82 17 (m_vret) := snd_vret dX2_addTo_17 rfl
theorem s_X2_addTo_18 : Snd PG.nam M82 18 (m_const (.int (nI 150)) 21) := snd_sipush dX2_addTo_18 (by decide)
theorem s_X2_addTo_21 : Snd PG.nam M82 21 (m_iload 1 22) := snd_iload_n dX2_addTo_21 rfl
theorem s_X2_addTo_22 : Snd PG.nam M82 22 (m_ibin (fun a b => a * b) 23) := snd_imul dX2_addTo_22
theorem s_X2_addTo_23 : Snd PG.nam M82 23 (m_aload 0 24) := snd_aload_n dX2_addTo_23 rfl
theorem s_X2_addTo_24 : Snd PG.nam M82 24 (m_getf [(1, 49)] 27) := snd_getf dX2_addTo_24 fd_X2_76
theorem s_X2_addTo_27 : Snd PG.nam M82 27 (m_iload 1 28) := snd_iload_n dX2_addTo_27 rfl
theorem s_X2_addTo_28 : Snd PG.nam M82 28 (m_iald [.int] 29) := snd_iald dX2_addTo_28
theorem s_X2_addTo_29 : Snd PG.nam M82 29 (m_ibin (fun a b => a + b) 30) := snd_iadd dX2_addTo_29
theorem s_X2_addTo_30 : Snd PG.nam M82 30 (m_istore 4 32) := snd_istore dX2_addTo_30 (by decide)
theorem s_X2_addTo_32 : Snd PG.nam M82 32 (m_aload 0 33) := snd_aload_n dX2_addTo_32 rfl
theorem s_X2_addTo_33 : Snd PG.nam M82 33 (m_getf [(1, 48)] 36) := snd_getf dX2_addTo_33 fd_X2_73
theorem s_X2_addTo_36 : Snd PG.nam M82 36 (m_iload 4 38) := snd_iload dX2_addTo_36
theorem s_X2_addTo_38 : Snd PG.nam M82 38 (m_aload 0 39) := snd_aload_n dX2_addTo_38 rfl
theorem s_X2_addTo_39 : Snd PG.nam M82 39 (m_getf [(1, 48)] 42) := snd_getf dX2_addTo_39 fd_X2_73
theorem s_X2_addTo_42 : Snd PG.nam M82 42 (m_const (.int (nI 150)) 45) := snd_sipush dX2_addTo_42 (by decide)
theorem s_X2_addTo_45 : Snd PG.nam M82 45 (m_iload 2 46) := snd_iload_n dX2_addTo_45 rfl
theorem s_X2_addTo_46 : Snd PG.nam M82 46 (m_ibin (fun a b => a * b) 47) := snd_imul dX2_addTo_46
theorem s_X2_addTo_47 : Snd PG.nam M82 47 (m_iload 3 48) := snd_iload_n dX2_addTo_47 rfl
theorem s_X2_addTo_48 : Snd PG.nam M82 48 (m_ibin (fun a b => a + b) 49) := snd_iadd dX2_addTo_48
theorem s_X2_addTo_49 : Snd PG.nam M82 49 (m_iald [.int] 50) := snd_iald dX2_addTo_49
theorem s_X2_addTo_50 : Snd PG.nam M82 50 (m_iast [.int] 51) := snd_iast dX2_addTo_50
theorem s_X2_addTo_51 : Snd PG.nam M82 51 (m_const (.int (nI 0)) 52) := snd_iconst dX2_addTo_51 (by decide)
theorem s_X2_addTo_52 : Snd PG.nam M82 52 (m_istore 5 54) := snd_istore dX2_addTo_52 (by decide)
theorem s_X2_addTo_54 : Snd PG.nam M82 54 (m_iload 5 56) := snd_iload dX2_addTo_54
theorem s_X2_addTo_56 : Snd PG.nam M82 56 (m_const (.int (nI 6)) 58) := snd_bipush dX2_addTo_56 (by decide)
theorem s_X2_addTo_58 : Snd PG.nam M82 58 (m_icmp (fun x z => if x < z then 61 else 98)) := snd_icmp_ge dX2_addTo_58 (by decide)
theorem s_X2_addTo_61 : Snd PG.nam M82 61 (m_aload 0 62) := snd_aload_n dX2_addTo_61 rfl
theorem s_X2_addTo_62 : Snd PG.nam M82 62 (m_getf [(1, 47)] 65) := snd_getf dX2_addTo_62 fd_X2_70
theorem s_X2_addTo_65 : Snd PG.nam M82 65 (m_const (.int (nI 6)) 67) := snd_bipush dX2_addTo_65 (by decide)
theorem s_X2_addTo_67 : Snd PG.nam M82 67 (m_iload 4 69) := snd_iload dX2_addTo_67
theorem s_X2_addTo_69 : Snd PG.nam M82 69 (m_ibin (fun a b => a * b) 70) := snd_imul dX2_addTo_69
theorem s_X2_addTo_70 : Snd PG.nam M82 70 (m_iload 5 72) := snd_iload dX2_addTo_70
theorem s_X2_addTo_72 : Snd PG.nam M82 72 (m_ibin (fun a b => a + b) 73) := snd_iadd dX2_addTo_72
theorem s_X2_addTo_73 : Snd PG.nam M82 73 (m_aload 0 74) := snd_aload_n dX2_addTo_73 rfl
theorem s_X2_addTo_74 : Snd PG.nam M82 74 (m_getf [(1, 47)] 77) := snd_getf dX2_addTo_74 fd_X2_70
theorem s_X2_addTo_77 : Snd PG.nam M82 77 (m_const (.int (nI 6)) 79) := snd_bipush dX2_addTo_77 (by decide)
theorem s_X2_addTo_79 : Snd PG.nam M82 79 (m_const (.int (nI 150)) 82) := snd_sipush dX2_addTo_79 (by decide)
theorem s_X2_addTo_82 : Snd PG.nam M82 82 (m_iload 2 83) := snd_iload_n dX2_addTo_82 rfl
theorem s_X2_addTo_83 : Snd PG.nam M82 83 (m_ibin (fun a b => a * b) 84) := snd_imul dX2_addTo_83
theorem s_X2_addTo_84 : Snd PG.nam M82 84 (m_iload 3 85) := snd_iload_n dX2_addTo_84 rfl
theorem s_X2_addTo_85 : Snd PG.nam M82 85 (m_ibin (fun a b => a + b) 86) := snd_iadd dX2_addTo_85
theorem s_X2_addTo_86 : Snd PG.nam M82 86 (m_ibin (fun a b => a * b) 87) := snd_imul dX2_addTo_86
theorem s_X2_addTo_87 : Snd PG.nam M82 87 (m_iload 5 89) := snd_iload dX2_addTo_87
theorem s_X2_addTo_89 : Snd PG.nam M82 89 (m_ibin (fun a b => a + b) 90) := snd_iadd dX2_addTo_89
theorem s_X2_addTo_90 : Snd PG.nam M82 90 (m_lald 91) := snd_lald dX2_addTo_90
theorem s_X2_addTo_91 : Snd PG.nam M82 91 (m_last 92) := snd_last dX2_addTo_91
theorem s_X2_addTo_92 : Snd PG.nam M82 92 (m_iinc 5 (nI 1) 95) := snd_iinc dX2_addTo_92 (by decide) (by decide)
theorem s_X2_addTo_95 : Snd PG.nam M82 95 (m_goto 54) := snd_goto dX2_addTo_95 (by decide)
theorem s_X2_addTo_98 : Snd PG.nam M82 98 (m_aload 0 99) := snd_aload_n dX2_addTo_98 rfl
theorem s_X2_addTo_99 : Snd PG.nam M82 99 (m_getf [(1, 49)] 102) := snd_getf dX2_addTo_99 fd_X2_76
theorem s_X2_addTo_102 : Snd PG.nam M82 102 (m_iload 1 103) := snd_iload_n dX2_addTo_102 rfl
theorem s_X2_addTo_103 : Snd PG.nam M82 103 (m_dup2 104) := snd_dup2 dX2_addTo_103
theorem s_X2_addTo_104 : Snd PG.nam M82 104 (m_iald [.int] 105) := snd_iald dX2_addTo_104
theorem s_X2_addTo_105 : Snd PG.nam M82 105 (m_const (.int (nI 1)) 106) := snd_iconst dX2_addTo_105 (by decide)
theorem s_X2_addTo_106 : Snd PG.nam M82 106 (m_ibin (fun a b => a + b) 107) := snd_iadd dX2_addTo_106
theorem s_X2_addTo_107 : Snd PG.nam M82 107 (m_iast [.int] 108) := snd_iast dX2_addTo_107
theorem s_X2_addTo_108 : Snd PG.nam M82 108 (m_vret) := snd_vret dX2_addTo_108 rfl
theorem T82 : ∀ q ∈ S82, Snd PG.nam M82 q.1 q.2 := List.forall_mem_cons.mpr ⟨s_X2_addTo_0, List.forall_mem_cons.mpr ⟨s_X2_addTo_1, List.forall_mem_cons.mpr ⟨s_X2_addTo_4, List.forall_mem_cons.mpr ⟨s_X2_addTo_5, List.forall_mem_cons.mpr ⟨s_X2_addTo_6, List.forall_mem_cons.mpr ⟨s_X2_addTo_9, List.forall_mem_cons.mpr ⟨s_X2_addTo_12, List.forall_mem_cons.mpr ⟨s_X2_addTo_13, List.forall_mem_cons.mpr ⟨s_X2_addTo_14, List.forall_mem_cons.mpr ⟨s_X2_addTo_17, List.forall_mem_cons.mpr ⟨s_X2_addTo_18, List.forall_mem_cons.mpr ⟨s_X2_addTo_21, List.forall_mem_cons.mpr ⟨s_X2_addTo_22, List.forall_mem_cons.mpr ⟨s_X2_addTo_23, List.forall_mem_cons.mpr ⟨s_X2_addTo_24, List.forall_mem_cons.mpr ⟨s_X2_addTo_27, List.forall_mem_cons.mpr ⟨s_X2_addTo_28, List.forall_mem_cons.mpr ⟨s_X2_addTo_29, List.forall_mem_cons.mpr ⟨s_X2_addTo_30, List.forall_mem_cons.mpr ⟨s_X2_addTo_32, List.forall_mem_cons.mpr ⟨s_X2_addTo_33, List.forall_mem_cons.mpr ⟨s_X2_addTo_36, List.forall_mem_cons.mpr ⟨s_X2_addTo_38, List.forall_mem_cons.mpr ⟨s_X2_addTo_39, List.forall_mem_cons.mpr ⟨s_X2_addTo_42, List.forall_mem_cons.mpr ⟨s_X2_addTo_45, List.forall_mem_cons.mpr ⟨s_X2_addTo_46, List.forall_mem_cons.mpr ⟨s_X2_addTo_47, List.forall_mem_cons.mpr ⟨s_X2_addTo_48, List.forall_mem_cons.mpr ⟨s_X2_addTo_49, List.forall_mem_cons.mpr ⟨s_X2_addTo_50, List.forall_mem_cons.mpr ⟨s_X2_addTo_51, List.forall_mem_cons.mpr ⟨s_X2_addTo_52, List.forall_mem_cons.mpr ⟨s_X2_addTo_54, List.forall_mem_cons.mpr ⟨s_X2_addTo_56, List.forall_mem_cons.mpr ⟨s_X2_addTo_58, List.forall_mem_cons.mpr ⟨s_X2_addTo_61, List.forall_mem_cons.mpr ⟨s_X2_addTo_62, List.forall_mem_cons.mpr ⟨s_X2_addTo_65, List.forall_mem_cons.mpr ⟨s_X2_addTo_67, List.forall_mem_cons.mpr ⟨s_X2_addTo_69, List.forall_mem_cons.mpr ⟨s_X2_addTo_70, List.forall_mem_cons.mpr ⟨s_X2_addTo_72, List.forall_mem_cons.mpr ⟨s_X2_addTo_73, List.forall_mem_cons.mpr ⟨s_X2_addTo_74, List.forall_mem_cons.mpr ⟨s_X2_addTo_77, List.forall_mem_cons.mpr ⟨s_X2_addTo_79, List.forall_mem_cons.mpr ⟨s_X2_addTo_82, List.forall_mem_cons.mpr ⟨s_X2_addTo_83, List.forall_mem_cons.mpr ⟨s_X2_addTo_84, List.forall_mem_cons.mpr ⟨s_X2_addTo_85, List.forall_mem_cons.mpr ⟨s_X2_addTo_86, List.forall_mem_cons.mpr ⟨s_X2_addTo_87, List.forall_mem_cons.mpr ⟨s_X2_addTo_89, List.forall_mem_cons.mpr ⟨s_X2_addTo_90, List.forall_mem_cons.mpr ⟨s_X2_addTo_91, List.forall_mem_cons.mpr ⟨s_X2_addTo_92, List.forall_mem_cons.mpr ⟨s_X2_addTo_95, List.forall_mem_cons.mpr ⟨s_X2_addTo_98, List.forall_mem_cons.mpr ⟨s_X2_addTo_99, List.forall_mem_cons.mpr ⟨s_X2_addTo_102, List.forall_mem_cons.mpr ⟨s_X2_addTo_103, List.forall_mem_cons.mpr ⟨s_X2_addTo_104, List.forall_mem_cons.mpr ⟨s_X2_addTo_105, List.forall_mem_cons.mpr ⟨s_X2_addTo_106, List.forall_mem_cons.mpr ⟨s_X2_addTo_107, List.forall_mem_cons.mpr ⟨s_X2_addTo_108, (fun q hq => absurd hq List.not_mem_nil)⟩⟩⟩⟩⟩⟩⟩⟩⟩⟩⟩⟩⟩⟩⟩⟩⟩⟩⟩⟩⟩⟩⟩⟩⟩⟩⟩⟩⟩⟩⟩⟩⟩⟩⟩⟩⟩⟩⟩⟩⟩⟩⟩⟩⟩⟩⟩⟩⟩⟩⟩⟩⟩⟩⟩⟩⟩⟩⟩⟩⟩⟩⟩⟩⟩⟩⟩
theorem s_X2_copy_0 : Snd PG.nam M83 0 (m_aload 0 1) := snd_aload_n dX2_copy_0 rfl
theorem s_X2_copy_1 : Snd PG.nam M83 1 (m_getf [(1, 49)] 4) := snd_getf dX2_copy_1 fd_X2_76
theorem s_X2_copy_4 : Snd PG.nam M83 4 (m_iload 2 5) := snd_iload_n dX2_copy_4 rfl
theorem s_X2_copy_5 : Snd PG.nam M83 5 (m_const (.int (nI 0)) 6) := snd_iconst dX2_copy_5 (by decide)
theorem s_X2_copy_6 : Snd PG.nam M83 6 (m_iast [.int] 7) := snd_iast dX2_copy_6
theorem s_X2_copy_7 : Snd PG.nam M83 7 (m_const (.int (nI 0)) 8) := snd_iconst dX2_copy_7 (by decide)
theorem s_X2_copy_8 : Snd PG.nam M83 8 (m_istore 3 9) := snd_istore_n dX2_copy_8 rfl (by decide)
theorem s_X2_copy_9 : Snd PG.nam M83 9 (m_iload 3 10) := snd_iload_n dX2_copy_9 rfl
theorem s_X2_copy_10 : Snd PG.nam M83 10 (m_aload 0 11) := snd_aload_n dX2_copy_10 rfl
theorem s_X2_copy_11 : Snd PG.nam M83 11 (m_getf [(1, 49)] 14) := snd_getf dX2_copy_11 fd_X2_76
theorem s_X2_copy_14 : Snd PG.nam M83 14 (m_iload 1 15) := snd_iload_n dX2_copy_14 rfl
theorem s_X2_copy_15 : Snd PG.nam M83 15 (m_iald [.int] 16) := snd_iald dX2_copy_15
theorem s_X2_copy_16 : Snd PG.nam M83 16 (m_icmp (fun x z => if x < z then 19 else 32)) := snd_icmp_ge dX2_copy_16 (by decide)
theorem s_X2_copy_19 : Snd PG.nam M83 19 (m_aload 0 20) := snd_aload_n dX2_copy_19 rfl
theorem s_X2_copy_20 : Snd PG.nam M83 20 (m_iload 2 21) := snd_iload_n dX2_copy_20 rfl
theorem s_X2_copy_21 : Snd PG.nam M83 21 (m_iload 1 22) := snd_iload_n dX2_copy_21 rfl
theorem s_X2_copy_22 : Snd PG.nam M83 22 (m_iload 3 23) := snd_iload_n dX2_copy_22 rfl
theorem s_X2_copy_23 : Snd PG.nam M83 23 (m_callV true [(1, 82)] 3 26) := snd_callV (nam := PG.nam) (List.forall_mem_cons.mpr ⟨dr_V (ym := PG.nam 82) dX2_copy_23 (Or.inl w1779) mi_82 rfl (lw_all_tbl qs54), (fun q hq => absurd hq List.not_mem_nil)⟩) (by decide)
theorem s_X2_copy_26 : Snd PG.nam M83 26 (m_iinc 3 (nI 1) 29) := snd_iinc dX2_copy_26 (by decide) (by decide)
theorem s_X2_copy_29 : Snd PG.nam M83 29 (m_goto 9) := snd_goto dX2_copy_29 (by decide)
theorem s_X2_copy_32 : Snd PG.nam M83 32 (m_vret) := snd_vret dX2_copy_32 rfl
theorem T83 : ∀ q ∈ S83, Snd PG.nam M83 q.1 q.2 := List.forall_mem_cons.mpr ⟨s_X2_copy_0, List.forall_mem_cons.mpr ⟨s_X2_copy_1, List.forall_mem_cons.mpr ⟨s_X2_copy_4, List.forall_mem_cons.mpr ⟨s_X2_copy_5, List.forall_mem_cons.mpr ⟨s_X2_copy_6, List.forall_mem_cons.mpr ⟨s_X2_copy_7, List.forall_mem_cons.mpr ⟨s_X2_copy_8, List.forall_mem_cons.mpr ⟨s_X2_copy_9, List.forall_mem_cons.mpr ⟨s_X2_copy_10, List.forall_mem_cons.mpr ⟨s_X2_copy_11, List.forall_mem_cons.mpr ⟨s_X2_copy_14, List.forall_mem_cons.mpr ⟨s_X2_copy_15, List.forall_mem_cons.mpr ⟨s_X2_copy_16, List.forall_mem_cons.mpr ⟨s_X2_copy_19, List.forall_mem_cons.mpr ⟨s_X2_copy_20, List.forall_mem_cons.mpr ⟨s_X2_copy_21, List.forall_mem_cons.mpr ⟨s_X2_copy_22, List.forall_mem_cons.mpr ⟨s_X2_copy_23, List.forall_mem_cons.mpr ⟨s_X2_copy_26, List.forall_mem_cons.mpr ⟨s_X2_copy_29, List.forall_mem_cons.mpr ⟨s_X2_copy_32, (fun q hq => absurd hq List.not_mem_nil)⟩⟩⟩⟩⟩⟩⟩⟩⟩⟩⟩⟩⟩⟩⟩⟩⟩⟩⟩⟩⟩
theorem s_X2_filter_0 : Snd PG.nam M84 0 (m_aload 0 1) := snd_aload_n dX2_filter_0 rfl
theorem s_X2_filter_1 : Snd PG.nam M84 1 (m_getf [(1, 50)] 4) := snd_getf dX2_filter_1 fd_X2_318
theorem s_X2_filter_4 : Snd PG.nam M84 4 (m_const (.int (nI 1)) 5) := snd_iconst dX2_filter_4 (by decide)
theorem s_X2_filter_5 : Snd PG.nam M84 5 (m_ibin (fun a b => a - b) 6) := snd_isub dX2_filter_5
theorem s_X2_filter_6 : Snd PG.nam M84 6 (m_istore 2 7) := snd_istore_n dX2_filter_6 rfl (by decide)
theorem s_X2_filter_7 : Snd PG.nam M84 7 (m_aload 0 8) := snd_aload_n dX2_filter_7 rfl
theorem s_X2_filter_8 : Snd PG.nam M84 8 (m_getf [(1, 49)] 11) := snd_getf dX2_filter_8 fd_X2_76
theorem s_X2_filter_11 : Snd PG.nam M84 11 (m_const (.int (nI 10)) 13) := snd_bipush dX2_filter_11 (by decide)
theorem s_X2_filter_13 : Snd PG.nam M84 13 (m_const (.int (nI 0)) 14) := snd_iconst dX2_filter_13 (by decide)
theorem s_X2_filter_14 : Snd PG.nam M84 14 (m_iast [.int] 15) := snd_iast dX2_filter_14
theorem s_X2_filter_15 : Snd PG.nam M84 15 (m_const (.int (nI 0)) 16) := snd_iconst dX2_filter_15 (by decide)
theorem s_X2_filter_16 : Snd PG.nam M84 16 (m_istore 3 17) := snd_istore_n dX2_filter_16 rfl (by decide)
theorem s_X2_filter_17 : Snd PG.nam M84 17 (m_iload 3 18) := snd_iload_n dX2_filter_17 rfl
theorem s_X2_filter_18 : Snd PG.nam M84 18 (m_aload 0 19) := snd_aload_n dX2_filter_18 rfl
theorem s_X2_filter_19 : Snd PG.nam M84 19 (m_getf [(1, 49)] 22) := snd_getf dX2_filter_19 fd_X2_76
theorem s_X2_filter_22 : Snd PG.nam M84 22 (m_iload 2 23) := snd_iload_n dX2_filter_22 rfl
theorem s_X2_filter_23 : Snd PG.nam M84 23 (m_iald [.int] 24) := snd_iald dX2_filter_23
theorem s_X2_filter_24 : Snd PG.nam M84 24 (m_icmp (fun x z => if x < z then 27 else 104)) := snd_icmp_ge dX2_filter_24 (by decide)
theorem s_X2_filter_27 : Snd PG.nam M84 27 (m_const (.int (nI 1)) 28) := snd_iconst dX2_filter_27 (by decide)
theorem s_X2_filter_28 : Snd PG.nam M84 28 (m_istore 4 30) := snd_istore dX2_filter_28 (by decide)
theorem s_X2_filter_30 : Snd PG.nam M84 30 (m_const (.int (nI 0)) 31) := snd_iconst dX2_filter_30 (by decide)
theorem s_X2_filter_31 : Snd PG.nam M84 31 (m_istore 5 33) := snd_istore dX2_filter_31 (by decide)
theorem s_X2_filter_33 : Snd PG.nam M84 33 (m_iload 5 35) := snd_iload dX2_filter_33
theorem s_X2_filter_35 : Snd PG.nam M84 35 (m_aload 0 36) := snd_aload_n dX2_filter_35 rfl
theorem s_X2_filter_36 : Snd PG.nam M84 36 (m_getf [(1, 39)] 39) := snd_getf dX2_filter_36 fd_X2_247
theorem s_X2_filter_39 : Snd PG.nam M84 39 (m_icmp (fun x z => if x < z then 42 else 85)) := snd_icmp_ge dX2_filter_39 (by decide)
theorem s_X2_filter_42 : Snd PG.nam M84 42 (m_aload 0 43) := snd_aload_n dX2_filter_42 rfl
theorem s_X2_filter_43 : Snd PG.nam M84 43 (m_getf [(1, 36)] 46) := snd_getf dX2_filter_43 fd_X2_55
theorem s_X2_filter_46 : Snd PG.nam M84 46 (m_iload 5 48) := snd_iload dX2_filter_46
theorem s_X2_filter_48 : Snd PG.nam M84 48 (m_iald [.int] 49) := snd_iald dX2_filter_48
theorem s_X2_filter_49 : Snd PG.nam M84 49 (m_iload 1 50) := snd_iload_n dX2_filter_49 rfl
theorem s_X2_filter_50 : Snd PG.nam M84 50 (m_icmp (fun x z => if x = z then 53 else 79)) := snd_icmp_ne dX2_filter_50 (by decide)
theorem s_X2_filter_53 : Snd PG.nam M84 53 (m_aload 0 54) := snd_aload_n dX2_filter_53 rfl
theorem s_X2_filter_54 : Snd PG.nam M84 54 (m_iload 5 56) := snd_iload dX2_filter_54
theorem s_X2_filter_56 : Snd PG.nam M84 56 (m_const (.int (nI 150)) 59) := snd_sipush dX2_filter_56 (by decide)
theorem s_X2_filter_59 : Snd PG.nam M84 59 (m_iload 2 60) := snd_iload_n dX2_filter_59 rfl
theorem s_X2_filter_60 : Snd PG.nam M84 60 (m_ibin (fun a b => a * b) 61) := snd_imul dX2_filter_60
theorem s_X2_filter_61 : Snd PG.nam M84 61 (m_iload 3 62) := snd_iload_n dX2_filter_61 rfl
theorem s_X2_filter_62 : Snd PG.nam M84 62 (m_ibin (fun a b => a + b) 63) := snd_iadd dX2_filter_62
theorem s_X2_filter_63 : Snd PG.nam M84 63 (m_callV false [(1, 85)] 2 66) := snd_callV (nam := PG.nam) (List.forall_mem_cons.mpr ⟨dr_V (ym := PG.nam 85) dX2_filter_63 (Or.inl w1791) mi_85 rfl (lw_all_tbl qs57), (fun q hq => absurd hq List.not_mem_nil)⟩) (by decide)
theorem s_X2_filter_66 : Snd PG.nam M84 66 (m_aload 0 67) := snd_aload_n dX2_filter_66 rfl
theorem s_X2_filter_67 : Snd PG.nam M84 67 (m_getf [(1, 38)] 70) := snd_getf dX2_filter_67 fd_X2_61
theorem s_X2_filter_70 : Snd PG.nam M84 70 (m_iload 5 72) := snd_iload dX2_filter_70
theorem s_X2_filter_72 : Snd PG.nam M84 72 (m_iald [.byte, .boolean] 73) := snd_bald dX2_filter_72
theorem s_X2_filter_73 : Snd PG.nam M84 73 (m_icmp (fun x z => if x = z then 76 else 79)) := snd_icmp_ne dX2_filter_73 (by decide)
theorem s_X2_filter_76 : Snd PG.nam M84 76 (m_const (.int (nI 0)) 77) := snd_iconst dX2_filter_76 (by decide)
theorem s_X2_filter_77 : Snd PG.nam M84 77 (m_istore 4 79) := snd_istore dX2_filter_77 (by decide)
theorem s_X2_filter_79 : Snd PG.nam M84 79 (m_iinc 5 (nI 1) 82) := snd_iinc dX2_filter_79 (by decide) (by decide)
theorem s_X2_filter_82 : Snd PG.nam M84 82 (m_goto 33) := snd_goto dX2_filter_82 (by decide)
theorem s_X2_filter_85 : Snd PG.nam M84 85 (m_iload 4 87) := snd_iload dX2_filter_85
theorem s_X2_filter_87 : Snd PG.nam M84 87 (m_ifz (fun x => if x = 0 then 98 else 90)) := snd_if_eq dX2_filter_87 (by decide)
theorem s_X2_filter_90 : Snd PG.nam M84 90 (m_aload 0 91) := snd_aload_n dX2_filter_90 rfl
theorem s_X2_filter_91 : Snd PG.nam M84 91 (m_const (.int (nI 10)) 93) := snd_bipush dX2_filter_91 (by decide)
theorem s_X2_filter_93 : Snd PG.nam M84 93 (m_iload 2 94) := snd_iload_n dX2_filter_93 rfl
theorem s_X2_filter_94 : Snd PG.nam M84 94 (m_iload 3 95) := snd_iload_n dX2_filter_94 rfl
theorem s_X2_filter_95 : Snd PG.nam M84 95 (m_callV true [(1, 82)] 3 98) := snd_callV (nam := PG.nam) (List.forall_mem_cons.mpr ⟨dr_V (ym := PG.nam 82) dX2_filter_95 (Or.inl w1779) mi_82 rfl (lw_all_tbl qs54), (fun q hq => absurd hq List.not_mem_nil)⟩) (by decide)
theorem s_X2_filter_98 : Snd PG.nam M84 98 (m_iinc 3 (nI 1) 101) := snd_iinc dX2_filter_98 (by decide) (by decide)
theorem s_X2_filter_101 : Snd PG.nam M84 101 (m_goto 17) := snd_goto dX2_filter_101 (by decide)
theorem s_X2_filter_104 : Snd PG.nam M84 104 (m_aload 0 105) := snd_aload_n dX2_filter_104 rfl
theorem s_X2_filter_105 : Snd PG.nam M84 105 (m_const (.int (nI 10)) 107) := snd_bipush dX2_filter_105 (by decide)
theorem s_X2_filter_107 : Snd PG.nam M84 107 (m_iload 2 108) := snd_iload_n dX2_filter_107 rfl
theorem s_X2_filter_108 : Snd PG.nam M84 108 (m_callV true [(1, 83)] 2 111) := snd_callV (nam := PG.nam) (List.forall_mem_cons.mpr ⟨dr_V (ym := PG.nam 83) dX2_filter_108 (Or.inl w1783) mi_83 rfl (lw_all_tbl qs55), (fun q hq => absurd hq List.not_mem_nil)⟩) (by decide)
theorem s_X2_filter_111 : Snd PG.nam M84 111 (m_vret) := snd_vret dX2_filter_111 rfl
theorem T84 : ∀ q ∈ S84, Snd PG.nam M84 q.1 q.2 := List.forall_mem_cons.mpr ⟨s_X2_filter_0, List.forall_mem_cons.mpr ⟨s_X2_filter_1, List.forall_mem_cons.mpr ⟨s_X2_filter_4, List.forall_mem_cons.mpr ⟨s_X2_filter_5, List.forall_mem_cons.mpr ⟨s_X2_filter_6, List.forall_mem_cons.mpr ⟨s_X2_filter_7, List.forall_mem_cons.mpr ⟨s_X2_filter_8, List.forall_mem_cons.mpr ⟨s_X2_filter_11, List.forall_mem_cons.mpr ⟨s_X2_filter_13, List.forall_mem_cons.mpr ⟨s_X2_filter_14, List.forall_mem_cons.mpr ⟨s_X2_filter_15, List.forall_mem_cons.mpr ⟨s_X2_filter_16, List.forall_mem_cons.mpr ⟨s_X2_filter_17, List.forall_mem_cons.mpr ⟨s_X2_filter_18, List.forall_mem_cons.mpr ⟨s_X2_filter_19, List.forall_mem_cons.mpr ⟨s_X2_filter_22, List.forall_mem_cons.mpr ⟨s_X2_filter_23, List.forall_mem_cons.mpr ⟨s_X2_filter_24, List.forall_mem_cons.mpr ⟨s_X2_filter_27, List.forall_mem_cons.mpr ⟨s_X2_filter_28, List.forall_mem_cons.mpr ⟨s_X2_filter_30, List.forall_mem_cons.mpr ⟨s_X2_filter_31, List.forall_mem_cons.mpr ⟨s_X2_filter_33, List.forall_mem_cons.mpr ⟨s_X2_filter_35, List.forall_mem_cons.mpr ⟨s_X2_filter_36, List.forall_mem_cons.mpr ⟨s_X2_filter_39, List.forall_mem_cons.mpr ⟨s_X2_filter_42, List.forall_mem_cons.mpr ⟨s_X2_filter_43, List.forall_mem_cons.mpr ⟨s_X2_filter_46, List.forall_mem_cons.mpr ⟨s_X2_filter_48, List.forall_mem_cons.mpr ⟨s_X2_filter_49, List.forall_mem_cons.mpr ⟨s_X2_filter_50, List.forall_mem_cons.mpr ⟨s_X2_filter_53, List.forall_mem_cons.mpr ⟨s_X2_filter_54, List.forall_mem_cons.mpr ⟨s_X2_filter_56, List.forall_mem_cons.mpr ⟨s_X2_filter_59, List.forall_mem_cons.mpr ⟨s_X2_filter_60, List.forall_mem_cons.mpr ⟨s_X2_filter_61, List.forall_mem_cons.mpr ⟨s_X2_filter_62, List.forall_mem_cons.mpr ⟨s_X2_filter_63, List.forall_mem_cons.mpr ⟨s_X2_filter_66, List.forall_mem_cons.mpr ⟨s_X2_filter_67, List.forall_mem_cons.mpr ⟨s_X2_filter_70, List.forall_mem_cons.mpr ⟨s_X2_filter_72, List.forall_mem_cons.mpr ⟨s_X2_filter_73, List.forall_mem_cons.mpr ⟨s_X2_filter_76, List.forall_mem_cons.mpr ⟨s_X2_filter_77, List.forall_mem_cons.mpr ⟨s_X2_filter_79, List.forall_mem_cons.mpr ⟨s_X2_filter_82, List.forall_mem_cons.mpr ⟨s_X2_filter_85, List.forall_mem_cons.mpr ⟨s_X2_filter_87, List.forall_mem_cons.mpr ⟨s_X2_filter_90, List.forall_mem_cons.mpr ⟨s_X2_filter_91, List.forall_mem_cons.mpr ⟨s_X2_filter_93, List.forall_mem_cons.mpr ⟨s_X2_filter_94, List.forall_mem_cons.mpr ⟨s_X2_filter_95, List.forall_mem_cons.mpr ⟨s_X2_filter_98, List.forall_mem_cons.mpr ⟨s_X2_filter_101, List.forall_mem_cons.mpr ⟨s_X2_filter_104, List.forall_mem_cons.mpr ⟨s_X2_filter_105, List.forall_mem_cons.mpr ⟨s_X2_filter_107, List.forall_mem_cons.mpr ⟨s_X2_filter_108, List.forall_mem_cons.mpr ⟨s_X2_filter_111, (fun q hq => absurd hq List.not_mem_nil)⟩⟩⟩⟩⟩⟩⟩⟩⟩⟩⟩⟩⟩⟩⟩⟩⟩⟩⟩⟩⟩⟩⟩⟩⟩⟩⟩⟩⟩⟩⟩⟩⟩⟩⟩⟩⟩⟩⟩⟩⟩⟩⟩⟩⟩⟩⟩⟩⟩⟩⟩⟩⟩⟩⟩⟩⟩⟩⟩⟩⟩⟩⟩
theorem s_X2_holds_0 : Snd PG.nam M85 0 (m_const (.int (nI 60)) 2) := snd_bipush dX2_holds_0 (by decide)
theorem s_X2_holds_2 : Snd PG.nam M85 2 (m_const (.int (nI 2)) 3) := snd_iconst dX2_holds_2 (by decide)
theorem s_X2_holds_3 : Snd PG.nam M85 3 (m_iload 1 4) := snd_iload_n dX2_holds_3 rfl
theorem s_X2_holds_4 : Snd PG.nam M85 4 (m_ibin (fun a b => a * b) 5) := snd_imul dX2_holds_4
theorem s_X2_holds_5 : Snd PG.nam M85 5 (m_ibin (fun a b => a + b) 6) := snd_iadd dX2_holds_5
theorem s_X2_holds_6 : Snd PG.nam M85 6 (m_istore 3 7) := snd_istore_n dX2_holds_6 rfl (by decide)
theorem s_X2_holds_7 : Snd PG.nam M85 7 (m_aload 0 8) := snd_aload_n dX2_holds_7 rfl
theorem s_X2_holds_8 : Snd PG.nam M85 8 (m_getf [(1, 33)] 11) := snd_getf dX2_holds_8 fd_X2_49
theorem s_X2_holds_11 : Snd PG.nam M85 11 (m_iload 3 12) := snd_iload_n dX2_holds_11 rfl
theorem s_X2_holds_12 : Snd PG.nam M85 12 (m_iald [.int] 13) := snd_iald dX2_holds_12
theorem s_X2_holds_13 : Snd PG.nam M85 13 (m_ifz (fun x => if x < 0 then 35 else 16)) := snd_if_lt dX2_holds_13 (by decide)
theorem s_X2_holds_16 : Snd PG.nam M85 16 (m_aload 0 17) := snd_aload_n dX2_holds_16 rfl
theorem s_X2_holds_17 : Snd PG.nam M85 17 (m_getf [(1, 48)] 20) := snd_getf dX2_holds_17 fd_X2_73
theorem s_X2_holds_20 : Snd PG.nam M85 20 (m_iload 2 21) := snd_iload_n dX2_holds_20 rfl
theorem s_X2_holds_21 : Snd PG.nam M85 21 (m_iald [.int] 22) := snd_iald dX2_holds_21
theorem s_X2_holds_22 : Snd PG.nam M85 22 (m_aload 0 23) := snd_aload_n dX2_holds_22 rfl
theorem s_X2_holds_23 : Snd PG.nam M85 23 (m_getf [(1, 33)] 26) := snd_getf dX2_holds_23 fd_X2_49
theorem s_X2_holds_26 : Snd PG.nam M85 26 (m_iload 3 27) := snd_iload_n dX2_holds_26 rfl
theorem s_X2_holds_27 : Snd PG.nam M85 27 (m_iald [.int] 28) := snd_iald dX2_holds_27
theorem s_X2_holds_28 : Snd PG.nam M85 28 (m_ibin (fun a b => a >>> (b &&& 31)) 29) := snd_ishr dX2_holds_28
theorem s_X2_holds_29 : Snd PG.nam M85 29 (m_const (.int (nI 1)) 30) := snd_iconst dX2_holds_29 (by decide)
theorem s_X2_holds_30 : Snd PG.nam M85 30 (m_ibin (fun a b => a &&& b) 31) := snd_iand dX2_holds_30
theorem s_X2_holds_31 : Snd PG.nam M85 31 (m_const (.int (nI 1)) 32) := snd_iconst dX2_holds_31 (by decide)
theorem s_X2_holds_32 : Snd PG.nam M85 32 (m_icmp (fun x z => if x = z then 35 else 39)) := snd_icmp_ne dX2_holds_32 (by decide)
theorem s_X2_holds_35 : Snd PG.nam M85 35 (m_const (.int (nI 1)) 36) := snd_iconst dX2_holds_35 (by decide)
theorem s_X2_holds_36 : Snd PG.nam M85 36 (m_goto 40) := snd_goto dX2_holds_36 (by decide)
theorem s_X2_holds_39 : Snd PG.nam M85 39 (m_const (.int (nI 0)) 40) := snd_iconst dX2_holds_39 (by decide)
theorem s_X2_holds_40 : Snd PG.nam M85 40 (m_istore 4 42) := snd_istore dX2_holds_40 (by decide)
theorem s_X2_holds_42 : Snd PG.nam M85 42 (m_aload 0 43) := snd_aload_n dX2_holds_42 rfl
theorem s_X2_holds_43 : Snd PG.nam M85 43 (m_getf [(1, 37)] 46) := snd_getf dX2_holds_43 fd_X2_58
theorem s_X2_holds_46 : Snd PG.nam M85 46 (m_iload 1 47) := snd_iload_n dX2_holds_46 rfl
theorem s_X2_holds_47 : Snd PG.nam M85 47 (m_iald [.int] 48) := snd_iald dX2_holds_47
theorem s_X2_holds_48 : Snd PG.nam M85 48 (m_const (.int (nI 98)) 50) := snd_bipush dX2_holds_48 (by decide)
theorem s_X2_holds_50 : Snd PG.nam M85 50 (m_icmp (fun x z => if x = z then 53 else 56)) := snd_icmp_ne dX2_holds_50 (by decide)
theorem s_X2_holds_53 : Snd PG.nam M85 53 (m_iload 4 55) := snd_iload dX2_holds_53
theorem s_X2_holds_55 : Snd PG.nam M85 55 (m_iret .boolean) := snd_iret dX2_holds_55 rfl
theorem s_X2_holds_56 : Snd PG.nam M85 56 (m_aload 0 57) := snd_aload_n dX2_holds_56 rfl
theorem s_X2_holds_57 : Snd PG.nam M85 57 (m_getf [(1, 33)] 60) := snd_getf dX2_holds_57 fd_X2_49
theorem s_X2_holds_60 : Snd PG.nam M85 60 (m_iload 3 61) := snd_iload_n dX2_holds_60 rfl
theorem s_X2_holds_61 : Snd PG.nam M85 61 (m_const (.int (nI 1)) 62) := snd_iconst dX2_holds_61 (by decide)
theorem s_X2_holds_62 : Snd PG.nam M85 62 (m_ibin (fun a b => a + b) 63) := snd_iadd dX2_holds_62
theorem s_X2_holds_63 : Snd PG.nam M85 63 (m_iald [.int] 64) := snd_iald dX2_holds_63
theorem s_X2_holds_64 : Snd PG.nam M85 64 (m_ifz (fun x => if x < 0 then 88 else 67)) := snd_if_lt dX2_holds_64 (by decide)
theorem s_X2_holds_67 : Snd PG.nam M85 67 (m_aload 0 68) := snd_aload_n dX2_holds_67 rfl
theorem s_X2_holds_68 : Snd PG.nam M85 68 (m_getf [(1, 48)] 71) := snd_getf dX2_holds_68 fd_X2_73
theorem s_X2_holds_71 : Snd PG.nam M85 71 (m_iload 2 72) := snd_iload_n dX2_holds_71 rfl
theorem s_X2_holds_72 : Snd PG.nam M85 72 (m_iald [.int] 73) := snd_iald dX2_holds_72
theorem s_X2_holds_73 : Snd PG.nam M85 73 (m_aload 0 74) := snd_aload_n dX2_holds_73 rfl
theorem s_X2_holds_74 : Snd PG.nam M85 74 (m_getf [(1, 33)] 77) := snd_getf dX2_holds_74 fd_X2_49
theorem s_X2_holds_77 : Snd PG.nam M85 77 (m_iload 3 78) := snd_iload_n dX2_holds_77 rfl
theorem s_X2_holds_78 : Snd PG.nam M85 78 (m_const (.int (nI 1)) 79) := snd_iconst dX2_holds_78 (by decide)
theorem s_X2_holds_79 : Snd PG.nam M85 79 (m_ibin (fun a b => a + b) 80) := snd_iadd dX2_holds_79
theorem s_X2_holds_80 : Snd PG.nam M85 80 (m_iald [.int] 81) := snd_iald dX2_holds_80
theorem s_X2_holds_81 : Snd PG.nam M85 81 (m_ibin (fun a b => a >>> (b &&& 31)) 82) := snd_ishr dX2_holds_81
theorem s_X2_holds_82 : Snd PG.nam M85 82 (m_const (.int (nI 1)) 83) := snd_iconst dX2_holds_82 (by decide)
theorem s_X2_holds_83 : Snd PG.nam M85 83 (m_ibin (fun a b => a &&& b) 84) := snd_iand dX2_holds_83
theorem s_X2_holds_84 : Snd PG.nam M85 84 (m_const (.int (nI 1)) 85) := snd_iconst dX2_holds_84 (by decide)
theorem s_X2_holds_85 : Snd PG.nam M85 85 (m_icmp (fun x z => if x = z then 88 else 92)) := snd_icmp_ne dX2_holds_85 (by decide)
theorem s_X2_holds_88 : Snd PG.nam M85 88 (m_const (.int (nI 1)) 89) := snd_iconst dX2_holds_88 (by decide)
theorem s_X2_holds_89 : Snd PG.nam M85 89 (m_goto 93) := snd_goto dX2_holds_89 (by decide)
theorem s_X2_holds_92 : Snd PG.nam M85 92 (m_const (.int (nI 0)) 93) := snd_iconst dX2_holds_92 (by decide)
theorem s_X2_holds_93 : Snd PG.nam M85 93 (m_istore 5 95) := snd_istore dX2_holds_93 (by decide)
theorem s_X2_holds_95 : Snd PG.nam M85 95 (m_iload 4 97) := snd_iload dX2_holds_95
theorem s_X2_holds_97 : Snd PG.nam M85 97 (m_ifz (fun x => if x = 0 then 105 else 100)) := snd_if_eq dX2_holds_97 (by decide)
theorem s_X2_holds_100 : Snd PG.nam M85 100 (m_iload 5 102) := snd_iload dX2_holds_100
theorem s_X2_holds_102 : Snd PG.nam M85 102 (m_ifz (fun x => if x = 0 then 105 else 107)) := snd_if_ne dX2_holds_102 (by decide)
theorem s_X2_holds_105 : Snd PG.nam M85 105 (m_const (.int (nI 0)) 106) := snd_iconst dX2_holds_105 (by decide)
theorem s_X2_holds_106 : Snd PG.nam M85 106 (m_iret .boolean) := snd_iret dX2_holds_106 rfl
theorem s_X2_holds_107 : Snd PG.nam M85 107 (m_aload 0 108) := snd_aload_n dX2_holds_107 rfl
theorem s_X2_holds_108 : Snd PG.nam M85 108 (m_getf [(1, 33)] 111) := snd_getf dX2_holds_108 fd_X2_49
theorem s_X2_holds_111 : Snd PG.nam M85 111 (m_iload 3 112) := snd_iload_n dX2_holds_111 rfl
theorem s_X2_holds_112 : Snd PG.nam M85 112 (m_iald [.int] 113) := snd_iald dX2_holds_112
theorem s_X2_holds_113 : Snd PG.nam M85 113 (m_ifz (fun x => if x < 0 then 116 else 125)) := snd_if_ge dX2_holds_113 (by decide)
theorem s_X2_holds_116 : Snd PG.nam M85 116 (m_aload 0 117) := snd_aload_n dX2_holds_116 rfl
theorem s_X2_holds_117 : Snd PG.nam M85 117 (m_getf [(1, 34)] 120) := snd_getf dX2_holds_117 fd_X2_52
theorem s_X2_holds_120 : Snd PG.nam M85 120 (m_iload 3 121) := snd_iload_n dX2_holds_120 rfl
theorem s_X2_holds_121 : Snd PG.nam M85 121 (m_lald 122) := snd_lald dX2_holds_121
theorem s_X2_holds_122 : Snd PG.nam M85 122 (m_goto 141) := snd_goto dX2_holds_122 (by decide)
theorem s_X2_holds_125 : Snd PG.nam M85 125 (m_aload 0 126) := snd_aload_n dX2_holds_125 rfl
theorem s_X2_holds_126 : Snd PG.nam M85 126 (m_getf [(1, 47)] 129) := snd_getf dX2_holds_126 fd_X2_70
theorem s_X2_holds_129 : Snd PG.nam M85 129 (m_const (.int (nI 6)) 131) := snd_bipush dX2_holds_129 (by decide)
theorem s_X2_holds_131 : Snd PG.nam M85 131 (m_iload 2 132) := snd_iload_n dX2_holds_131 rfl
theorem s_X2_holds_132 : Snd PG.nam M85 132 (m_ibin (fun a b => a * b) 133) := snd_imul dX2_holds_132
theorem s_X2_holds_133 : Snd PG.nam M85 133 (m_aload 0 134) := snd_aload_n dX2_holds_133 rfl
theorem s_X2_holds_134 : Snd PG.nam M85 134 (m_getf [(1, 33)] 137) := snd_getf dX2_holds_134 fd_X2_49
theorem s_X2_holds_137 : Snd PG.nam M85 137 (m_iload 3 138) := snd_iload_n dX2_holds_137 rfl
theorem s_X2_holds_138 : Snd PG.nam M85 138 (m_iald [.int] 139) := snd_iald dX2_holds_138
theorem s_X2_holds_139 : Snd PG.nam M85 139 (m_ibin (fun a b => a + b) 140) := snd_iadd dX2_holds_139
theorem s_X2_holds_140 : Snd PG.nam M85 140 (m_lald 141) := snd_lald dX2_holds_140
theorem s_X2_holds_141 : Snd PG.nam M85 141 (m_aload 0 142) := snd_aload_n dX2_holds_141 rfl
theorem s_X2_holds_142 : Snd PG.nam M85 142 (m_getf [(1, 33)] 145) := snd_getf dX2_holds_142 fd_X2_49
theorem s_X2_holds_145 : Snd PG.nam M85 145 (m_iload 3 146) := snd_iload_n dX2_holds_145 rfl
theorem s_X2_holds_146 : Snd PG.nam M85 146 (m_const (.int (nI 1)) 147) := snd_iconst dX2_holds_146 (by decide)
theorem s_X2_holds_147 : Snd PG.nam M85 147 (m_ibin (fun a b => a + b) 148) := snd_iadd dX2_holds_147
theorem s_X2_holds_148 : Snd PG.nam M85 148 (m_iald [.int] 149) := snd_iald dX2_holds_148
theorem s_X2_holds_149 : Snd PG.nam M85 149 (m_ifz (fun x => if x < 0 then 152 else 163)) := snd_if_ge dX2_holds_149 (by decide)
theorem s_X2_holds_152 : Snd PG.nam M85 152 (m_aload 0 153) := snd_aload_n dX2_holds_152 rfl
theorem s_X2_holds_153 : Snd PG.nam M85 153 (m_getf [(1, 34)] 156) := snd_getf dX2_holds_153 fd_X2_52
theorem s_X2_holds_156 : Snd PG.nam M85 156 (m_iload 3 157) := snd_iload_n dX2_holds_156 rfl
theorem s_X2_holds_157 : Snd PG.nam M85 157 (m_const (.int (nI 1)) 158) := snd_iconst dX2_holds_157 (by decide)
theorem s_X2_holds_158 : Snd PG.nam M85 158 (m_ibin (fun a b => a + b) 159) := snd_iadd dX2_holds_158
theorem s_X2_holds_159 : Snd PG.nam M85 159 (m_lald 160) := snd_lald dX2_holds_159
theorem s_X2_holds_160 : Snd PG.nam M85 160 (m_goto 181) := snd_goto dX2_holds_160 (by decide)
theorem s_X2_holds_163 : Snd PG.nam M85 163 (m_aload 0 164) := snd_aload_n dX2_holds_163 rfl
theorem s_X2_holds_164 : Snd PG.nam M85 164 (m_getf [(1, 47)] 167) := snd_getf dX2_holds_164 fd_X2_70
theorem s_X2_holds_167 : Snd PG.nam M85 167 (m_const (.int (nI 6)) 169) := snd_bipush dX2_holds_167 (by decide)
theorem s_X2_holds_169 : Snd PG.nam M85 169 (m_iload 2 170) := snd_iload_n dX2_holds_169 rfl
theorem s_X2_holds_170 : Snd PG.nam M85 170 (m_ibin (fun a b => a * b) 171) := snd_imul dX2_holds_170
theorem s_X2_holds_171 : Snd PG.nam M85 171 (m_aload 0 172) := snd_aload_n dX2_holds_171 rfl
theorem s_X2_holds_172 : Snd PG.nam M85 172 (m_getf [(1, 33)] 175) := snd_getf dX2_holds_172 fd_X2_49
theorem s_X2_holds_175 : Snd PG.nam M85 175 (m_iload 3 176) := snd_iload_n dX2_holds_175 rfl
theorem s_X2_holds_176 : Snd PG.nam M85 176 (m_const (.int (nI 1)) 177) := snd_iconst dX2_holds_176 (by decide)
theorem s_X2_holds_177 : Snd PG.nam M85 177 (m_ibin (fun a b => a + b) 178) := snd_iadd dX2_holds_177
theorem s_X2_holds_178 : Snd PG.nam M85 178 (m_iald [.int] 179) := snd_iald dX2_holds_178
theorem s_X2_holds_179 : Snd PG.nam M85 179 (m_ibin (fun a b => a + b) 180) := snd_iadd dX2_holds_179
theorem s_X2_holds_180 : Snd PG.nam M85 180 (m_lald 181) := snd_lald dX2_holds_180
theorem s_X2_holds_181 : Snd PG.nam M85 181 (m_callS false 86 2 184) := snd_callS (nam := PG.nam) (yy := 86) dX2_holds_181 (Or.inl w1795) w1796 ⟨by decide, by decide +kernel⟩ (by decide)
theorem s_X2_holds_184 : Snd PG.nam M85 184 (m_istore 6 186) := snd_istore dX2_holds_184 (by decide)
theorem s_X2_holds_186 : Snd PG.nam M85 186 (m_aload 0 187) := snd_aload_n dX2_holds_186 rfl
theorem s_X2_holds_187 : Snd PG.nam M85 187 (m_getf [(1, 37)] 190) := snd_getf dX2_holds_187 fd_X2_58
theorem s_X2_holds_190 : Snd PG.nam M85 190 (m_iload 1 191) := snd_iload_n dX2_holds_190 rfl
theorem s_X2_holds_191 : Snd PG.nam M85 191 (m_iald [.int] 192) := snd_iald dX2_holds_191
theorem s_X2_holds_192 : Snd PG.nam M85 192 (m_const (.int (nI 61)) 194) := snd_bipush dX2_holds_192 (by decide)
theorem s_X2_holds_194 : Snd PG.nam M85 194 (m_icmp (fun x z => if x = z then 197 else 210)) := snd_icmp_ne dX2_holds_194 (by decide)
theorem s_X2_holds_197 : Snd PG.nam M85 197 (m_iload 6 199) := snd_iload dX2_holds_197
theorem s_X2_holds_199 : Snd PG.nam M85 199 (m_ifz (fun x => if x = 0 then 202 else 206)) := snd_if_ne dX2_holds_199 (by decide)
theorem s_X2_holds_202 : Snd PG.nam M85 202 (m_const (.int (nI 1)) 203) := snd_iconst dX2_holds_202 (by decide)
theorem s_X2_holds_203 : Snd PG.nam M85 203 (m_goto 268) := snd_goto dX2_holds_203 (by decide)
theorem s_X2_holds_206 : Snd PG.nam M85 206 (m_const (.int (nI 0)) 207) := snd_iconst dX2_holds_206 (by decide)
theorem s_X2_holds_207 : Snd PG.nam M85 207 (m_goto 268) := snd_goto dX2_holds_207 (by decide)
theorem s_X2_holds_210 : Snd PG.nam M85 210 (m_aload 0 211) := snd_aload_n dX2_holds_210 rfl
theorem s_X2_holds_211 : Snd PG.nam M85 211 (m_getf [(1, 37)] 214) := snd_getf dX2_holds_211 fd_X2_58
theorem s_X2_holds_214 : Snd PG.nam M85 214 (m_iload 1 215) := snd_iload_n dX2_holds_214 rfl
theorem s_X2_holds_215 : Snd PG.nam M85 215 (m_iald [.int] 216) := snd_iald dX2_holds_215
theorem s_X2_holds_216 : Snd PG.nam M85 216 (m_const (.int (nI 33)) 218) := snd_bipush dX2_holds_216 (by decide)
theorem s_X2_holds_218 : Snd PG.nam M85 218 (m_icmp (fun x z => if x = z then 221 else 234)) := snd_icmp_ne dX2_holds_218 (by decide)
theorem s_X2_holds_221 : Snd PG.nam M85 221 (m_iload 6 223) := snd_iload dX2_holds_221
theorem s_X2_holds_223 : Snd PG.nam M85 223 (m_ifz (fun x => if x = 0 then 230 else 226)) := snd_if_eq dX2_holds_223 (by decide)
theorem s_X2_holds_226 : Snd PG.nam M85 226 (m_const (.int (nI 1)) 227) := snd_iconst dX2_holds_226 (by decide)
theorem s_X2_holds_227 : Snd PG.nam M85 227 (m_goto 268) := snd_goto dX2_holds_227 (by decide)
theorem s_X2_holds_230 : Snd PG.nam M85 230 (m_const (.int (nI 0)) 231) := snd_iconst dX2_holds_230 (by decide)
theorem s_X2_holds_231 : Snd PG.nam M85 231 (m_goto 268) := snd_goto dX2_holds_231 (by decide)
theorem s_X2_holds_234 : Snd PG.nam M85 234 (m_aload 0 235) := snd_aload_n dX2_holds_234 rfl
theorem s_X2_holds_235 : Snd PG.nam M85 235 (m_getf [(1, 37)] 238) := snd_getf dX2_holds_235 fd_X2_58
theorem s_X2_holds_238 : Snd PG.nam M85 238 (m_iload 1 239) := snd_iload_n dX2_holds_238 rfl
theorem s_X2_holds_239 : Snd PG.nam M85 239 (m_iald [.int] 240) := snd_iald dX2_holds_239
theorem s_X2_holds_240 : Snd PG.nam M85 240 (m_const (.int (nI 60)) 242) := snd_bipush dX2_holds_240 (by decide)
theorem s_X2_holds_242 : Snd PG.nam M85 242 (m_icmp (fun x z => if x = z then 245 else 258)) := snd_icmp_ne dX2_holds_242 (by decide)
theorem s_X2_holds_245 : Snd PG.nam M85 245 (m_iload 6 247) := snd_iload dX2_holds_245
theorem s_X2_holds_247 : Snd PG.nam M85 247 (m_ifz (fun x => if x < 0 then 250 else 254)) := snd_if_ge dX2_holds_247 (by decide)
theorem s_X2_holds_250 : Snd PG.nam M85 250 (m_const (.int (nI 1)) 251) := snd_iconst dX2_holds_250 (by decide)
theorem s_X2_holds_251 : Snd PG.nam M85 251 (m_goto 268) := snd_goto dX2_holds_251 (by decide)
theorem s_X2_holds_254 : Snd PG.nam M85 254 (m_const (.int (nI 0)) 255) := snd_iconst dX2_holds_254 (by decide)
theorem s_X2_holds_255 : Snd PG.nam M85 255 (m_goto 268) := snd_goto dX2_holds_255 (by decide)
theorem s_X2_holds_258 : Snd PG.nam M85 258 (m_iload 6 260) := snd_iload dX2_holds_258
theorem s_X2_holds_260 : Snd PG.nam M85 260 (m_ifz (fun x => if 0 < x then 263 else 267)) := snd_if_le dX2_holds_260 (by decide)
theorem s_X2_holds_263 : Snd PG.nam M85 263 (m_const (.int (nI 1)) 264) := snd_iconst dX2_holds_263 (by decide)
theorem s_X2_holds_264 : Snd PG.nam M85 264 (m_goto 268) := snd_goto dX2_holds_264 (by decide)
theorem s_X2_holds_267 : Snd PG.nam M85 267 (m_const (.int (nI 0)) 268) := snd_iconst dX2_holds_267 (by decide)
theorem s_X2_holds_268 : Snd PG.nam M85 268 (m_iret .boolean) := snd_iret dX2_holds_268 rfl
theorem T85 : ∀ q ∈ S85, Snd PG.nam M85 q.1 q.2 := List.forall_mem_cons.mpr ⟨s_X2_holds_0, List.forall_mem_cons.mpr ⟨s_X2_holds_2, List.forall_mem_cons.mpr ⟨s_X2_holds_3, List.forall_mem_cons.mpr ⟨s_X2_holds_4, List.forall_mem_cons.mpr ⟨s_X2_holds_5, List.forall_mem_cons.mpr ⟨s_X2_holds_6, List.forall_mem_cons.mpr ⟨s_X2_holds_7, List.forall_mem_cons.mpr ⟨s_X2_holds_8, List.forall_mem_cons.mpr ⟨s_X2_holds_11, List.forall_mem_cons.mpr ⟨s_X2_holds_12, List.forall_mem_cons.mpr ⟨s_X2_holds_13, List.forall_mem_cons.mpr ⟨s_X2_holds_16, List.forall_mem_cons.mpr ⟨s_X2_holds_17, List.forall_mem_cons.mpr ⟨s_X2_holds_20, List.forall_mem_cons.mpr ⟨s_X2_holds_21, List.forall_mem_cons.mpr ⟨s_X2_holds_22, List.forall_mem_cons.mpr ⟨s_X2_holds_23, List.forall_mem_cons.mpr ⟨s_X2_holds_26, List.forall_mem_cons.mpr ⟨s_X2_holds_27, List.forall_mem_cons.mpr ⟨s_X2_holds_28, List.forall_mem_cons.mpr ⟨s_X2_holds_29, List.forall_mem_cons.mpr ⟨s_X2_holds_30, List.forall_mem_cons.mpr ⟨s_X2_holds_31, List.forall_mem_cons.mpr ⟨s_X2_holds_32, List.forall_mem_cons.mpr ⟨s_X2_holds_35, List.forall_mem_cons.mpr ⟨s_X2_holds_36, List.forall_mem_cons.mpr ⟨s_X2_holds_39, List.forall_mem_cons.mpr ⟨s_X2_holds_40, List.forall_mem_cons.mpr ⟨s_X2_holds_42, List.forall_mem_cons.mpr ⟨s_X2_holds_43, List.forall_mem_cons.mpr ⟨s_X2_holds_46, List.forall_mem_cons.mpr ⟨s_X2_holds_47, List.forall_mem_cons.mpr ⟨s_X2_holds_48, List.forall_mem_cons.mpr ⟨s_X2_holds_50, List.forall_mem_cons.mpr ⟨s_X2_holds_53, List.forall_mem_cons.mpr ⟨s_X2_holds_55, List.forall_mem_cons.mpr ⟨s_X2_holds_56, List.forall_mem_cons.mpr ⟨s_X2_holds_57, List.forall_mem_cons.mpr ⟨s_X2_holds_60, List.forall_mem_cons.mpr ⟨s_X2_holds_61, List.forall_mem_cons.mpr ⟨s_X2_holds_62, List.forall_mem_cons.mpr ⟨s_X2_holds_63, List.forall_mem_cons.mpr ⟨s_X2_holds_64, List.forall_mem_cons.mpr ⟨s_X2_holds_67, List.forall_mem_cons.mpr ⟨s_X2_holds_68, List.forall_mem_cons.mpr ⟨s_X2_holds_71, List.forall_mem_cons.mpr ⟨s_X2_holds_72, List.forall_mem_cons.mpr ⟨s_X2_holds_73, List.forall_mem_cons.mpr ⟨s_X2_holds_74, List.forall_mem_cons.mpr ⟨s_X2_holds_77, List.forall_mem_cons.mpr ⟨s_X2_holds_78, List.forall_mem_cons.mpr ⟨s_X2_holds_79, List.forall_mem_cons.mpr ⟨s_X2_holds_80, List.forall_mem_cons.mpr ⟨s_X2_holds_81, List.forall_mem_cons.mpr ⟨s_X2_holds_82, List.forall_mem_cons.mpr ⟨s_X2_holds_83, List.forall_mem_cons.mpr ⟨s_X2_holds_84, List.forall_mem_cons.mpr ⟨s_X2_holds_85, List.forall_mem_cons.mpr ⟨s_X2_holds_88, List.forall_mem_cons.mpr ⟨s_X2_holds_89, List.forall_mem_cons.mpr ⟨s_X2_holds_92, List.forall_mem_cons.mpr ⟨s_X2_holds_93, List.forall_mem_cons.mpr ⟨s_X2_holds_95, List.forall_mem_cons.mpr ⟨s_X2_holds_97, List.forall_mem_cons.mpr ⟨s_X2_holds_100, List.forall_mem_cons.mpr ⟨s_X2_holds_102, List.forall_mem_cons.mpr ⟨s_X2_holds_105, List.forall_mem_cons.mpr ⟨s_X2_holds_106, List.forall_mem_cons.mpr ⟨s_X2_holds_107, List.forall_mem_cons.mpr ⟨s_X2_holds_108, List.forall_mem_cons.mpr ⟨s_X2_holds_111, List.forall_mem_cons.mpr ⟨s_X2_holds_112, List.forall_mem_cons.mpr ⟨s_X2_holds_113, List.forall_mem_cons.mpr ⟨s_X2_holds_116, List.forall_mem_cons.mpr ⟨s_X2_holds_117, List.forall_mem_cons.mpr ⟨s_X2_holds_120, List.forall_mem_cons.mpr ⟨s_X2_holds_121, List.forall_mem_cons.mpr ⟨s_X2_holds_122, List.forall_mem_cons.mpr ⟨s_X2_holds_125, List.forall_mem_cons.mpr ⟨s_X2_holds_126, List.forall_mem_cons.mpr ⟨s_X2_holds_129, List.forall_mem_cons.mpr ⟨s_X2_holds_131, List.forall_mem_cons.mpr ⟨s_X2_holds_132, List.forall_mem_cons.mpr ⟨s_X2_holds_133, List.forall_mem_cons.mpr ⟨s_X2_holds_134, List.forall_mem_cons.mpr ⟨s_X2_holds_137, List.forall_mem_cons.mpr ⟨s_X2_holds_138, List.forall_mem_cons.mpr ⟨s_X2_holds_139, List.forall_mem_cons.mpr ⟨s_X2_holds_140, List.forall_mem_cons.mpr ⟨s_X2_holds_141, List.forall_mem_cons.mpr ⟨s_X2_holds_142, List.forall_mem_cons.mpr ⟨s_X2_holds_145, List.forall_mem_cons.mpr ⟨s_X2_holds_146, List.forall_mem_cons.mpr ⟨s_X2_holds_147, List.forall_mem_cons.mpr ⟨s_X2_holds_148, List.forall_mem_cons.mpr ⟨s_X2_holds_149, List.forall_mem_cons.mpr ⟨s_X2_holds_152, List.forall_mem_cons.mpr ⟨s_X2_holds_153, List.forall_mem_cons.mpr ⟨s_X2_holds_156, List.forall_mem_cons.mpr ⟨s_X2_holds_157, List.forall_mem_cons.mpr ⟨s_X2_holds_158, List.forall_mem_cons.mpr ⟨s_X2_holds_159, List.forall_mem_cons.mpr ⟨s_X2_holds_160, List.forall_mem_cons.mpr ⟨s_X2_holds_163, List.forall_mem_cons.mpr ⟨s_X2_holds_164, List.forall_mem_cons.mpr ⟨s_X2_holds_167, List.forall_mem_cons.mpr ⟨s_X2_holds_169, List.forall_mem_cons.mpr ⟨s_X2_holds_170, List.forall_mem_cons.mpr ⟨s_X2_holds_171, List.forall_mem_cons.mpr ⟨s_X2_holds_172, List.forall_mem_cons.mpr ⟨s_X2_holds_175, List.forall_mem_cons.mpr ⟨s_X2_holds_176, List.forall_mem_cons.mpr ⟨s_X2_holds_177, List.forall_mem_cons.mpr ⟨s_X2_holds_178, List.forall_mem_cons.mpr ⟨s_X2_holds_179, List.forall_mem_cons.mpr ⟨s_X2_holds_180, List.forall_mem_cons.mpr ⟨s_X2_holds_181, List.forall_mem_cons.mpr ⟨s_X2_holds_184, List.forall_mem_cons.mpr ⟨s_X2_holds_186, List.forall_mem_cons.mpr ⟨s_X2_holds_187, List.forall_mem_cons.mpr ⟨s_X2_holds_190, List.forall_mem_cons.mpr ⟨s_X2_holds_191, List.forall_mem_cons.mpr ⟨s_X2_holds_192, List.forall_mem_cons.mpr ⟨s_X2_holds_194, List.forall_mem_cons.mpr ⟨s_X2_holds_197, List.forall_mem_cons.mpr ⟨s_X2_holds_199, List.forall_mem_cons.mpr ⟨s_X2_holds_202, List.forall_mem_cons.mpr ⟨s_X2_holds_203, List.forall_mem_cons.mpr ⟨s_X2_holds_206, List.forall_mem_cons.mpr ⟨s_X2_holds_207, List.forall_mem_cons.mpr ⟨s_X2_holds_210, List.forall_mem_cons.mpr ⟨s_X2_holds_211, List.forall_mem_cons.mpr ⟨s_X2_holds_214, List.forall_mem_cons.mpr ⟨s_X2_holds_215, List.forall_mem_cons.mpr ⟨s_X2_holds_216, List.forall_mem_cons.mpr ⟨s_X2_holds_218, List.forall_mem_cons.mpr ⟨s_X2_holds_221, List.forall_mem_cons.mpr ⟨s_X2_holds_223, List.forall_mem_cons.mpr ⟨s_X2_holds_226, List.forall_mem_cons.mpr ⟨s_X2_holds_227, List.forall_mem_cons.mpr ⟨s_X2_holds_230, List.forall_mem_cons.mpr ⟨s_X2_holds_231, List.forall_mem_cons.mpr ⟨s_X2_holds_234, List.forall_mem_cons.mpr ⟨s_X2_holds_235, List.forall_mem_cons.mpr ⟨s_X2_holds_238, List.forall_mem_cons.mpr ⟨s_X2_holds_239, List.forall_mem_cons.mpr ⟨s_X2_holds_240, List.forall_mem_cons.mpr ⟨s_X2_holds_242, List.forall_mem_cons.mpr ⟨s_X2_holds_245, List.forall_mem_cons.mpr ⟨s_X2_holds_247, List.forall_mem_cons.mpr ⟨s_X2_holds_250, List.forall_mem_cons.mpr ⟨s_X2_holds_251, List.forall_mem_cons.mpr ⟨s_X2_holds_254, List.forall_mem_cons.mpr ⟨s_X2_holds_255, List.forall_mem_cons.mpr ⟨s_X2_holds_258, List.forall_mem_cons.mpr ⟨s_X2_holds_260, List.forall_mem_cons.mpr ⟨s_X2_holds_263, List.forall_mem_cons.mpr ⟨s_X2_holds_264, List.forall_mem_cons.mpr ⟨s_X2_holds_267, List.forall_mem_cons.mpr ⟨s_X2_holds_268, (fun q hq => absurd hq List.not_mem_nil)⟩⟩⟩⟩⟩⟩⟩⟩⟩⟩⟩⟩⟩⟩⟩⟩⟩⟩⟩⟩⟩⟩⟩⟩⟩⟩⟩⟩⟩⟩⟩⟩⟩⟩⟩⟩⟩⟩⟩⟩⟩⟩⟩⟩⟩⟩⟩⟩⟩⟩⟩⟩⟩⟩⟩⟩⟩⟩⟩⟩⟩⟩⟩⟩⟩⟩⟩⟩⟩⟩⟩⟩⟩⟩⟩⟩⟩⟩⟩⟩⟩⟩⟩⟩⟩⟩⟩⟩⟩⟩⟩⟩⟩⟩⟩⟩⟩⟩⟩⟩⟩⟩⟩⟩⟩⟩⟩⟩⟩⟩⟩⟩⟩⟩⟩⟩⟩⟩⟩⟩⟩⟩⟩⟩⟩⟩⟩⟩⟩⟩⟩⟩⟩⟩⟩⟩⟩⟩⟩⟩⟩⟩⟩⟩⟩⟩⟩⟩⟩⟩⟩⟩⟩⟩⟩⟩⟩⟩⟩⟩
