set_option maxRecDepth 100000
theorem s_X2_compare_0 : Snd PG.nam M86 0 (m_lload 0 1) := snd_lload_n dX2_compare_0 rfl
theorem s_X2_compare_1 : Snd PG.nam M86 1 (m_lload 2 2) := snd_lload_n dX2_compare_1 rfl
theorem s_X2_compare_2 : Snd PG.nam M86 2 (m_lcmp 3) := snd_lcmp dX2_compare_2
theorem s_X2_compare_3 : Snd PG.nam M86 3 (m_ifz (fun x => if x = 0 then 6 else 8)) := snd_if_ne dX2_compare_3 (by decide)
theorem s_X2_compare_6 : Snd PG.nam M86 6 (m_const (.int (nI 0)) 7) := snd_iconst dX2_compare_6 (by decide)
theorem s_X2_compare_7 : Snd PG.nam M86 7 (m_iret .int) := snd_iret dX2_compare_7 rfl
theorem s_X2_compare_8 : Snd PG.nam M86 8 (m_lload 0 9) := snd_lload_n dX2_compare_8 rfl
theorem s_X2_compare_9 : Snd PG.nam M86 9 (m_const (.long (0 : Int64)) 10) := snd_lconst dX2_compare_9 (by decide)
theorem s_X2_compare_10 : Snd PG.nam M86 10 (m_lcmp 11) := snd_lcmp dX2_compare_10
theorem s_X2_compare_11 : Snd PG.nam M86 11 (m_ifz (fun x => if x < 0 then 20 else 14)) := snd_if_lt dX2_compare_11 (by decide)
theorem s_X2_compare_14 : Snd PG.nam M86 14 (m_lload 2 15) := snd_lload_n dX2_compare_14 rfl
theorem s_X2_compare_15 : Snd PG.nam M86 15 (m_const (.long (0 : Int64)) 16) := snd_lconst dX2_compare_15 (by decide)
theorem s_X2_compare_16 : Snd PG.nam M86 16 (m_lcmp 17) := snd_lcmp dX2_compare_16
theorem s_X2_compare_17 : Snd PG.nam M86 17 (m_ifz (fun x => if x < 0 then 20 else 56)) := snd_if_ge dX2_compare_17 (by decide)
theorem s_X2_compare_20 : Snd PG.nam M86 20 (m_lload 0 21) := snd_lload_n dX2_compare_20 rfl
theorem s_X2_compare_21 : Snd PG.nam M86 21 (m_const (.long (0 : Int64)) 22) := snd_lconst dX2_compare_21 (by decide)
theorem s_X2_compare_22 : Snd PG.nam M86 22 (m_lcmp 23) := snd_lcmp dX2_compare_22
theorem s_X2_compare_23 : Snd PG.nam M86 23 (m_ifz (fun x => if x < 0 then 26 else 44)) := snd_if_ge dX2_compare_23 (by decide)
theorem s_X2_compare_26 : Snd PG.nam M86 26 (m_lload 2 27) := snd_lload_n dX2_compare_26 rfl
theorem s_X2_compare_27 : Snd PG.nam M86 27 (m_const (.long (0 : Int64)) 28) := snd_lconst dX2_compare_27 (by decide)
theorem s_X2_compare_28 : Snd PG.nam M86 28 (m_lcmp 29) := snd_lcmp dX2_compare_28
theorem s_X2_compare_29 : Snd PG.nam M86 29 (m_ifz (fun x => if x < 0 then 32 else 44)) := snd_if_ge dX2_compare_29 (by decide)
theorem s_X2_compare_32 : Snd PG.nam M86 32 (m_lload 0 33) := snd_lload_n dX2_compare_32 rfl
theorem s_X2_compare_33 : Snd PG.nam M86 33 (m_lload 2 34) := snd_lload_n dX2_compare_33 rfl
theorem s_X2_compare_34 : Snd PG.nam M86 34 (m_lcmp 35) := snd_lcmp dX2_compare_34
theorem s_X2_compare_35 : Snd PG.nam M86 35 (m_ifz (fun x => if 0 < x then 38 else 42)) := snd_if_le dX2_compare_35 (by decide)
theorem s_X2_compare_38 : Snd PG.nam M86 38 (m_const (.int (-1)) 39) := snd_iconst dX2_compare_38 (by decide)
theorem s_X2_compare_39 : Snd PG.nam M86 39 (m_goto 43) := snd_goto dX2_compare_39 (by decide)
theorem s_X2_compare_42 : Snd PG.nam M86 42 (m_const (.int (nI 1)) 43) := snd_iconst dX2_compare_42 (by decide)
theorem s_X2_compare_43 : Snd PG.nam M86 43 (m_iret .int) := snd_iret dX2_compare_43 rfl
theorem s_X2_compare_44 : Snd PG.nam M86 44 (m_lload 0 45) := snd_lload_n dX2_compare_44 rfl
theorem s_X2_compare_45 : Snd PG.nam M86 45 (m_const (.long (0 : Int64)) 46) := snd_lconst dX2_compare_45 (by decide)
theorem s_X2_compare_46 : Snd PG.nam M86 46 (m_lcmp 47) := snd_lcmp dX2_compare_46
theorem s_X2_compare_47 : Snd PG.nam M86 47 (m_ifz (fun x => if x < 0 then 50 else 54)) := snd_if_ge dX2_compare_47 (by decide)
theorem s_X2_compare_50 : Snd PG.nam M86 50 (m_const (.int (-1)) 51) := snd_iconst dX2_compare_50 (by decide)
theorem s_X2_compare_51 : Snd PG.nam M86 51 (m_goto 55) := snd_goto dX2_compare_51 (by decide)
theorem s_X2_compare_54 : Snd PG.nam M86 54 (m_const (.int (nI 1)) 55) := snd_iconst dX2_compare_54 (by decide)
theorem s_X2_compare_55 : Snd PG.nam M86 55 (m_iret .int) := snd_iret dX2_compare_55 rfl
theorem s_X2_compare_56 : Snd PG.nam M86 56 (m_lload 0 57) := snd_lload_n dX2_compare_56 rfl
theorem s_X2_compare_57 : Snd PG.nam M86 57 (m_lstore 4 59) := snd_lstore dX2_compare_57 (by decide)
theorem s_X2_compare_59 : Snd PG.nam M86 59 (m_lload 2 60) := snd_lload_n dX2_compare_59 rfl
theorem s_X2_compare_60 : Snd PG.nam M86 60 (m_lstore 6 62) := snd_lstore dX2_compare_60 (by decide)
theorem s_X2_compare_62 : Snd PG.nam M86 62 (m_lload 4 64) := snd_lload dX2_compare_62
theorem s_X2_compare_64 : Snd PG.nam M86 64 (m_const (.int (nI 56)) 66) := snd_bipush dX2_compare_64 (by decide)
theorem s_X2_compare_66 : Snd PG.nam M86 66 (m_lsh (fun a b => a >>> (b.toInt64 &&& 63)) 67) := snd_lshr dX2_compare_66
theorem s_X2_compare_67 : Snd PG.nam M86 67 (m_const (.long (0 : Int64)) 68) := snd_lconst dX2_compare_67 (by decide)
theorem s_X2_compare_68 : Snd PG.nam M86 68 (m_lcmp 69) := snd_lcmp dX2_compare_68
theorem s_X2_compare_69 : Snd PG.nam M86 69 (m_ifz (fun x => if x = 0 then 72 else 82)) := snd_if_ne dX2_compare_69 (by decide)
theorem s_X2_compare_72 : Snd PG.nam M86 72 (m_lload 4 74) := snd_lload dX2_compare_72
theorem s_X2_compare_74 : Snd PG.nam M86 74 (m_const (.int (nI 8)) 76) := snd_bipush dX2_compare_74 (by decide)
theorem s_X2_compare_76 : Snd PG.nam M86 76 (m_lsh (fun a b => a <<< (b.toInt64 &&& 63)) 77) := snd_lshl dX2_compare_76
theorem s_X2_compare_77 : Snd PG.nam M86 77 (m_lstore 4 79) := snd_lstore dX2_compare_77 (by decide)
theorem s_X2_compare_79 : Snd PG.nam M86 79 (m_goto 62) := snd_goto dX2_compare_79 (by decide)
theorem s_X2_compare_82 : Snd PG.nam M86 82 (m_lload 6 84) := snd_lload dX2_compare_82
theorem s_X2_compare_84 : Snd PG.nam M86 84 (m_const (.int (nI 56)) 86) := snd_bipush dX2_compare_84 (by decide)
theorem s_X2_compare_86 : Snd PG.nam M86 86 (m_lsh (fun a b => a >>> (b.toInt64 &&& 63)) 87) := snd_lshr dX2_compare_86
theorem s_X2_compare_87 : Snd PG.nam M86 87 (m_const (.long (0 : Int64)) 88) := snd_lconst dX2_compare_87 (by decide)
theorem s_X2_compare_88 : Snd PG.nam M86 88 (m_lcmp 89) := snd_lcmp dX2_compare_88
theorem s_X2_compare_89 : Snd PG.nam M86 89 (m_ifz (fun x => if x = 0 then 92 else 102)) := snd_if_ne dX2_compare_89 (by decide)
theorem s_X2_compare_92 : Snd PG.nam M86 92 (m_lload 6 94) := snd_lload dX2_compare_92
theorem s_X2_compare_94 : Snd PG.nam M86 94 (m_const (.int (nI 8)) 96) := snd_bipush dX2_compare_94 (by decide)
theorem s_X2_compare_96 : Snd PG.nam M86 96 (m_lsh (fun a b => a <<< (b.toInt64 &&& 63)) 97) := snd_lshl dX2_compare_96
theorem s_X2_compare_97 : Snd PG.nam M86 97 (m_lstore 6 99) := snd_lstore dX2_compare_97 (by decide)
theorem s_X2_compare_99 : Snd PG.nam M86 99 (m_goto 82) := snd_goto dX2_compare_99 (by decide)
theorem s_X2_compare_102 : Snd PG.nam M86 102 (m_lload 4 104) := snd_lload dX2_compare_102
theorem s_X2_compare_104 : Snd PG.nam M86 104 (m_lload 6 106) := snd_lload dX2_compare_104
theorem s_X2_compare_106 : Snd PG.nam M86 106 (m_lcmp 107) := snd_lcmp dX2_compare_106
theorem s_X2_compare_107 : Snd PG.nam M86 107 (m_ifz (fun x => if x < 0 then 110 else 114)) := snd_if_ge dX2_compare_107 (by decide)
theorem s_X2_compare_110 : Snd PG.nam M86 110 (m_const (.int (-1)) 111) := snd_iconst dX2_compare_110 (by decide)
theorem s_X2_compare_111 : Snd PG.nam M86 111 (m_goto 115) := snd_goto dX2_compare_111 (by decide)
theorem s_X2_compare_114 : Snd PG.nam M86 114 (m_const (.int (nI 1)) 115) := snd_iconst dX2_compare_114 (by decide)
theorem s_X2_compare_115 : Snd PG.nam M86 115 (m_iret .int) := snd_iret dX2_compare_115 rfl
theorem T86 : ∀ q ∈ S86, Snd PG.nam M86 q.1 q.2 := List.forall_mem_cons.mpr ⟨s_X2_compare_0, List.forall_mem_cons.mpr ⟨s_X2_compare_1, List.forall_mem_cons.mpr ⟨s_X2_compare_2, List.forall_mem_cons.mpr ⟨s_X2_compare_3, List.forall_mem_cons.mpr ⟨s_X2_compare_6, List.forall_mem_cons.mpr ⟨s_X2_compare_7, List.forall_mem_cons.mpr ⟨s_X2_compare_8, List.forall_mem_cons.mpr ⟨s_X2_compare_9, List.forall_mem_cons.mpr ⟨s_X2_compare_10, List.forall_mem_cons.mpr ⟨s_X2_compare_11, List.forall_mem_cons.mpr ⟨s_X2_compare_14, List.forall_mem_cons.mpr ⟨s_X2_compare_15, List.forall_mem_cons.mpr ⟨s_X2_compare_16, List.forall_mem_cons.mpr ⟨s_X2_compare_17, List.forall_mem_cons.mpr ⟨s_X2_compare_20, List.forall_mem_cons.mpr ⟨s_X2_compare_21, List.forall_mem_cons.mpr ⟨s_X2_compare_22, List.forall_mem_cons.mpr ⟨s_X2_compare_23, List.forall_mem_cons.mpr ⟨s_X2_compare_26, List.forall_mem_cons.mpr ⟨s_X2_compare_27, List.forall_mem_cons.mpr ⟨s_X2_compare_28, List.forall_mem_cons.mpr ⟨s_X2_compare_29, List.forall_mem_cons.mpr ⟨s_X2_compare_32, List.forall_mem_cons.mpr ⟨s_X2_compare_33, List.forall_mem_cons.mpr ⟨s_X2_compare_34, List.forall_mem_cons.mpr ⟨s_X2_compare_35, List.forall_mem_cons.mpr ⟨s_X2_compare_38, List.forall_mem_cons.mpr ⟨s_X2_compare_39, List.forall_mem_cons.mpr ⟨s_X2_compare_42, List.forall_mem_cons.mpr ⟨s_X2_compare_43, List.forall_mem_cons.mpr ⟨s_X2_compare_44, List.forall_mem_cons.mpr ⟨s_X2_compare_45, List.forall_mem_cons.mpr ⟨s_X2_compare_46, List.forall_mem_cons.mpr ⟨s_X2_compare_47, List.forall_mem_cons.mpr ⟨s_X2_compare_50, List.forall_mem_cons.mpr ⟨s_X2_compare_51, List.forall_mem_cons.mpr ⟨s_X2_compare_54, List.forall_mem_cons.mpr ⟨s_X2_compare_55, List.forall_mem_cons.mpr ⟨s_X2_compare_56, List.forall_mem_cons.mpr ⟨s_X2_compare_57, List.forall_mem_cons.mpr ⟨s_X2_compare_59, List.forall_mem_cons.mpr ⟨s_X2_compare_60, List.forall_mem_cons.mpr ⟨s_X2_compare_62, List.forall_mem_cons.mpr ⟨s_X2_compare_64, List.forall_mem_cons.mpr ⟨s_X2_compare_66, List.forall_mem_cons.mpr ⟨s_X2_compare_67, List.forall_mem_cons.mpr ⟨s_X2_compare_68, List.forall_mem_cons.mpr ⟨s_X2_compare_69, List.forall_mem_cons.mpr ⟨s_X2_compare_72, List.forall_mem_cons.mpr ⟨s_X2_compare_74, List.forall_mem_cons.mpr ⟨s_X2_compare_76, List.forall_mem_cons.mpr ⟨s_X2_compare_77, List.forall_mem_cons.mpr ⟨s_X2_compare_79, List.forall_mem_cons.mpr ⟨s_X2_compare_82, List.forall_mem_cons.mpr ⟨s_X2_compare_84, List.forall_mem_cons.mpr ⟨s_X2_compare_86, List.forall_mem_cons.mpr ⟨s_X2_compare_87, List.forall_mem_cons.mpr ⟨s_X2_compare_88, List.forall_mem_cons.mpr ⟨s_X2_compare_89, List.forall_mem_cons.mpr ⟨s_X2_compare_92, List.forall_mem_cons.mpr ⟨s_X2_compare_94, List.forall_mem_cons.mpr ⟨s_X2_compare_96, List.forall_mem_cons.mpr ⟨s_X2_compare_97, List.forall_mem_cons.mpr ⟨s_X2_compare_99, List.forall_mem_cons.mpr ⟨s_X2_compare_102, List.forall_mem_cons.mpr ⟨s_X2_compare_104, List.forall_mem_cons.mpr ⟨s_X2_compare_106, List.forall_mem_cons.mpr ⟨s_X2_compare_107, List.forall_mem_cons.mpr ⟨s_X2_compare_110, List.forall_mem_cons.mpr ⟨s_X2_compare_111, List.forall_mem_cons.mpr ⟨s_X2_compare_114, List.forall_mem_cons.mpr ⟨s_X2_compare_115, (fun q hq => absurd hq List.not_mem_nil)⟩⟩⟩⟩⟩⟩⟩⟩⟩⟩⟩⟩⟩⟩⟩⟩⟩⟩⟩⟩⟩⟩⟩⟩⟩⟩⟩⟩⟩⟩⟩⟩⟩⟩⟩⟩⟩⟩⟩⟩⟩⟩⟩⟩⟩⟩⟩⟩⟩⟩⟩⟩⟩⟩⟩⟩⟩⟩⟩⟩⟩⟩⟩⟩⟩⟩⟩⟩⟩⟩⟩⟩
theorem s_X2_makeRows_0 : Snd PG.nam M87 0 (m_aload 0 1) := snd_aload_n dX2_makeRows_0 rfl
theorem s_X2_makeRows_1 : Snd PG.nam M87 1 (m_getf [(1, 49)] 4) := snd_getf dX2_makeRows_1 fd_X2_76
theorem s_X2_makeRows_4 : Snd PG.nam M87 4 (m_const (.int (nI 0)) 5) := snd_iconst dX2_makeRows_4 (by decide)
theorem s_X2_makeRows_5 : Snd PG.nam M87 5 (m_iald [.int] 6) := snd_iald dX2_makeRows_5
theorem s_X2_makeRows_6 : Snd PG.nam M87 6 (m_istore 1 7) := snd_istore_n dX2_makeRows_6 rfl (by decide)
theorem s_X2_makeRows_7 : Snd PG.nam M87 7 (m_const (.int (nI 0)) 8) := snd_iconst dX2_makeRows_7 (by decide)
theorem s_X2_makeRows_8 : Snd PG.nam M87 8 (m_istore 2 9) := snd_istore_n dX2_makeRows_8 rfl (by decide)
theorem s_X2_makeRows_9 : Snd PG.nam M87 9 (m_iload 2 10) := snd_iload_n dX2_makeRows_9 rfl
theorem s_X2_makeRows_10 : Snd PG.nam M87 10 (m_iload 1 11) := snd_iload_n dX2_makeRows_10 rfl
theorem s_X2_makeRows_11 : Snd PG.nam M87 11 (m_icmp (fun x z => if x < z then 14 else 69)) := snd_icmp_ge dX2_makeRows_11 (by decide)
theorem s_X2_makeRows_14 : Snd PG.nam M87 14 (m_iload 2 15) := snd_iload_n dX2_makeRows_14 rfl
theorem s_X2_makeRows_15 : Snd PG.nam M87 15 (m_istore 3 16) := snd_istore_n dX2_makeRows_15 rfl (by decide)
theorem s_X2_makeRows_16 : Snd PG.nam M87 16 (m_iload 3 17) := snd_iload_n dX2_makeRows_16 rfl
theorem s_X2_makeRows_17 : Snd PG.nam M87 17 (m_ifz (fun x => if 0 < x then 20 else 56)) := snd_if_le dX2_makeRows_17 (by decide)
theorem s_X2_makeRows_20 : Snd PG.nam M87 20 (m_aload 0 21) := snd_aload_n dX2_makeRows_20 rfl
theorem s_X2_makeRows_21 : Snd PG.nam M87 21 (m_iload 2 22) := snd_iload_n dX2_makeRows_21 rfl
theorem s_X2_makeRows_22 : Snd PG.nam M87 22 (m_aload 0 23) := snd_aload_n dX2_makeRows_22 rfl
theorem s_X2_makeRows_23 : Snd PG.nam M87 23 (m_getf [(1, 54)] 26) := snd_getf dX2_makeRows_23 fd_X2_85
theorem s_X2_makeRows_26 : Snd PG.nam M87 26 (m_iload 3 27) := snd_iload_n dX2_makeRows_26 rfl
theorem s_X2_makeRows_27 : Snd PG.nam M87 27 (m_const (.int (nI 1)) 28) := snd_iconst dX2_makeRows_27 (by decide)
theorem s_X2_makeRows_28 : Snd PG.nam M87 28 (m_ibin (fun a b => a - b) 29) := snd_isub dX2_makeRows_28
theorem s_X2_makeRows_29 : Snd PG.nam M87 29 (m_iald [.int] 30) := snd_iald dX2_makeRows_29
theorem s_X2_makeRows_30 : Snd PG.nam M87 30 (m_callV false [(1, 88)] 2 33) := snd_callV (nam := PG.nam) (List.forall_mem_cons.mpr ⟨dr_V (ym := PG.nam 88) dX2_makeRows_30 (Or.inl w1802) mi_88 rfl (lw_all_tbl qs59), (fun q hq => absurd hq List.not_mem_nil)⟩) (by decide)
theorem s_X2_makeRows_33 : Snd PG.nam M87 33 (m_ifz (fun x => if x = 0 then 56 else 36)) := snd_if_eq dX2_makeRows_33 (by decide)
theorem s_X2_makeRows_36 : Snd PG.nam M87 36 (m_aload 0 37) := snd_aload_n dX2_makeRows_36 rfl
theorem s_X2_makeRows_37 : Snd PG.nam M87 37 (m_getf [(1, 54)] 40) := snd_getf dX2_makeRows_37 fd_X2_85
theorem s_X2_makeRows_40 : Snd PG.nam M87 40 (m_iload 3 41) := snd_iload_n dX2_makeRows_40 rfl
theorem s_X2_makeRows_41 : Snd PG.nam M87 41 (m_aload 0 42) := snd_aload_n dX2_makeRows_41 rfl
theorem s_X2_makeRows_42 : Snd PG.nam M87 42 (m_getf [(1, 54)] 45) := snd_getf dX2_makeRows_42 fd_X2_85
theorem s_X2_makeRows_45 : Snd PG.nam M87 45 (m_iload 3 46) := snd_iload_n dX2_makeRows_45 rfl
theorem s_X2_makeRows_46 : Snd PG.nam M87 46 (m_const (.int (nI 1)) 47) := snd_iconst dX2_makeRows_46 (by decide)
theorem s_X2_makeRows_47 : Snd PG.nam M87 47 (m_ibin (fun a b => a - b) 48) := snd_isub dX2_makeRows_47
theorem s_X2_makeRows_48 : Snd PG.nam M87 48 (m_iald [.int] 49) := snd_iald dX2_makeRows_48
theorem s_X2_makeRows_49 : Snd PG.nam M87 49 (m_iast [.int] 50) := snd_iast dX2_makeRows_49
theorem s_X2_makeRows_50 : Snd PG.nam M87 50 (m_iinc 3 (-1) 53) := snd_iinc dX2_makeRows_50 (by decide) (by decide)
theorem s_X2_makeRows_53 : Snd PG.nam M87 53 (m_goto 16) := snd_goto dX2_makeRows_53 (by decide)
theorem s_X2_makeRows_56 : Snd PG.nam M87 56 (m_aload 0 57) := snd_aload_n dX2_makeRows_56 rfl
theorem s_X2_makeRows_57 : Snd PG.nam M87 57 (m_getf [(1, 54)] 60) := snd_getf dX2_makeRows_57 fd_X2_85
theorem s_X2_makeRows_60 : Snd PG.nam M87 60 (m_iload 3 61) := snd_iload_n dX2_makeRows_60 rfl
theorem s_X2_makeRows_61 : Snd PG.nam M87 61 (m_iload 2 62) := snd_iload_n dX2_makeRows_61 rfl
theorem s_X2_makeRows_62 : Snd PG.nam M87 62 (m_iast [.int] 63) := snd_iast dX2_makeRows_62
theorem s_X2_makeRows_63 : Snd PG.nam M87 63 (m_iinc 2 (nI 1) 66) := snd_iinc dX2_makeRows_63 (by decide) (by decide)
theorem s_X2_makeRows_66 : Snd PG.nam M87 66 (m_goto 9) := snd_goto dX2_makeRows_66 (by decide)
theorem s_X2_makeRows_69 : Snd PG.nam M87 69 (m_const (.int (nI 0)) 70) := snd_iconst dX2_makeRows_69 (by decide)
theorem s_X2_makeRows_70 : Snd PG.nam M87 70 (m_istore 2 71) := snd_istore_n dX2_makeRows_70 rfl (by decide)
theorem s_X2_makeRows_71 : Snd PG.nam M87 71 (m_iload 2 72) := snd_iload_n dX2_makeRows_71 rfl
theorem s_X2_makeRows_72 : Snd PG.nam M87 72 (m_iload 1 73) := snd_iload_n dX2_makeRows_72 rfl
theorem s_X2_makeRows_73 : Snd PG.nam M87 73 (m_icmp (fun x z => if x < z then 76 else 221)) := snd_icmp_ge dX2_makeRows_73 (by decide)
theorem s_X2_makeRows_76 : Snd PG.nam M87 76 (m_aload 0 77) := snd_aload_n dX2_makeRows_76 rfl
theorem s_X2_makeRows_77 : Snd PG.nam M87 77 (m_getf [(1, 55)] 80) := snd_getf dX2_makeRows_77 fd_X2_358
theorem s_X2_makeRows_80 : Snd PG.nam M87 80 (m_aload 0 81) := snd_aload_n dX2_makeRows_80 rfl
theorem s_X2_makeRows_81 : Snd PG.nam M87 81 (m_getf [(1, 46)] 84) := snd_getf dX2_makeRows_81 fd_X2_308
theorem s_X2_makeRows_84 : Snd PG.nam M87 84 (m_icmp (fun x z => if x < z then 87 else 221)) := snd_icmp_ge dX2_makeRows_84 (by decide)
theorem s_X2_makeRows_87 : Snd PG.nam M87 87 (m_const (.int (nI 0)) 88) := snd_iconst dX2_makeRows_87 (by decide)
theorem s_X2_makeRows_88 : Snd PG.nam M87 88 (m_istore 3 89) := snd_istore_n dX2_makeRows_88 rfl (by decide)
theorem s_X2_makeRows_89 : Snd PG.nam M87 89 (m_const (.int (nI 0)) 90) := snd_iconst dX2_makeRows_89 (by decide)
theorem s_X2_makeRows_90 : Snd PG.nam M87 90 (m_istore 4 92) := snd_istore dX2_makeRows_90 (by decide)
theorem s_X2_makeRows_92 : Snd PG.nam M87 92 (m_iload 4 94) := snd_iload dX2_makeRows_92
theorem s_X2_makeRows_94 : Snd PG.nam M87 94 (m_iload 2 95) := snd_iload_n dX2_makeRows_94 rfl
theorem s_X2_makeRows_95 : Snd PG.nam M87 95 (m_icmp (fun x z => if x < z then 98 else 126)) := snd_icmp_ge dX2_makeRows_95 (by decide)
theorem s_X2_makeRows_98 : Snd PG.nam M87 98 (m_aload 0 99) := snd_aload_n dX2_makeRows_98 rfl
theorem s_X2_makeRows_99 : Snd PG.nam M87 99 (m_aload 0 100) := snd_aload_n dX2_makeRows_99 rfl
theorem s_X2_makeRows_100 : Snd PG.nam M87 100 (m_getf [(1, 54)] 103) := snd_getf dX2_makeRows_100 fd_X2_85
theorem s_X2_makeRows_103 : Snd PG.nam M87 103 (m_iload 4 105) := snd_iload dX2_makeRows_103
theorem s_X2_makeRows_105 : Snd PG.nam M87 105 (m_iald [.int] 106) := snd_iald dX2_makeRows_105
theorem s_X2_makeRows_106 : Snd PG.nam M87 106 (m_aload 0 107) := snd_aload_n dX2_makeRows_106 rfl
theorem s_X2_makeRows_107 : Snd PG.nam M87 107 (m_getf [(1, 54)] 110) := snd_getf dX2_makeRows_107 fd_X2_85
theorem s_X2_makeRows_110 : Snd PG.nam M87 110 (m_iload 2 111) := snd_iload_n dX2_makeRows_110 rfl
theorem s_X2_makeRows_111 : Snd PG.nam M87 111 (m_iald [.int] 112) := snd_iald dX2_makeRows_111
theorem s_X2_makeRows_112 : Snd PG.nam M87 112 (m_callV false [(1, 90)] 2 115) := snd_callV (nam := PG.nam) (List.forall_mem_cons.mpr ⟨dr_V (ym := PG.nam 90) dX2_makeRows_112 (Or.inl w1810) mi_90 rfl (lw_all_tbl qs61), (fun q hq => absurd hq List.not_mem_nil)⟩) (by decide)
theorem s_X2_makeRows_115 : Snd PG.nam M87 115 (m_ifz (fun x => if x = 0 then 118 else 120)) := snd_if_ne dX2_makeRows_115 (by decide)
theorem s_X2_makeRows_118 : Snd PG.nam M87 118 (m_const (.int (nI 1)) 119) := snd_iconst dX2_makeRows_118 (by decide)
theorem s_X2_makeRows_119 : Snd PG.nam M87 119 (m_istore 3 120) := snd_istore_n dX2_makeRows_119 rfl (by decide)
theorem s_X2_makeRows_120 : Snd PG.nam M87 120 (m_iinc 4 (nI 1) 123) := snd_iinc dX2_makeRows_120 (by decide) (by decide)
theorem s_X2_makeRows_123 : Snd PG.nam M87 123 (m_goto 92) := snd_goto dX2_makeRows_123 (by decide)
theorem s_X2_makeRows_126 : Snd PG.nam M87 126 (m_aload 0 127) := snd_aload_n dX2_makeRows_126 rfl
theorem s_X2_makeRows_127 : Snd PG.nam M87 127 (m_getf [(1, 43)] 130) := snd_getf dX2_makeRows_127 fd_X2_293
theorem s_X2_makeRows_130 : Snd PG.nam M87 130 (m_ifz (fun x => if x = 0 then 137 else 133)) := snd_if_eq dX2_makeRows_130 (by decide)
theorem s_X2_makeRows_133 : Snd PG.nam M87 133 (m_iload 3 134) := snd_iload_n dX2_makeRows_133 rfl
theorem s_X2_makeRows_134 : Snd PG.nam M87 134 (m_ifz (fun x => if x = 0 then 137 else 215)) := snd_if_ne dX2_makeRows_134 (by decide)
theorem s_X2_makeRows_137 : Snd PG.nam M87 137 (m_const (.int (nI 0)) 138) := snd_iconst dX2_makeRows_137 (by decide)
theorem s_X2_makeRows_138 : Snd PG.nam M87 138 (m_istore 4 140) := snd_istore dX2_makeRows_138 (by decide)
theorem s_X2_makeRows_140 : Snd PG.nam M87 140 (m_iload 4 142) := snd_iload dX2_makeRows_140
theorem s_X2_makeRows_142 : Snd PG.nam M87 142 (m_const (.int (nI 6)) 144) := snd_bipush dX2_makeRows_142 (by decide)
theorem s_X2_makeRows_144 : Snd PG.nam M87 144 (m_icmp (fun x z => if x < z then 147 else 185)) := snd_icmp_ge dX2_makeRows_144 (by decide)
theorem s_X2_makeRows_147 : Snd PG.nam M87 147 (m_aload 0 148) := snd_aload_n dX2_makeRows_147 rfl
theorem s_X2_makeRows_148 : Snd PG.nam M87 148 (m_getf [(1, 52)] 151) := snd_getf dX2_makeRows_148 fd_X2_79
theorem s_X2_makeRows_151 : Snd PG.nam M87 151 (m_const (.int (nI 6)) 153) := snd_bipush dX2_makeRows_151 (by decide)
theorem s_X2_makeRows_153 : Snd PG.nam M87 153 (m_aload 0 154) := snd_aload_n dX2_makeRows_153 rfl
theorem s_X2_makeRows_154 : Snd PG.nam M87 154 (m_getf [(1, 55)] 157) := snd_getf dX2_makeRows_154 fd_X2_358
theorem s_X2_makeRows_157 : Snd PG.nam M87 157 (m_ibin (fun a b => a * b) 158) := snd_imul dX2_makeRows_157
theorem s_X2_makeRows_158 : Snd PG.nam M87 158 (m_iload 4 160) := snd_iload dX2_makeRows_158
theorem s_X2_makeRows_160 : Snd PG.nam M87 160 (m_ibin (fun a b => a + b) 161) := snd_iadd dX2_makeRows_160
theorem s_X2_makeRows_161 : Snd PG.nam M87 161 (m_aload 0 162) := snd_aload_n dX2_makeRows_161 rfl
theorem s_X2_makeRows_162 : Snd PG.nam M87 162 (m_getf [(1, 47)] 165) := snd_getf dX2_makeRows_162 fd_X2_70
theorem s_X2_makeRows_165 : Snd PG.nam M87 165 (m_const (.int (nI 6)) 167) := snd_bipush dX2_makeRows_165 (by decide)
theorem s_X2_makeRows_167 : Snd PG.nam M87 167 (m_aload 0 168) := snd_aload_n dX2_makeRows_167 rfl
theorem s_X2_makeRows_168 : Snd PG.nam M87 168 (m_getf [(1, 54)] 171) := snd_getf dX2_makeRows_168 fd_X2_85
theorem s_X2_makeRows_171 : Snd PG.nam M87 171 (m_iload 2 172) := snd_iload_n dX2_makeRows_171 rfl
theorem s_X2_makeRows_172 : Snd PG.nam M87 172 (m_iald [.int] 173) := snd_iald dX2_makeRows_172
theorem s_X2_makeRows_173 : Snd PG.nam M87 173 (m_ibin (fun a b => a * b) 174) := snd_imul dX2_makeRows_173
theorem s_X2_makeRows_174 : Snd PG.nam M87 174 (m_iload 4 176) := snd_iload dX2_makeRows_174
theorem s_X2_makeRows_176 : Snd PG.nam M87 176 (m_ibin (fun a b => a + b) 177) := snd_iadd dX2_makeRows_176
theorem s_X2_makeRows_177 : Snd PG.nam M87 177 (m_lald 178) := snd_lald dX2_makeRows_177
theorem s_X2_makeRows_178 : Snd PG.nam M87 178 (m_last 179) := snd_last dX2_makeRows_178
theorem s_X2_makeRows_179 : Snd PG.nam M87 179 (m_iinc 4 (nI 1) 182) := snd_iinc dX2_makeRows_179 (by decide) (by decide)
theorem s_X2_makeRows_182 : Snd PG.nam M87 182 (m_goto 140) := snd_goto dX2_makeRows_182 (by decide)
theorem s_X2_makeRows_185 : Snd PG.nam M87 185 (m_aload 0 186) := snd_aload_n dX2_makeRows_185 rfl
theorem s_X2_makeRows_186 : Snd PG.nam M87 186 (m_getf [(1, 53)] 189) := snd_getf dX2_makeRows_186 fd_X2_82
theorem s_X2_makeRows_189 : Snd PG.nam M87 189 (m_aload 0 190) := snd_aload_n dX2_makeRows_189 rfl
theorem s_X2_makeRows_190 : Snd PG.nam M87 190 (m_getf [(1, 55)] 193) := snd_getf dX2_makeRows_190 fd_X2_358
theorem s_X2_makeRows_193 : Snd PG.nam M87 193 (m_aload 0 194) := snd_aload_n dX2_makeRows_193 rfl
theorem s_X2_makeRows_194 : Snd PG.nam M87 194 (m_getf [(1, 48)] 197) := snd_getf dX2_makeRows_194 fd_X2_73
theorem s_X2_makeRows_197 : Snd PG.nam M87 197 (m_aload 0 198) := snd_aload_n dX2_makeRows_197 rfl
theorem s_X2_makeRows_198 : Snd PG.nam M87 198 (m_getf [(1, 54)] 201) := snd_getf dX2_makeRows_198 fd_X2_85
theorem s_X2_makeRows_201 : Snd PG.nam M87 201 (m_iload 2 202) := snd_iload_n dX2_makeRows_201 rfl
theorem s_X2_makeRows_202 : Snd PG.nam M87 202 (m_iald [.int] 203) := snd_iald dX2_makeRows_202
theorem s_X2_makeRows_203 : Snd PG.nam M87 203 (m_iald [.int] 204) := snd_iald dX2_makeRows_203
theorem s_X2_makeRows_204 : Snd PG.nam M87 204 (m_iast [.int] 205) := snd_iast dX2_makeRows_204
theorem s_X2_makeRows_205 : Snd PG.nam M87 205 (m_aload 0 206) := snd_aload_n dX2_makeRows_205 rfl
theorem s_X2_makeRows_206 : Snd PG.nam M87 206 (m_dup 207) := snd_dup dX2_makeRows_206
theorem s_X2_makeRows_207 : Snd PG.nam M87 207 (m_getf [(1, 55)] 210) := snd_getf dX2_makeRows_207 fd_X2_358
theorem s_X2_makeRows_210 : Snd PG.nam M87 210 (m_const (.int (nI 1)) 211) := snd_iconst dX2_makeRows_210 (by decide)
theorem s_X2_makeRows_211 : Snd PG.nam M87 211 (m_ibin (fun a b => a + b) 212) := snd_iadd dX2_makeRows_211
theorem s_X2_makeRows_212 : Snd PG.nam M87 212 (m_putf [(1, 55)] .int 215) := snd_putf dX2_makeRows_212 fd_X2_358
theorem s_X2_makeRows_215 : Snd PG.nam M87 215 (m_iinc 2 (nI 1) 218) := snd_iinc dX2_makeRows_215 (by decide) (by decide)
theorem s_X2_makeRows_218 : Snd PG.nam M87 218 (m_goto 71) := snd_goto dX2_makeRows_218 (by decide)
theorem s_X2_makeRows_221 : Snd PG.nam M87 221 (m_vret) := snd_vret dX2_makeRows_221 rfl
theorem T87 : ∀ q ∈ S87, Snd PG.nam M87 q.1 q.2 := List.forall_mem_cons.mpr ⟨s_X2_makeRows_0, List.forall_mem_cons.mpr ⟨s_X2_makeRows_1, List.forall_mem_cons.mpr ⟨s_X2_makeRows_4, List.forall_mem_cons.mpr ⟨s_X2_makeRows_5, List.forall_mem_cons.mpr ⟨s_X2_makeRows_6, List.forall_mem_cons.mpr ⟨s_X2_makeRows_7, List.forall_mem_cons.mpr ⟨s_X2_makeRows_8, List.forall_mem_cons.mpr ⟨s_X2_makeRows_9, List.forall_mem_cons.mpr ⟨s_X2_makeRows_10, List.forall_mem_cons.mpr ⟨s_X2_makeRows_11, List.forall_mem_cons.mpr ⟨s_X2_makeRows_14, List.forall_mem_cons.mpr ⟨s_X2_makeRows_15, List.forall_mem_cons.mpr ⟨s_X2_makeRows_16, List.forall_mem_cons.mpr ⟨s_X2_makeRows_17, List.forall_mem_cons.mpr ⟨s_X2_makeRows_20, List.forall_mem_cons.mpr ⟨s_X2_makeRows_21, List.forall_mem_cons.mpr ⟨s_X2_makeRows_22, List.forall_mem_cons.mpr ⟨s_X2_makeRows_23, List.forall_mem_cons.mpr ⟨s_X2_makeRows_26, List.forall_mem_cons.mpr ⟨s_X2_makeRows_27, List.forall_mem_cons.mpr ⟨s_X2_makeRows_28, List.forall_mem_cons.mpr ⟨s_X2_makeRows_29, List.forall_mem_cons.mpr ⟨s_X2_makeRows_30, List.forall_mem_cons.mpr ⟨s_X2_makeRows_33, List.forall_mem_cons.mpr ⟨s_X2_makeRows_36, List.forall_mem_cons.mpr ⟨s_X2_makeRows_37, List.forall_mem_cons.mpr ⟨s_X2_makeRows_40, List.forall_mem_cons.mpr ⟨s_X2_makeRows_41, List.forall_mem_cons.mpr ⟨s_X2_makeRows_42, List.forall_mem_cons.mpr ⟨s_X2_makeRows_45, List.forall_mem_cons.mpr ⟨s_X2_makeRows_46, List.forall_mem_cons.mpr ⟨s_X2_makeRows_47, List.forall_mem_cons.mpr ⟨s_X2_makeRows_48, List.forall_mem_cons.mpr ⟨s_X2_makeRows_49, List.forall_mem_cons.mpr ⟨s_X2_makeRows_50, List.forall_mem_cons.mpr ⟨s_X2_makeRows_53, List.forall_mem_cons.mpr ⟨s_X2_makeRows_56, List.forall_mem_cons.mpr ⟨s_X2_makeRows_57, List.forall_mem_cons.mpr ⟨s_X2_makeRows_60, List.forall_mem_cons.mpr ⟨s_X2_makeRows_61, List.forall_mem_cons.mpr ⟨s_X2_makeRows_62, List.forall_mem_cons.mpr ⟨s_X2_makeRows_63, List.forall_mem_cons.mpr ⟨s_X2_makeRows_66, List.forall_mem_cons.mpr ⟨s_X2_makeRows_69, List.forall_mem_cons.mpr ⟨s_X2_makeRows_70, List.forall_mem_cons.mpr ⟨s_X2_makeRows_71, List.forall_mem_cons.mpr ⟨s_X2_makeRows_72, List.forall_mem_cons.mpr ⟨s_X2_makeRows_73, List.forall_mem_cons.mpr ⟨s_X2_makeRows_76, List.forall_mem_cons.mpr ⟨s_X2_makeRows_77, List.forall_mem_cons.mpr ⟨s_X2_makeRows_80, List.forall_mem_cons.mpr ⟨s_X2_makeRows_81, List.forall_mem_cons.mpr ⟨s_X2_makeRows_84, List.forall_mem_cons.mpr ⟨s_X2_makeRows_87, List.forall_mem_cons.mpr ⟨s_X2_makeRows_88, List.forall_mem_cons.mpr ⟨s_X2_makeRows_89, List.forall_mem_cons.mpr ⟨s_X2_makeRows_90, List.forall_mem_cons.mpr ⟨s_X2_makeRows_92, List.forall_mem_cons.mpr ⟨s_X2_makeRows_94, List.forall_mem_cons.mpr ⟨s_X2_makeRows_95, List.forall_mem_cons.mpr ⟨s_X2_makeRows_98, List.forall_mem_cons.mpr ⟨s_X2_makeRows_99, List.forall_mem_cons.mpr ⟨s_X2_makeRows_100, List.forall_mem_cons.mpr ⟨s_X2_makeRows_103, List.forall_mem_cons.mpr ⟨s_X2_makeRows_105, List.forall_mem_cons.mpr ⟨s_X2_makeRows_106, List.forall_mem_cons.mpr ⟨s_X2_makeRows_107, List.forall_mem_cons.mpr ⟨s_X2_makeRows_110, List.forall_mem_cons.mpr ⟨s_X2_makeRows_111, List.forall_mem_cons.mpr ⟨s_X2_makeRows_112, List.forall_mem_cons.mpr ⟨s_X2_makeRows_115, List.forall_mem_cons.mpr ⟨s_X2_makeRows_118, List.forall_mem_cons.mpr ⟨s_X2_makeRows_119, List.forall_mem_cons.mpr ⟨s_X2_makeRows_120, List.forall_mem_cons.mpr ⟨s_X2_makeRows_123, List.forall_mem_cons.mpr ⟨s_X2_makeRows_126, List.forall_mem_cons.mpr ⟨s_X2_makeRows_127, List.forall_mem_cons.mpr ⟨s_X2_makeRows_130, List.forall_mem_cons.mpr ⟨s_X2_makeRows_133, List.forall_mem_cons.mpr ⟨s_X2_makeRows_134, List.forall_mem_cons.mpr ⟨s_X2_makeRows_137, List.forall_mem_cons.mpr ⟨s_X2_makeRows_138, List.forall_mem_cons.mpr ⟨s_X2_makeRows_140, List.forall_mem_cons.mpr ⟨s_X2_makeRows_142, List.forall_mem_cons.mpr ⟨s_X2_makeRows_144, List.forall_mem_cons.mpr ⟨s_X2_makeRows_147, List.forall_mem_cons.mpr ⟨s_X2_makeRows_148, List.forall_mem_cons.mpr ⟨s_X2_makeRows_151, List.forall_mem_cons.mpr ⟨s_X2_makeRows_153, List.forall_mem_cons.mpr ⟨s_X2_makeRows_154, List.forall_mem_cons.mpr ⟨s_X2_makeRows_157, List.forall_mem_cons.mpr ⟨s_X2_makeRows_158, List.forall_mem_cons.mpr ⟨s_X2_makeRows_160, List.forall_mem_cons.mpr ⟨s_X2_makeRows_161, List.forall_mem_cons.mpr ⟨s_X2_makeRows_162, List.forall_mem_cons.mpr ⟨s_X2_makeRows_165, List.forall_mem_cons.mpr ⟨s_X2_makeRows_167, List.forall_mem_cons.mpr ⟨s_X2_makeRows_168, List.forall_mem_cons.mpr ⟨s_X2_makeRows_171, List.forall_mem_cons.mpr ⟨s_X2_makeRows_172, List.forall_mem_cons.mpr ⟨s_X2_makeRows_173, List.forall_mem_cons.mpr ⟨s_X2_makeRows_174, List.forall_mem_cons.mpr ⟨s_X2_makeRows_176, List.forall_mem_cons.mpr ⟨s_X2_makeRows_177, List.forall_mem_cons.mpr ⟨s_X2_makeRows_178, List.forall_mem_cons.mpr ⟨s_X2_makeRows_179, List.forall_mem_cons.mpr ⟨s_X2_makeRows_182, List.forall_mem_cons.mpr ⟨s_X2_makeRows_185, List.forall_mem_cons.mpr ⟨s_X2_makeRows_186, List.forall_mem_cons.mpr ⟨s_X2_makeRows_189, List.forall_mem_cons.mpr ⟨s_X2_makeRows_190, List.forall_mem_cons.mpr ⟨s_X2_makeRows_193, List.forall_mem_cons.mpr ⟨s_X2_makeRows_194, List.forall_mem_cons.mpr ⟨s_X2_makeRows_197, List.forall_mem_cons.mpr ⟨s_X2_makeRows_198, List.forall_mem_cons.mpr ⟨s_X2_makeRows_201, List.forall_mem_cons.mpr ⟨s_X2_makeRows_202, List.forall_mem_cons.mpr ⟨s_X2_makeRows_203, List.forall_mem_cons.mpr ⟨s_X2_makeRows_204, List.forall_mem_cons.mpr ⟨s_X2_makeRows_205, List.forall_mem_cons.mpr ⟨s_X2_makeRows_206, List.forall_mem_cons.mpr ⟨s_X2_makeRows_207, List.forall_mem_cons.mpr ⟨s_X2_makeRows_210, List.forall_mem_cons.mpr ⟨s_X2_makeRows_211, List.forall_mem_cons.mpr ⟨s_X2_makeRows_212, List.forall_mem_cons.mpr ⟨s_X2_makeRows_215, List.forall_mem_cons.mpr ⟨s_X2_makeRows_218, List.forall_mem_cons.mpr ⟨s_X2_makeRows_221, (fun q hq => absurd hq List.not_mem_nil)⟩⟩⟩⟩⟩⟩⟩⟩⟩⟩⟩⟩⟩⟩⟩⟩⟩⟩⟩⟩⟩⟩⟩⟩⟩⟩⟩⟩⟩⟩⟩⟩⟩⟩⟩⟩⟩⟩⟩⟩⟩⟩⟩⟩⟩⟩⟩⟩⟩⟩⟩⟩⟩⟩⟩⟩⟩⟩⟩⟩⟩⟩⟩⟩⟩⟩⟩⟩⟩⟩⟩⟩⟩⟩⟩⟩⟩⟩⟩⟩⟩⟩⟩⟩⟩⟩⟩⟩⟩⟩⟩⟩⟩⟩⟩⟩⟩⟩⟩⟩⟩⟩⟩⟩⟩⟩⟩⟩⟩⟩⟩⟩⟩⟩⟩⟩⟩⟩⟩⟩⟩⟩⟩⟩⟩⟩⟩⟩
theorem s_X2_before_0 : Snd PG.nam M88 0 (m_aload 0 1) := snd_aload_n dX2_before_0 rfl
theorem s_X2_before_1 : Snd PG.nam M88 1 (m_getf [(1, 44)] 4) := snd_getf dX2_before_1 fd_X2_302
theorem s_X2_before_4 : Snd PG.nam M88 4 (m_ifz (fun x => if x < 0 then 7 else 11)) := snd_if_ge dX2_before_4 (by decide)
theorem s_X2_before_7 : Snd PG.nam M88 7 (m_const (.int (nI 0)) 8) := snd_iconst dX2_before_7 (by decide)
theorem s_X2_before_8 : Snd PG.nam M88 8 (m_goto 21) := snd_goto dX2_before_8 (by decide)
theorem s_X2_before_11 : Snd PG.nam M88 11 (m_aload 0 12) := snd_aload_n dX2_before_11 rfl
theorem s_X2_before_12 : Snd PG.nam M88 12 (m_aload 0 13) := snd_aload_n dX2_before_12 rfl
theorem s_X2_before_13 : Snd PG.nam M88 13 (m_getf [(1, 44)] 16) := snd_getf dX2_before_13 fd_X2_302
theorem s_X2_before_16 : Snd PG.nam M88 16 (m_iload 1 17) := snd_iload_n dX2_before_16 rfl
theorem s_X2_before_17 : Snd PG.nam M88 17 (m_iload 2 18) := snd_iload_n dX2_before_17 rfl
theorem s_X2_before_18 : Snd PG.nam M88 18 (m_callV false [(1, 89)] 3 21) := snd_callV (nam := PG.nam) (List.forall_mem_cons.mpr ⟨dr_V (ym := PG.nam 89) dX2_before_18 (Or.inl w1806) mi_89 rfl (lw_all_tbl qs60), (fun q hq => absurd hq List.not_mem_nil)⟩) (by decide)
theorem s_X2_before_21 : Snd PG.nam M88 21 (m_istore 3 22) := snd_istore_n dX2_before_21 rfl (by decide)
theorem s_X2_before_22 : Snd PG.nam M88 22 (m_aload 0 23) := snd_aload_n dX2_before_22 rfl
theorem s_X2_before_23 : Snd PG.nam M88 23 (m_getf [(1, 45)] 26) := snd_getf dX2_before_23 fd_X2_305
theorem s_X2_before_26 : Snd PG.nam M88 26 (m_ifz (fun x => if x = 0 then 32 else 29)) := snd_if_eq dX2_before_26 (by decide)
theorem s_X2_before_29 : Snd PG.nam M88 29 (m_iload 3 30) := snd_iload_n dX2_before_29 rfl
theorem s_X2_before_30 : Snd PG.nam M88 30 (m_iun (fun a => -a) 31) := snd_ineg dX2_before_30
theorem s_X2_before_31 : Snd PG.nam M88 31 (m_istore 3 32) := snd_istore_n dX2_before_31 rfl (by decide)
theorem s_X2_before_32 : Snd PG.nam M88 32 (m_iload 3 33) := snd_iload_n dX2_before_32 rfl
theorem s_X2_before_33 : Snd PG.nam M88 33 (m_ifz (fun x => if x = 0 then 36 else 43)) := snd_if_ne dX2_before_33 (by decide)
theorem s_X2_before_36 : Snd PG.nam M88 36 (m_aload 0 37) := snd_aload_n dX2_before_36 rfl
theorem s_X2_before_37 : Snd PG.nam M88 37 (m_iload 1 38) := snd_iload_n dX2_before_37 rfl
theorem s_X2_before_38 : Snd PG.nam M88 38 (m_iload 2 39) := snd_iload_n dX2_before_38 rfl
theorem s_X2_before_39 : Snd PG.nam M88 39 (m_callV false [(1, 90)] 2 42) := snd_callV (nam := PG.nam) (List.forall_mem_cons.mpr ⟨dr_V (ym := PG.nam 90) dX2_before_39 (Or.inl w1810) mi_90 rfl (lw_all_tbl qs61), (fun q hq => absurd hq List.not_mem_nil)⟩) (by decide)
theorem s_X2_before_42 : Snd PG.nam M88 42 (m_istore 3 43) := snd_istore_n dX2_before_42 rfl (by decide)
theorem s_X2_before_43 : Snd PG.nam M88 43 (m_iload 3 44) := snd_iload_n dX2_before_43 rfl
theorem s_X2_before_44 : Snd PG.nam M88 44 (m_ifz (fun x => if x < 0 then 47 else 51)) := snd_if_ge dX2_before_44 (by decide)
theorem s_X2_before_47 : Snd PG.nam M88 47 (m_const (.int (nI 1)) 48) := snd_iconst dX2_before_47 (by decide)
theorem s_X2_before_48 : Snd PG.nam M88 48 (m_goto 52) := snd_goto dX2_before_48 (by decide)
theorem s_X2_before_51 : Snd PG.nam M88 51 (m_const (.int (nI 0)) 52) := snd_iconst dX2_before_51 (by decide)
theorem s_X2_before_52 : Snd PG.nam M88 52 (m_iret .boolean) := snd_iret dX2_before_52 rfl
theorem T88 : ∀ q ∈ S88, Snd PG.nam M88 q.1 q.2 := List.forall_mem_cons.mpr ⟨s_X2_before_0, List.forall_mem_cons.mpr ⟨s_X2_before_1, List.forall_mem_cons.mpr ⟨s_X2_before_4, List.forall_mem_cons.mpr ⟨s_X2_before_7, List.forall_mem_cons.mpr ⟨s_X2_before_8, List.forall_mem_cons.mpr ⟨s_X2_before_11, List.forall_mem_cons.mpr ⟨s_X2_before_12, List.forall_mem_cons.mpr ⟨s_X2_before_13, List.forall_mem_cons.mpr ⟨s_X2_before_16, List.forall_mem_cons.mpr ⟨s_X2_before_17, List.forall_mem_cons.mpr ⟨s_X2_before_18, List.forall_mem_cons.mpr ⟨s_X2_before_21, List.forall_mem_cons.mpr ⟨s_X2_before_22, List.forall_mem_cons.mpr ⟨s_X2_before_23, List.forall_mem_cons.mpr ⟨s_X2_before_26, List.forall_mem_cons.mpr ⟨s_X2_before_29, List.forall_mem_cons.mpr ⟨s_X2_before_30, List.forall_mem_cons.mpr ⟨s_X2_before_31, List.forall_mem_cons.mpr ⟨s_X2_before_32, List.forall_mem_cons.mpr ⟨s_X2_before_33, List.forall_mem_cons.mpr ⟨s_X2_before_36, List.forall_mem_cons.mpr ⟨s_X2_before_37, List.forall_mem_cons.mpr ⟨s_X2_before_38, List.forall_mem_cons.mpr ⟨s_X2_before_39, List.forall_mem_cons.mpr ⟨s_X2_before_42, List.forall_mem_cons.mpr ⟨s_X2_before_43, List.forall_mem_cons.mpr ⟨s_X2_before_44, List.forall_mem_cons.mpr ⟨s_X2_before_47, List.forall_mem_cons.mpr ⟨s_X2_before_48, List.forall_mem_cons.mpr ⟨s_X2_before_51, List.forall_mem_cons.mpr ⟨s_X2_before_52, (fun q hq => absurd hq List.not_mem_nil)⟩⟩⟩⟩⟩⟩⟩⟩⟩⟩⟩⟩⟩⟩⟩⟩⟩⟩⟩⟩⟩⟩⟩⟩⟩⟩⟩⟩⟩⟩⟩
theorem s_X2_by_0 : Snd PG.nam M89 0 (m_aload 0 1) := snd_aload_n dX2_by_0 rfl
theorem s_X2_by_1 : Snd PG.nam M89 1 (m_getf [(1, 48)] 4) := snd_getf dX2_by_1 fd_X2_73
theorem s_X2_by_4 : Snd PG.nam M89 4 (m_iload 2 5) := snd_iload_n dX2_by_4 rfl
theorem s_X2_by_5 : Snd PG.nam M89 5 (m_iald [.int] 6) := snd_iald dX2_by_5
theorem s_X2_by_6 : Snd PG.nam M89 6 (m_iload 1 7) := snd_iload_n dX2_by_6 rfl
theorem s_X2_by_7 : Snd PG.nam M89 7 (m_ibin (fun a b => a >>> (b &&& 31)) 8) := snd_ishr dX2_by_7
theorem s_X2_by_8 : Snd PG.nam M89 8 (m_const (.int (nI 1)) 9) := snd_iconst dX2_by_8 (by decide)
theorem s_X2_by_9 : Snd PG.nam M89 9 (m_ibin (fun a b => a &&& b) 10) := snd_iand dX2_by_9
theorem s_X2_by_10 : Snd PG.nam M89 10 (m_const (.int (nI 1)) 11) := snd_iconst dX2_by_10 (by decide)
theorem s_X2_by_11 : Snd PG.nam M89 11 (m_icmp (fun x z => if x = z then 14 else 18)) := snd_icmp_ne dX2_by_11 (by decide)
theorem s_X2_by_14 : Snd PG.nam M89 14 (m_const (.int (nI 1)) 15) := snd_iconst dX2_by_14 (by decide)
theorem s_X2_by_15 : Snd PG.nam M89 15 (m_goto 19) := snd_goto dX2_by_15 (by decide)
theorem s_X2_by_18 : Snd PG.nam M89 18 (m_const (.int (nI 0)) 19) := snd_iconst dX2_by_18 (by decide)
theorem s_X2_by_19 : Snd PG.nam M89 19 (m_istore 4 21) := snd_istore dX2_by_19 (by decide)
theorem s_X2_by_21 : Snd PG.nam M89 21 (m_aload 0 22) := snd_aload_n dX2_by_21 rfl
theorem s_X2_by_22 : Snd PG.nam M89 22 (m_getf [(1, 48)] 25) := snd_getf dX2_by_22 fd_X2_73
theorem s_X2_by_25 : Snd PG.nam M89 25 (m_iload 3 26) := snd_iload_n dX2_by_25 rfl
theorem s_X2_by_26 : Snd PG.nam M89 26 (m_iald [.int] 27) := snd_iald dX2_by_26
theorem s_X2_by_27 : Snd PG.nam M89 27 (m_iload 1 28) := snd_iload_n dX2_by_27 rfl
theorem s_X2_by_28 : Snd PG.nam M89 28 (m_ibin (fun a b => a >>> (b &&& 31)) 29) := snd_ishr dX2_by_28
theorem s_X2_by_29 : Snd PG.nam M89 29 (m_const (.int (nI 1)) 30) := snd_iconst dX2_by_29 (by decide)
theorem s_X2_by_30 : Snd PG.nam M89 30 (m_ibin (fun a b => a &&& b) 31) := snd_iand dX2_by_30
theorem s_X2_by_31 : Snd PG.nam M89 31 (m_const (.int (nI 1)) 32) := snd_iconst dX2_by_31 (by decide)
theorem s_X2_by_32 : Snd PG.nam M89 32 (m_icmp (fun x z => if x = z then 35 else 39)) := snd_icmp_ne dX2_by_32 (by decide)
theorem s_X2_by_35 : Snd PG.nam M89 35 (m_const (.int (nI 1)) 36) := snd_iconst dX2_by_35 (by decide)
theorem s_X2_by_36 : Snd PG.nam M89 36 (m_goto 40) := snd_goto dX2_by_36 (by decide)
theorem s_X2_by_39 : Snd PG.nam M89 39 (m_const (.int (nI 0)) 40) := snd_iconst dX2_by_39 (by decide)
theorem s_X2_by_40 : Snd PG.nam M89 40 (m_istore 5 42) := snd_istore dX2_by_40 (by decide)
theorem s_X2_by_42 : Snd PG.nam M89 42 (m_iload 4 44) := snd_iload dX2_by_42
theorem s_X2_by_44 : Snd PG.nam M89 44 (m_ifz (fun x => if x = 0 then 52 else 47)) := snd_if_eq dX2_by_44 (by decide)
theorem s_X2_by_47 : Snd PG.nam M89 47 (m_iload 5 49) := snd_iload dX2_by_47
theorem s_X2_by_49 : Snd PG.nam M89 49 (m_ifz (fun x => if x = 0 then 52 else 76)) := snd_if_ne dX2_by_49 (by decide)
theorem s_X2_by_52 : Snd PG.nam M89 52 (m_iload 4 54) := snd_iload dX2_by_52
theorem s_X2_by_54 : Snd PG.nam M89 54 (m_ifz (fun x => if x = 0 then 61 else 57)) := snd_if_eq dX2_by_54 (by decide)
theorem s_X2_by_57 : Snd PG.nam M89 57 (m_const (.int (nI 1)) 58) := snd_iconst dX2_by_57 (by decide)
theorem s_X2_by_58 : Snd PG.nam M89 58 (m_goto 62) := snd_goto dX2_by_58 (by decide)
theorem s_X2_by_61 : Snd PG.nam M89 61 (m_const (.int (nI 0)) 62) := snd_iconst dX2_by_61 (by decide)
theorem s_X2_by_62 : Snd PG.nam M89 62 (m_iload 5 64) := snd_iload dX2_by_62
theorem s_X2_by_64 : Snd PG.nam M89 64 (m_ifz (fun x => if x = 0 then 71 else 67)) := snd_if_eq dX2_by_64 (by decide)
theorem s_X2_by_67 : Snd PG.nam M89 67 (m_const (.int (nI 1)) 68) := snd_iconst dX2_by_67 (by decide)
theorem s_X2_by_68 : Snd PG.nam M89 68 (m_goto 72) := snd_goto dX2_by_68 (by decide)
theorem s_X2_by_71 : Snd PG.nam M89 71 (m_const (.int (nI 0)) 72) := snd_iconst dX2_by_71 (by decide)
theorem s_X2_by_72 : Snd PG.nam M89 72 (m_ibin (fun a b => a - b) 73) := snd_isub dX2_by_72
theorem s_X2_by_73 : Snd PG.nam M89 73 (m_goto 101) := snd_goto dX2_by_73 (by decide)
theorem s_X2_by_76 : Snd PG.nam M89 76 (m_aload 0 77) := snd_aload_n dX2_by_76 rfl
theorem s_X2_by_77 : Snd PG.nam M89 77 (m_getf [(1, 47)] 80) := snd_getf dX2_by_77 fd_X2_70
theorem s_X2_by_80 : Snd PG.nam M89 80 (m_const (.int (nI 6)) 82) := snd_bipush dX2_by_80 (by decide)
theorem s_X2_by_82 : Snd PG.nam M89 82 (m_iload 2 83) := snd_iload_n dX2_by_82 rfl
theorem s_X2_by_83 : Snd PG.nam M89 83 (m_ibin (fun a b => a * b) 84) := snd_imul dX2_by_83
theorem s_X2_by_84 : Snd PG.nam M89 84 (m_iload 1 85) := snd_iload_n dX2_by_84 rfl
theorem s_X2_by_85 : Snd PG.nam M89 85 (m_ibin (fun a b => a + b) 86) := snd_iadd dX2_by_85
theorem s_X2_by_86 : Snd PG.nam M89 86 (m_lald 87) := snd_lald dX2_by_86
theorem s_X2_by_87 : Snd PG.nam M89 87 (m_aload 0 88) := snd_aload_n dX2_by_87 rfl
theorem s_X2_by_88 : Snd PG.nam M89 88 (m_getf [(1, 47)] 91) := snd_getf dX2_by_88 fd_X2_70
theorem s_X2_by_91 : Snd PG.nam M89 91 (m_const (.int (nI 6)) 93) := snd_bipush dX2_by_91 (by decide)
theorem s_X2_by_93 : Snd PG.nam M89 93 (m_iload 3 94) := snd_iload_n dX2_by_93 rfl
theorem s_X2_by_94 : Snd PG.nam M89 94 (m_ibin (fun a b => a * b) 95) := snd_imul dX2_by_94
theorem s_X2_by_95 : Snd PG.nam M89 95 (m_iload 1 96) := snd_iload_n dX2_by_95 rfl
theorem s_X2_by_96 : Snd PG.nam M89 96 (m_ibin (fun a b => a + b) 97) := snd_iadd dX2_by_96
theorem s_X2_by_97 : Snd PG.nam M89 97 (m_lald 98) := snd_lald dX2_by_97
theorem s_X2_by_98 : Snd PG.nam M89 98 (m_callS false 86 2 101) := snd_callS (nam := PG.nam) (yy := 86) dX2_by_98 (Or.inl w1795) w1796 ⟨by decide, by decide +kernel⟩ (by decide)
theorem s_X2_by_101 : Snd PG.nam M89 101 (m_iret .int) := snd_iret dX2_by_101 rfl
theorem T89 : ∀ q ∈ S89, Snd PG.nam M89 q.1 q.2 := List.forall_mem_cons.mpr ⟨s_X2_by_0, List.forall_mem_cons.mpr ⟨s_X2_by_1, List.forall_mem_cons.mpr ⟨s_X2_by_4, List.forall_mem_cons.mpr ⟨s_X2_by_5, List.forall_mem_cons.mpr ⟨s_X2_by_6, List.forall_mem_cons.mpr ⟨s_X2_by_7, List.forall_mem_cons.mpr ⟨s_X2_by_8, List.forall_mem_cons.mpr ⟨s_X2_by_9, List.forall_mem_cons.mpr ⟨s_X2_by_10, List.forall_mem_cons.mpr ⟨s_X2_by_11, List.forall_mem_cons.mpr ⟨s_X2_by_14, List.forall_mem_cons.mpr ⟨s_X2_by_15, List.forall_mem_cons.mpr ⟨s_X2_by_18, List.forall_mem_cons.mpr ⟨s_X2_by_19, List.forall_mem_cons.mpr ⟨s_X2_by_21, List.forall_mem_cons.mpr ⟨s_X2_by_22, List.forall_mem_cons.mpr ⟨s_X2_by_25, List.forall_mem_cons.mpr ⟨s_X2_by_26, List.forall_mem_cons.mpr ⟨s_X2_by_27, List.forall_mem_cons.mpr ⟨s_X2_by_28, List.forall_mem_cons.mpr ⟨s_X2_by_29, List.forall_mem_cons.mpr ⟨s_X2_by_30, List.forall_mem_cons.mpr ⟨s_X2_by_31, List.forall_mem_cons.mpr ⟨s_X2_by_32, List.forall_mem_cons.mpr ⟨s_X2_by_35, List.forall_mem_cons.mpr ⟨s_X2_by_36, List.forall_mem_cons.mpr ⟨s_X2_by_39, List.forall_mem_cons.mpr ⟨s_X2_by_40, List.forall_mem_cons.mpr ⟨s_X2_by_42, List.forall_mem_cons.mpr ⟨s_X2_by_44, List.forall_mem_cons.mpr ⟨s_X2_by_47, List.forall_mem_cons.mpr ⟨s_X2_by_49, List.forall_mem_cons.mpr ⟨s_X2_by_52, List.forall_mem_cons.mpr ⟨s_X2_by_54, List.forall_mem_cons.mpr ⟨s_X2_by_57, List.forall_mem_cons.mpr ⟨s_X2_by_58, List.forall_mem_cons.mpr ⟨s_X2_by_61, List.forall_mem_cons.mpr ⟨s_X2_by_62, List.forall_mem_cons.mpr ⟨s_X2_by_64, List.forall_mem_cons.mpr ⟨s_X2_by_67, List.forall_mem_cons.mpr ⟨s_X2_by_68, List.forall_mem_cons.mpr ⟨s_X2_by_71, List.forall_mem_cons.mpr ⟨s_X2_by_72, List.forall_mem_cons.mpr ⟨s_X2_by_73, List.forall_mem_cons.mpr ⟨s_X2_by_76, List.forall_mem_cons.mpr ⟨s_X2_by_77, List.forall_mem_cons.mpr ⟨s_X2_by_80, List.forall_mem_cons.mpr ⟨s_X2_by_82, List.forall_mem_cons.mpr ⟨s_X2_by_83, List.forall_mem_cons.mpr ⟨s_X2_by_84, List.forall_mem_cons.mpr ⟨s_X2_by_85, List.forall_mem_cons.mpr ⟨s_X2_by_86, List.forall_mem_cons.mpr ⟨s_X2_by_87, List.forall_mem_cons.mpr ⟨s_X2_by_88, List.forall_mem_cons.mpr ⟨s_X2_by_91, List.forall_mem_cons.mpr ⟨s_X2_by_93, List.forall_mem_cons.mpr ⟨s_X2_by_94, List.forall_mem_cons.mpr ⟨s_X2_by_95, List.forall_mem_cons.mpr ⟨s_X2_by_96, List.forall_mem_cons.mpr ⟨s_X2_by_97, List.forall_mem_cons.mpr ⟨s_X2_by_98, List.forall_mem_cons.mpr ⟨s_X2_by_101, (fun q hq => absurd hq List.not_mem_nil)⟩⟩⟩⟩⟩⟩⟩⟩⟩⟩⟩⟩⟩⟩⟩⟩⟩⟩⟩⟩⟩⟩⟩⟩⟩⟩⟩⟩⟩⟩⟩⟩⟩⟩⟩⟩⟩⟩⟩⟩⟩⟩⟩⟩⟩⟩⟩⟩⟩⟩⟩⟩⟩⟩⟩⟩⟩⟩⟩⟩⟩⟩
theorem s_X2_byTerms_0 : Snd PG.nam M90 0 (m_const (.int (nI 0)) 1) := snd_iconst dX2_byTerms_0 (by decide)
theorem s_X2_byTerms_1 : Snd PG.nam M90 1 (m_istore 3 2) := snd_istore_n dX2_byTerms_1 rfl (by decide)
theorem s_X2_byTerms_2 : Snd PG.nam M90 2 (m_const (.int (nI 0)) 3) := snd_iconst dX2_byTerms_2 (by decide)
theorem s_X2_byTerms_3 : Snd PG.nam M90 3 (m_istore 4 5) := snd_istore dX2_byTerms_3 (by decide)
theorem s_X2_byTerms_5 : Snd PG.nam M90 5 (m_iload 4 7) := snd_iload dX2_byTerms_5
theorem s_X2_byTerms_7 : Snd PG.nam M90 7 (m_aload 0 8) := snd_aload_n dX2_byTerms_7 rfl
theorem s_X2_byTerms_8 : Snd PG.nam M90 8 (m_getf [(1, 41)] 11) := snd_getf dX2_byTerms_8 fd_X2_296
theorem s_X2_byTerms_11 : Snd PG.nam M90 11 (m_icmp (fun x z => if x < z then 14 else 38)) := snd_icmp_ge dX2_byTerms_11 (by decide)
theorem s_X2_byTerms_14 : Snd PG.nam M90 14 (m_iload 3 15) := snd_iload_n dX2_byTerms_14 rfl
theorem s_X2_byTerms_15 : Snd PG.nam M90 15 (m_ifz (fun x => if x = 0 then 18 else 38)) := snd_if_ne dX2_byTerms_15 (by decide)
theorem s_X2_byTerms_18 : Snd PG.nam M90 18 (m_aload 0 19) := snd_aload_n dX2_byTerms_18 rfl
theorem s_X2_byTerms_19 : Snd PG.nam M90 19 (m_aload 0 20) := snd_aload_n dX2_byTerms_19 rfl
theorem s_X2_byTerms_20 : Snd PG.nam M90 20 (m_getf [(1, 40)] 23) := snd_getf dX2_byTerms_20 fd_X2_64
theorem s_X2_byTerms_23 : Snd PG.nam M90 23 (m_iload 4 25) := snd_iload dX2_byTerms_23
theorem s_X2_byTerms_25 : Snd PG.nam M90 25 (m_iald [.int] 26) := snd_iald dX2_byTerms_25
theorem s_X2_byTerms_26 : Snd PG.nam M90 26 (m_iload 1 27) := snd_iload_n dX2_byTerms_26 rfl
theorem s_X2_byTerms_27 : Snd PG.nam M90 27 (m_iload 2 28) := snd_iload_n dX2_byTerms_27 rfl
theorem s_X2_byTerms_28 : Snd PG.nam M90 28 (m_callV false [(1, 89)] 3 31) := snd_callV (nam := PG.nam) (List.forall_mem_cons.mpr ⟨dr_V (ym := PG.nam 89) dX2_byTerms_28 (Or.inl w1806) mi_89 rfl (lw_all_tbl qs60), (fun q hq => absurd hq List.not_mem_nil)⟩) (by decide)
theorem s_X2_byTerms_31 : Snd PG.nam M90 31 (m_istore 3 32) := snd_istore_n dX2_byTerms_31 rfl (by decide)
theorem s_X2_byTerms_32 : Snd PG.nam M90 32 (m_iinc 4 (nI 1) 35) := snd_iinc dX2_byTerms_32 (by decide) (by decide)
theorem s_X2_byTerms_35 : Snd PG.nam M90 35 (m_goto 5) := snd_goto dX2_byTerms_35 (by decide)
theorem s_X2_byTerms_38 : Snd PG.nam M90 38 (m_iload 3 39) := snd_iload_n dX2_byTerms_38 rfl
theorem s_X2_byTerms_39 : Snd PG.nam M90 39 (m_iret .int) := snd_iret dX2_byTerms_39 rfl
theorem T90 : ∀ q ∈ S90, Snd PG.nam M90 q.1 q.2 := List.forall_mem_cons.mpr ⟨s_X2_byTerms_0, List.forall_mem_cons.mpr ⟨s_X2_byTerms_1, List.forall_mem_cons.mpr ⟨s_X2_byTerms_2, List.forall_mem_cons.mpr ⟨s_X2_byTerms_3, List.forall_mem_cons.mpr ⟨s_X2_byTerms_5, List.forall_mem_cons.mpr ⟨s_X2_byTerms_7, List.forall_mem_cons.mpr ⟨s_X2_byTerms_8, List.forall_mem_cons.mpr ⟨s_X2_byTerms_11, List.forall_mem_cons.mpr ⟨s_X2_byTerms_14, List.forall_mem_cons.mpr ⟨s_X2_byTerms_15, List.forall_mem_cons.mpr ⟨s_X2_byTerms_18, List.forall_mem_cons.mpr ⟨s_X2_byTerms_19, List.forall_mem_cons.mpr ⟨s_X2_byTerms_20, List.forall_mem_cons.mpr ⟨s_X2_byTerms_23, List.forall_mem_cons.mpr ⟨s_X2_byTerms_25, List.forall_mem_cons.mpr ⟨s_X2_byTerms_26, List.forall_mem_cons.mpr ⟨s_X2_byTerms_27, List.forall_mem_cons.mpr ⟨s_X2_byTerms_28, List.forall_mem_cons.mpr ⟨s_X2_byTerms_31, List.forall_mem_cons.mpr ⟨s_X2_byTerms_32, List.forall_mem_cons.mpr ⟨s_X2_byTerms_35, List.forall_mem_cons.mpr ⟨s_X2_byTerms_38, List.forall_mem_cons.mpr ⟨s_X2_byTerms_39, (fun q hq => absurd hq List.not_mem_nil)⟩⟩⟩⟩⟩⟩⟩⟩⟩⟩⟩⟩⟩⟩⟩⟩⟩⟩⟩⟩⟩⟩⟩
theorem s_X2_fault_0 : Snd PG.nam M91 0 (m_aload 0 1) := snd_aload_n dX2_fault_0 rfl
theorem s_X2_fault_1 : Snd PG.nam M91 1 (m_const (.int (nI 0)) 2) := snd_iconst dX2_fault_1 (by decide)
theorem s_X2_fault_2 : Snd PG.nam M91 2 (m_putf [(1, 58)] .int 5) := snd_putf dX2_fault_2 fd_X2_91
theorem s_X2_fault_5 : Snd PG.nam M91 5 (m_aload 0 6) := snd_aload_n dX2_fault_5 rfl
theorem s_X2_fault_6 : Snd PG.nam M91 6 (m_getf [(1, 14)] 9) := snd_getf dX2_fault_6 fd_X2_30
theorem s_X2_fault_9 : Snd PG.nam M91 9 (m_iret .int) := snd_iret dX2_fault_9 rfl
theorem T91 : ∀ q ∈ S91, Snd PG.nam M91 q.1 q.2 := List.forall_mem_cons.mpr ⟨s_X2_fault_0, List.forall_mem_cons.mpr ⟨s_X2_fault_1, List.forall_mem_cons.mpr ⟨s_X2_fault_2, List.forall_mem_cons.mpr ⟨s_X2_fault_5, List.forall_mem_cons.mpr ⟨s_X2_fault_6, List.forall_mem_cons.mpr ⟨s_X2_fault_9, (fun q hq => absurd hq List.not_mem_nil)⟩⟩⟩⟩⟩⟩
theorem s_X2_cell_0 : Snd PG.nam M92 0 (m_aload 0 1) := snd_aload_n dX2_cell_0 rfl
theorem s_X2_cell_1 : Snd PG.nam M92 1 (m_iload 1 2) := snd_iload_n dX2_cell_1 rfl
theorem s_X2_cell_2 : Snd PG.nam M92 2 (m_const (.int (nI 0)) 3) := snd_iconst dX2_cell_2 (by decide)
theorem s_X2_cell_3 : Snd PG.nam M92 3 (m_aload 0 4) := snd_aload_n dX2_cell_3 rfl
theorem s_X2_cell_4 : Snd PG.nam M92 4 (m_getf [(1, 55)] 7) := snd_getf dX2_cell_4 fd_X2_358
theorem s_X2_cell_7 : Snd PG.nam M92 7 (m_const (.int (nI 1)) 8) := snd_iconst dX2_cell_7 (by decide)
theorem s_X2_cell_8 : Snd PG.nam M92 8 (m_ibin (fun a b => a - b) 9) := snd_isub dX2_cell_8
theorem s_X2_cell_9 : Snd PG.nam M92 9 (m_callS false 41 3 12) := snd_callS (nam := PG.nam) (yy := 41) dX2_cell_9 (Or.inl w1604) w1605 ⟨by decide, by decide +kernel⟩ (by decide)
theorem s_X2_cell_12 : Snd PG.nam M92 12 (m_ifz (fun x => if x = 0 then 33 else 15)) := snd_if_eq dX2_cell_12 (by decide)
theorem s_X2_cell_15 : Snd PG.nam M92 15 (m_iload 2 16) := snd_iload_n dX2_cell_15 rfl
theorem s_X2_cell_16 : Snd PG.nam M92 16 (m_const (.int (nI 0)) 17) := snd_iconst dX2_cell_16 (by decide)
theorem s_X2_cell_17 : Snd PG.nam M92 17 (m_aload 0 18) := snd_aload_n dX2_cell_17 rfl
theorem s_X2_cell_18 : Snd PG.nam M92 18 (m_getf [(1, 57)] 21) := snd_getf dX2_cell_18 fd_X2_364
theorem s_X2_cell_21 : Snd PG.nam M92 21 (m_const (.int (nI 1)) 22) := snd_iconst dX2_cell_21 (by decide)
theorem s_X2_cell_22 : Snd PG.nam M92 22 (m_ibin (fun a b => a - b) 23) := snd_isub dX2_cell_22
theorem s_X2_cell_23 : Snd PG.nam M92 23 (m_callS false 41 3 26) := snd_callS (nam := PG.nam) (yy := 41) dX2_cell_23 (Or.inl w1604) w1605 ⟨by decide, by decide +kernel⟩ (by decide)
theorem s_X2_cell_26 : Snd PG.nam M92 26 (m_ifz (fun x => if x = 0 then 33 else 29)) := snd_if_eq dX2_cell_26 (by decide)
theorem s_X2_cell_29 : Snd PG.nam M92 29 (m_const (.int (nI 1)) 30) := snd_iconst dX2_cell_29 (by decide)
theorem s_X2_cell_30 : Snd PG.nam M92 30 (m_goto 34) := snd_goto dX2_cell_30 (by decide)
theorem s_X2_cell_33 : Snd PG.nam M92 33 (m_const (.int (nI 0)) 34) := snd_iconst dX2_cell_33 (by decide)
theorem s_X2_cell_34 : Snd PG.nam M92 34 (m_const (.int (nI 1)) 35) := snd_iconst dX2_cell_34 (by decide)
theorem s_X2_cell_35 : Snd PG.nam M92 35 (m_callV false [(1, 43)] 2 38) := snd_callV (nam := PG.nam) (List.forall_mem_cons.mpr ⟨dr_V (ym := PG.nam 43) dX2_cell_35 (Or.inl w1612) mi_43 rfl (lw_all_tbl qs25), (fun q hq => absurd hq List.not_mem_nil)⟩) (by decide)
theorem s_X2_cell_38 : Snd PG.nam M92 38 (m_ifz (fun x => if x = 0 then 41 else 43)) := snd_if_ne dX2_cell_38 (by decide)
theorem s_X2_cell_41 : Snd PG.nam M92 41 (m_const (.long (0 : Int64)) 42) := snd_lconst dX2_cell_41 (by decide)
theorem s_X2_cell_42 : Snd PG.nam M92 42 (m_lret) := snd_lret dX2_cell_42 rfl
theorem s_X2_cell_43 : Snd PG.nam M92 43 (m_aload 0 44) := snd_aload_n dX2_cell_43 rfl
theorem s_X2_cell_44 : Snd PG.nam M92 44 (m_getf [(1, 56)] 47) := snd_getf dX2_cell_44 fd_X2_88
theorem s_X2_cell_47 : Snd PG.nam M92 47 (m_iload 2 48) := snd_iload_n dX2_cell_47 rfl
theorem s_X2_cell_48 : Snd PG.nam M92 48 (m_iald [.int] 49) := snd_iald dX2_cell_48
theorem s_X2_cell_49 : Snd PG.nam M92 49 (m_istore 3 50) := snd_istore_n dX2_cell_49 rfl (by decide)
theorem s_X2_cell_50 : Snd PG.nam M92 50 (m_aload 0 51) := snd_aload_n dX2_cell_50 rfl
theorem s_X2_cell_51 : Snd PG.nam M92 51 (m_aload 0 52) := snd_aload_n dX2_cell_51 rfl
theorem s_X2_cell_52 : Snd PG.nam M92 52 (m_getf [(1, 53)] 55) := snd_getf dX2_cell_52 fd_X2_82
theorem s_X2_cell_55 : Snd PG.nam M92 55 (m_iload 1 56) := snd_iload_n dX2_cell_55 rfl
theorem s_X2_cell_56 : Snd PG.nam M92 56 (m_iald [.int] 57) := snd_iald dX2_cell_56
theorem s_X2_cell_57 : Snd PG.nam M92 57 (m_iload 3 58) := snd_iload_n dX2_cell_57 rfl
theorem s_X2_cell_58 : Snd PG.nam M92 58 (m_ibin (fun a b => a >>> (b &&& 31)) 59) := snd_ishr dX2_cell_58
theorem s_X2_cell_59 : Snd PG.nam M92 59 (m_const (.int (nI 1)) 60) := snd_iconst dX2_cell_59 (by decide)
theorem s_X2_cell_60 : Snd PG.nam M92 60 (m_ibin (fun a b => a &&& b) 61) := snd_iand dX2_cell_60
theorem s_X2_cell_61 : Snd PG.nam M92 61 (m_const (.int (nI 1)) 62) := snd_iconst dX2_cell_61 (by decide)
theorem s_X2_cell_62 : Snd PG.nam M92 62 (m_icmp (fun x z => if x = z then 65 else 69)) := snd_icmp_ne dX2_cell_62 (by decide)
theorem s_X2_cell_65 : Snd PG.nam M92 65 (m_const (.int (nI 1)) 66) := snd_iconst dX2_cell_65 (by decide)
theorem s_X2_cell_66 : Snd PG.nam M92 66 (m_goto 70) := snd_goto dX2_cell_66 (by decide)
theorem s_X2_cell_69 : Snd PG.nam M92 69 (m_const (.int (nI 0)) 70) := snd_iconst dX2_cell_69 (by decide)
theorem s_X2_cell_70 : Snd PG.nam M92 70 (m_const (.int (nI 2)) 71) := snd_iconst dX2_cell_70 (by decide)
theorem s_X2_cell_71 : Snd PG.nam M92 71 (m_callV false [(1, 43)] 2 74) := snd_callV (nam := PG.nam) (List.forall_mem_cons.mpr ⟨dr_V (ym := PG.nam 43) dX2_cell_71 (Or.inl w1612) mi_43 rfl (lw_all_tbl qs25), (fun q hq => absurd hq List.not_mem_nil)⟩) (by decide)
theorem s_X2_cell_74 : Snd PG.nam M92 74 (m_ifz (fun x => if x = 0 then 91 else 77)) := snd_if_eq dX2_cell_74 (by decide)
theorem s_X2_cell_77 : Snd PG.nam M92 77 (m_aload 0 78) := snd_aload_n dX2_cell_77 rfl
theorem s_X2_cell_78 : Snd PG.nam M92 78 (m_getf [(1, 52)] 81) := snd_getf dX2_cell_78 fd_X2_79
theorem s_X2_cell_81 : Snd PG.nam M92 81 (m_const (.int (nI 6)) 83) := snd_bipush dX2_cell_81 (by decide)
theorem s_X2_cell_83 : Snd PG.nam M92 83 (m_iload 1 84) := snd_iload_n dX2_cell_83 rfl
theorem s_X2_cell_84 : Snd PG.nam M92 84 (m_ibin (fun a b => a * b) 85) := snd_imul dX2_cell_84
theorem s_X2_cell_85 : Snd PG.nam M92 85 (m_iload 3 86) := snd_iload_n dX2_cell_85 rfl
theorem s_X2_cell_86 : Snd PG.nam M92 86 (m_ibin (fun a b => a + b) 87) := snd_iadd dX2_cell_86
theorem s_X2_cell_87 : Snd PG.nam M92 87 (m_lald 88) := snd_lald dX2_cell_87
theorem s_X2_cell_88 : Snd PG.nam M92 88 (m_goto 92) := snd_goto dX2_cell_88 (by decide)
theorem s_X2_cell_91 : Snd PG.nam M92 91 (m_const (.long (0 : Int64)) 92) := snd_lconst dX2_cell_91 (by decide)
theorem s_X2_cell_92 : Snd PG.nam M92 92 (m_lret) := snd_lret dX2_cell_92 rfl
theorem T92 : ∀ q ∈ S92, Snd PG.nam M92 q.1 q.2 := List.forall_mem_cons.mpr ⟨s_X2_cell_0, List.forall_mem_cons.mpr ⟨s_X2_cell_1, List.forall_mem_cons.mpr ⟨s_X2_cell_2, List.forall_mem_cons.mpr ⟨s_X2_cell_3, List.forall_mem_cons.mpr ⟨s_X2_cell_4, List.forall_mem_cons.mpr ⟨s_X2_cell_7, List.forall_mem_cons.mpr ⟨s_X2_cell_8, List.forall_mem_cons.mpr ⟨s_X2_cell_9, List.forall_mem_cons.mpr ⟨s_X2_cell_12, List.forall_mem_cons.mpr ⟨s_X2_cell_15, List.forall_mem_cons.mpr ⟨s_X2_cell_16, List.forall_mem_cons.mpr ⟨s_X2_cell_17, List.forall_mem_cons.mpr ⟨s_X2_cell_18, List.forall_mem_cons.mpr ⟨s_X2_cell_21, List.forall_mem_cons.mpr ⟨s_X2_cell_22, List.forall_mem_cons.mpr ⟨s_X2_cell_23, List.forall_mem_cons.mpr ⟨s_X2_cell_26, List.forall_mem_cons.mpr ⟨s_X2_cell_29, List.forall_mem_cons.mpr ⟨s_X2_cell_30, List.forall_mem_cons.mpr ⟨s_X2_cell_33, List.forall_mem_cons.mpr ⟨s_X2_cell_34, List.forall_mem_cons.mpr ⟨s_X2_cell_35, List.forall_mem_cons.mpr ⟨s_X2_cell_38, List.forall_mem_cons.mpr ⟨s_X2_cell_41, List.forall_mem_cons.mpr ⟨s_X2_cell_42, List.forall_mem_cons.mpr ⟨s_X2_cell_43, List.forall_mem_cons.mpr ⟨s_X2_cell_44, List.forall_mem_cons.mpr ⟨s_X2_cell_47, List.forall_mem_cons.mpr ⟨s_X2_cell_48, List.forall_mem_cons.mpr ⟨s_X2_cell_49, List.forall_mem_cons.mpr ⟨s_X2_cell_50, List.forall_mem_cons.mpr ⟨s_X2_cell_51, List.forall_mem_cons.mpr ⟨s_X2_cell_52, List.forall_mem_cons.mpr ⟨s_X2_cell_55, List.forall_mem_cons.mpr ⟨s_X2_cell_56, List.forall_mem_cons.mpr ⟨s_X2_cell_57, List.forall_mem_cons.mpr ⟨s_X2_cell_58, List.forall_mem_cons.mpr ⟨s_X2_cell_59, List.forall_mem_cons.mpr ⟨s_X2_cell_60, List.forall_mem_cons.mpr ⟨s_X2_cell_61, List.forall_mem_cons.mpr ⟨s_X2_cell_62, List.forall_mem_cons.mpr ⟨s_X2_cell_65, List.forall_mem_cons.mpr ⟨s_X2_cell_66, List.forall_mem_cons.mpr ⟨s_X2_cell_69, List.forall_mem_cons.mpr ⟨s_X2_cell_70, List.forall_mem_cons.mpr ⟨s_X2_cell_71, List.forall_mem_cons.mpr ⟨s_X2_cell_74, List.forall_mem_cons.mpr ⟨s_X2_cell_77, List.forall_mem_cons.mpr ⟨s_X2_cell_78, List.forall_mem_cons.mpr ⟨s_X2_cell_81, List.forall_mem_cons.mpr ⟨s_X2_cell_83, List.forall_mem_cons.mpr ⟨s_X2_cell_84, List.forall_mem_cons.mpr ⟨s_X2_cell_85, List.forall_mem_cons.mpr ⟨s_X2_cell_86, List.forall_mem_cons.mpr ⟨s_X2_cell_87, List.forall_mem_cons.mpr ⟨s_X2_cell_88, List.forall_mem_cons.mpr ⟨s_X2_cell_91, List.forall_mem_cons.mpr ⟨s_X2_cell_92, (fun q hq => absurd hq List.not_mem_nil)⟩⟩⟩⟩⟩⟩⟩⟩⟩⟩⟩⟩⟩⟩⟩⟩⟩⟩⟩⟩⟩⟩⟩⟩⟩⟩⟩⟩⟩⟩⟩⟩⟩⟩⟩⟩⟩⟩⟩⟩⟩⟩⟩⟩⟩⟩⟩⟩⟩⟩⟩⟩⟩⟩⟩⟩⟩⟩
theorem s_X2_count_0 : Snd PG.nam M93 0 (m_aload 0 1) := snd_aload_n dX2_count_0 rfl
theorem s_X2_count_1 : Snd PG.nam M93 1 (m_iload 1 2) := snd_iload_n dX2_count_1 rfl
theorem s_X2_count_2 : Snd PG.nam M93 2 (m_const (.int (nI 0)) 3) := snd_iconst dX2_count_2 (by decide)
theorem s_X2_count_3 : Snd PG.nam M93 3 (m_const (.int (nI 6)) 5) := snd_bipush dX2_count_3 (by decide)
theorem s_X2_count_5 : Snd PG.nam M93 5 (m_callS false 41 3 8) := snd_callS (nam := PG.nam) (yy := 41) dX2_count_5 (Or.inl w1604) w1605 ⟨by decide, by decide +kernel⟩ (by decide)
theorem s_X2_count_8 : Snd PG.nam M93 8 (m_const (.int (nI 1)) 9) := snd_iconst dX2_count_8 (by decide)
theorem s_X2_count_9 : Snd PG.nam M93 9 (m_callV false [(1, 43)] 2 12) := snd_callV (nam := PG.nam) (List.forall_mem_cons.mpr ⟨dr_V (ym := PG.nam 43) dX2_count_9 (Or.inl w1612) mi_43 rfl (lw_all_tbl qs25), (fun q hq => absurd hq List.not_mem_nil)⟩) (by decide)
theorem s_X2_count_12 : Snd PG.nam M93 12 (m_ifz (fun x => if x = 0 then 15 else 17)) := snd_if_ne dX2_count_12 (by decide)
theorem s_X2_count_15 : Snd PG.nam M93 15 (m_const (.int (nI 0)) 16) := snd_iconst dX2_count_15 (by decide)
theorem s_X2_count_16 : Snd PG.nam M93 16 (m_iret .int) := snd_iret dX2_count_16 rfl
theorem s_X2_count_17 : Snd PG.nam M93 17 (m_iload 1 18) := snd_iload_n dX2_count_17 rfl
theorem s_X2_count_18 : Snd PG.nam M93 18 (m_const (.int (nI 3)) 19) := snd_iconst dX2_count_18 (by decide)
theorem s_X2_count_19 : Snd PG.nam M93 19 (m_icmp (fun x z => if x < z then 22 else 50)) := snd_icmp_ge dX2_count_19 (by decide)
theorem s_X2_count_22 : Snd PG.nam M93 22 (m_iload 1 23) := snd_iload_n dX2_count_22 rfl
theorem s_X2_count_23 : Snd PG.nam M93 23 (m_ifz (fun x => if x = 0 then 26 else 33)) := snd_if_ne dX2_count_23 (by decide)
theorem s_X2_count_26 : Snd PG.nam M93 26 (m_aload 0 27) := snd_aload_n dX2_count_26 rfl
theorem s_X2_count_27 : Snd PG.nam M93 27 (m_getf [(1, 1)] 30) := snd_getf dX2_count_27 fd_X2_102
theorem s_X2_count_30 : Snd PG.nam M93 30 (m_goto 49) := snd_goto dX2_count_30 (by decide)
theorem s_X2_count_33 : Snd PG.nam M93 33 (m_iload 1 34) := snd_iload_n dX2_count_33 rfl
theorem s_X2_count_34 : Snd PG.nam M93 34 (m_const (.int (nI 1)) 35) := snd_iconst dX2_count_34 (by decide)
theorem s_X2_count_35 : Snd PG.nam M93 35 (m_icmp (fun x z => if x = z then 38 else 45)) := snd_icmp_ne dX2_count_35 (by decide)
theorem s_X2_count_38 : Snd PG.nam M93 38 (m_aload 0 39) := snd_aload_n dX2_count_38 rfl
theorem s_X2_count_39 : Snd PG.nam M93 39 (m_getf [(1, 57)] 42) := snd_getf dX2_count_39 fd_X2_364
theorem s_X2_count_42 : Snd PG.nam M93 42 (m_goto 49) := snd_goto dX2_count_42 (by decide)
theorem s_X2_count_45 : Snd PG.nam M93 45 (m_aload 0 46) := snd_aload_n dX2_count_45 rfl
theorem s_X2_count_46 : Snd PG.nam M93 46 (m_getf [(1, 55)] 49) := snd_getf dX2_count_46 fd_X2_358
theorem s_X2_count_49 : Snd PG.nam M93 49 (m_iret .int) := snd_iret dX2_count_49 rfl
theorem s_X2_count_50 : Snd PG.nam M93 50 (m_iload 1 51) := snd_iload_n dX2_count_50 rfl
theorem s_X2_count_51 : Snd PG.nam M93 51 (m_const (.int (nI 3)) 52) := snd_iconst dX2_count_51 (by decide)
theorem s_X2_count_52 : Snd PG.nam M93 52 (m_icmp (fun x z => if x = z then 55 else 62)) := snd_icmp_ne dX2_count_52 (by decide)
theorem s_X2_count_55 : Snd PG.nam M93 55 (m_aload 0 56) := snd_aload_n dX2_count_55 rfl
theorem s_X2_count_56 : Snd PG.nam M93 56 (m_getf [(1, 8)] 59) := snd_getf dX2_count_56 fd_X2_130
theorem s_X2_count_59 : Snd PG.nam M93 59 (m_goto 106) := snd_goto dX2_count_59 (by decide)
theorem s_X2_count_62 : Snd PG.nam M93 62 (m_iload 1 63) := snd_iload_n dX2_count_62 rfl
theorem s_X2_count_63 : Snd PG.nam M93 63 (m_const (.int (nI 4)) 64) := snd_iconst dX2_count_63 (by decide)
theorem s_X2_count_64 : Snd PG.nam M93 64 (m_icmp (fun x z => if x = z then 67 else 74)) := snd_icmp_ne dX2_count_64 (by decide)
theorem s_X2_count_67 : Snd PG.nam M93 67 (m_aload 0 68) := snd_aload_n dX2_count_67 rfl
theorem s_X2_count_68 : Snd PG.nam M93 68 (m_getf [(1, 9)] 71) := snd_getf dX2_count_68 fd_X2_120
theorem s_X2_count_71 : Snd PG.nam M93 71 (m_goto 106) := snd_goto dX2_count_71 (by decide)
theorem s_X2_count_74 : Snd PG.nam M93 74 (m_iload 1 75) := snd_iload_n dX2_count_74 rfl
theorem s_X2_count_75 : Snd PG.nam M93 75 (m_const (.int (nI 5)) 76) := snd_iconst dX2_count_75 (by decide)
theorem s_X2_count_76 : Snd PG.nam M93 76 (m_icmp (fun x z => if x = z then 79 else 102)) := snd_icmp_ne dX2_count_76 (by decide)
theorem s_X2_count_79 : Snd PG.nam M93 79 (m_aload 0 80) := snd_aload_n dX2_count_79 rfl
theorem s_X2_count_80 : Snd PG.nam M93 80 (m_getf [(1, 10)] 83) := snd_getf dX2_count_80 fd_X2_123
theorem s_X2_count_83 : Snd PG.nam M93 83 (m_ifz (fun x => if x = 0 then 98 else 86)) := snd_if_eq dX2_count_83 (by decide)
theorem s_X2_count_86 : Snd PG.nam M93 86 (m_aload 0 87) := snd_aload_n dX2_count_86 rfl
theorem s_X2_count_87 : Snd PG.nam M93 87 (m_getf [(1, 7)] 90) := snd_getf dX2_count_87 fd_X2_117
theorem s_X2_count_90 : Snd PG.nam M93 90 (m_aload 0 91) := snd_aload_n dX2_count_90 rfl
theorem s_X2_count_91 : Snd PG.nam M93 91 (m_getf [(1, 11)] 94) := snd_getf dX2_count_91 fd_X2_148
theorem s_X2_count_94 : Snd PG.nam M93 94 (m_ibin (fun a b => a - b) 95) := snd_isub dX2_count_94
theorem s_X2_count_95 : Snd PG.nam M93 95 (m_goto 106) := snd_goto dX2_count_95 (by decide)
theorem s_X2_count_98 : Snd PG.nam M93 98 (m_const (.int (nI 0)) 99) := snd_iconst dX2_count_98 (by decide)
theorem s_X2_count_99 : Snd PG.nam M93 99 (m_goto 106) := snd_goto dX2_count_99 (by decide)
theorem s_X2_count_102 : Snd PG.nam M93 102 (m_aload 0 103) := snd_aload_n dX2_count_102 rfl
theorem s_X2_count_103 : Snd PG.nam M93 103 (m_getf [(1, 13)] 106) := snd_getf dX2_count_103 fd_X2_161
theorem s_X2_count_106 : Snd PG.nam M93 106 (m_iret .int) := snd_iret dX2_count_106 rfl
theorem T93 : ∀ q ∈ S93, Snd PG.nam M93 q.1 q.2 := List.forall_mem_cons.mpr ⟨s_X2_count_0, List.forall_mem_cons.mpr ⟨s_X2_count_1, List.forall_mem_cons.mpr ⟨s_X2_count_2, List.forall_mem_cons.mpr ⟨s_X2_count_3, List.forall_mem_cons.mpr ⟨s_X2_count_5, List.forall_mem_cons.mpr ⟨s_X2_count_8, List.forall_mem_cons.mpr ⟨s_X2_count_9, List.forall_mem_cons.mpr ⟨s_X2_count_12, List.forall_mem_cons.mpr ⟨s_X2_count_15, List.forall_mem_cons.mpr ⟨s_X2_count_16, List.forall_mem_cons.mpr ⟨s_X2_count_17, List.forall_mem_cons.mpr ⟨s_X2_count_18, List.forall_mem_cons.mpr ⟨s_X2_count_19, List.forall_mem_cons.mpr ⟨s_X2_count_22, List.forall_mem_cons.mpr ⟨s_X2_count_23, List.forall_mem_cons.mpr ⟨s_X2_count_26, List.forall_mem_cons.mpr ⟨s_X2_count_27, List.forall_mem_cons.mpr ⟨s_X2_count_30, List.forall_mem_cons.mpr ⟨s_X2_count_33, List.forall_mem_cons.mpr ⟨s_X2_count_34, List.forall_mem_cons.mpr ⟨s_X2_count_35, List.forall_mem_cons.mpr ⟨s_X2_count_38, List.forall_mem_cons.mpr ⟨s_X2_count_39, List.forall_mem_cons.mpr ⟨s_X2_count_42, List.forall_mem_cons.mpr ⟨s_X2_count_45, List.forall_mem_cons.mpr ⟨s_X2_count_46, List.forall_mem_cons.mpr ⟨s_X2_count_49, List.forall_mem_cons.mpr ⟨s_X2_count_50, List.forall_mem_cons.mpr ⟨s_X2_count_51, List.forall_mem_cons.mpr ⟨s_X2_count_52, List.forall_mem_cons.mpr ⟨s_X2_count_55, List.forall_mem_cons.mpr ⟨s_X2_count_56, List.forall_mem_cons.mpr ⟨s_X2_count_59, List.forall_mem_cons.mpr ⟨s_X2_count_62, List.forall_mem_cons.mpr ⟨s_X2_count_63, List.forall_mem_cons.mpr ⟨s_X2_count_64, List.forall_mem_cons.mpr ⟨s_X2_count_67, List.forall_mem_cons.mpr ⟨s_X2_count_68, List.forall_mem_cons.mpr ⟨s_X2_count_71, List.forall_mem_cons.mpr ⟨s_X2_count_74, List.forall_mem_cons.mpr ⟨s_X2_count_75, List.forall_mem_cons.mpr ⟨s_X2_count_76, List.forall_mem_cons.mpr ⟨s_X2_count_79, List.forall_mem_cons.mpr ⟨s_X2_count_80, List.forall_mem_cons.mpr ⟨s_X2_count_83, List.forall_mem_cons.mpr ⟨s_X2_count_86, List.forall_mem_cons.mpr ⟨s_X2_count_87, List.forall_mem_cons.mpr ⟨s_X2_count_90, List.forall_mem_cons.mpr ⟨s_X2_count_91, List.forall_mem_cons.mpr ⟨s_X2_count_94, List.forall_mem_cons.mpr ⟨s_X2_count_95, List.forall_mem_cons.mpr ⟨s_X2_count_98, List.forall_mem_cons.mpr ⟨s_X2_count_99, List.forall_mem_cons.mpr ⟨s_X2_count_102, List.forall_mem_cons.mpr ⟨s_X2_count_103, List.forall_mem_cons.mpr ⟨s_X2_count_106, (fun q hq => absurd hq List.not_mem_nil)⟩⟩⟩⟩⟩⟩⟩⟩⟩⟩⟩⟩⟩⟩⟩⟩⟩⟩⟩⟩⟩⟩⟩⟩⟩⟩⟩⟩⟩⟩⟩⟩⟩⟩⟩⟩⟩⟩⟩⟩⟩⟩⟩⟩⟩⟩⟩⟩⟩⟩⟩⟩⟩⟩⟩⟩
theorem s_X3_init_0 : Snd PG.nam M94 0 (m_aload 0 1) := snd_aload_n dX3_init_0 rfl
theorem s_X3_init_1 : Snd PG.nam M94 1 (m_oi 4) := snd_oi dX3_init_1 w563 w113 w114
theorem s_X3_init_4 : Snd PG.nam M94 4 (m_const (.int (nI 3)) 5) := snd_iconst dX3_init_4 (by decide)
theorem s_X3_init_5 : Snd PG.nam M94 5 (m_anew "TripleStore$Term" 8) := snd_anew dX3_init_5 w564 w565
theorem s_X3_init_8 : Snd PG.nam M94 8 (m_dup 9) := snd_dup dX3_init_8
theorem s_X3_init_9 : Snd PG.nam M94 9 (m_const (.int (nI 0)) 10) := snd_iconst dX3_init_9 (by decide)
theorem s_X3_init_10 : Snd PG.nam M94 10 (m_aload 1 11) := snd_aload_n dX3_init_10 rfl
theorem s_X3_init_11 : Snd PG.nam M94 11 (m_aast "TripleStore$Term" [3, 4] 12) := snd_aast dX3_init_11 (List.forall_mem_cons.mpr ⟨⟨_, rfl, Or.inl w1870⟩, (List.forall_mem_cons.mpr ⟨⟨_, rfl, Or.inl w1871⟩, (fun ci hci => absurd hci List.not_mem_nil)⟩)⟩)
theorem s_X3_init_12 : Snd PG.nam M94 12 (m_dup 13) := snd_dup dX3_init_12
theorem s_X3_init_13 : Snd PG.nam M94 13 (m_const (.int (nI 1)) 14) := snd_iconst dX3_init_13 (by decide)
theorem s_X3_init_14 : Snd PG.nam M94 14 (m_aload 2 15) := snd_aload_n dX3_init_14 rfl
theorem s_X3_init_15 : Snd PG.nam M94 15 (m_aast "TripleStore$Term" [3, 4] 16) := snd_aast dX3_init_15 (List.forall_mem_cons.mpr ⟨⟨_, rfl, Or.inl w1870⟩, (List.forall_mem_cons.mpr ⟨⟨_, rfl, Or.inl w1871⟩, (fun ci hci => absurd hci List.not_mem_nil)⟩)⟩)
theorem s_X3_init_16 : Snd PG.nam M94 16 (m_dup 17) := snd_dup dX3_init_16
theorem s_X3_init_17 : Snd PG.nam M94 17 (m_const (.int (nI 2)) 18) := snd_iconst dX3_init_17 (by decide)
theorem s_X3_init_18 : Snd PG.nam M94 18 (m_aload 3 19) := snd_aload_n dX3_init_18 rfl
theorem s_X3_init_19 : Snd PG.nam M94 19 (m_aast "TripleStore$Term" [3, 4] 20) := snd_aast dX3_init_19 (List.forall_mem_cons.mpr ⟨⟨_, rfl, Or.inl w1870⟩, (List.forall_mem_cons.mpr ⟨⟨_, rfl, Or.inl w1871⟩, (fun ci hci => absurd hci List.not_mem_nil)⟩)⟩)
theorem s_X3_init_20 : Snd PG.nam M94 20 (m_astore 4 22) := snd_astore dX3_init_20 (by decide)
theorem s_X3_init_22 : Snd PG.nam M94 22 (m_aload 0 23) := snd_aload_n dX3_init_22 rfl
theorem s_X3_init_23 : Snd PG.nam M94 23 (m_aload 4 25) := snd_aload dX3_init_23
theorem s_X3_init_25 : Snd PG.nam M94 25 (m_putf [(2, 0)] (.array (.object "TripleStore$Term")) 28) := snd_putF dX3_init_25 fd_X3_9 rfl
theorem s_X3_init_28 : Snd PG.nam M94 28 (m_vret) := snd_vret dX3_init_28 rfl
theorem T94 : ∀ q ∈ S94, Snd PG.nam M94 q.1 q.2 := List.forall_mem_cons.mpr ⟨s_X3_init_0, List.forall_mem_cons.mpr ⟨s_X3_init_1, List.forall_mem_cons.mpr ⟨s_X3_init_4, List.forall_mem_cons.mpr ⟨s_X3_init_5, List.forall_mem_cons.mpr ⟨s_X3_init_8, List.forall_mem_cons.mpr ⟨s_X3_init_9, List.forall_mem_cons.mpr ⟨s_X3_init_10, List.forall_mem_cons.mpr ⟨s_X3_init_11, List.forall_mem_cons.mpr ⟨s_X3_init_12, List.forall_mem_cons.mpr ⟨s_X3_init_13, List.forall_mem_cons.mpr ⟨s_X3_init_14, List.forall_mem_cons.mpr ⟨s_X3_init_15, List.forall_mem_cons.mpr ⟨s_X3_init_16, List.forall_mem_cons.mpr ⟨s_X3_init_17, List.forall_mem_cons.mpr ⟨s_X3_init_18, List.forall_mem_cons.mpr ⟨s_X3_init_19, List.forall_mem_cons.mpr ⟨s_X3_init_20, List.forall_mem_cons.mpr ⟨s_X3_init_22, List.forall_mem_cons.mpr ⟨s_X3_init_23, List.forall_mem_cons.mpr ⟨s_X3_init_25, List.forall_mem_cons.mpr ⟨s_X3_init_28, (fun q hq => absurd hq List.not_mem_nil)⟩⟩⟩⟩⟩⟩⟩⟩⟩⟩⟩⟩⟩⟩⟩⟩⟩⟩⟩⟩⟩
theorem s_X3_same_0 : Snd PG.nam M95 0 (m_const (.int (nI 0)) 1) := snd_iconst dX3_same_0 (by decide)
theorem s_X3_same_1 : Snd PG.nam M95 1 (m_istore 2 2) := snd_istore_n dX3_same_1 rfl (by decide)
theorem s_X3_same_2 : Snd PG.nam M95 2 (m_iload 2 3) := snd_iload_n dX3_same_2 rfl
theorem s_X3_same_3 : Snd PG.nam M95 3 (m_const (.int (nI 3)) 4) := snd_iconst dX3_same_3 (by decide)
theorem s_X3_same_4 : Snd PG.nam M95 4 (m_icmp (fun x z => if x < z then 7 else 33)) := snd_icmp_ge dX3_same_4 (by decide)
theorem s_X3_same_7 : Snd PG.nam M95 7 (m_aload 0 8) := snd_aload_n dX3_same_7 rfl
theorem s_X3_same_8 : Snd PG.nam M95 8 (m_getf [(2, 0)] 11) := snd_getf dX3_same_8 fd_X3_9
theorem s_X3_same_11 : Snd PG.nam M95 11 (m_iload 2 12) := snd_iload_n dX3_same_11 rfl
theorem s_X3_same_12 : Snd PG.nam M95 12 (m_aald 13) := snd_aald dX3_same_12
theorem s_X3_same_13 : Snd PG.nam M95 13 (m_aload 1 14) := snd_aload_n dX3_same_13 rfl
theorem s_X3_same_14 : Snd PG.nam M95 14 (m_getf [(2, 0)] 17) := snd_getf dX3_same_14 fd_X3_9
theorem s_X3_same_17 : Snd PG.nam M95 17 (m_iload 2 18) := snd_iload_n dX3_same_17 rfl
theorem s_X3_same_18 : Snd PG.nam M95 18 (m_aald 19) := snd_aald dX3_same_18
theorem s_X3_same_19 : Snd PG.nam M95 19 (m_callV false [(3, 98), (4, 102)] 1 22) := snd_callV (nam := PG.nam) (List.forall_mem_cons.mpr ⟨dr_U (ym := PG.nam 98) dX3_same_19 w580 w582 (Or.inl w581) (by decide) (by decide +kernel) w584 rfl w583, (List.forall_mem_cons.mpr ⟨dr_U (ym := PG.nam 102) dX3_same_19 w580 w582 (Or.inl w581) (by decide) (by decide +kernel) w588 rfl w587, (fun q hq => absurd hq List.not_mem_nil)⟩)⟩) (by decide)
theorem s_X3_same_22 : Snd PG.nam M95 22 (m_ifz (fun x => if x = 0 then 25 else 27)) := snd_if_ne dX3_same_22 (by decide)
theorem s_X3_same_25 : Snd PG.nam M95 25 (m_const (.int (nI 0)) 26) := snd_iconst dX3_same_25 (by decide)
theorem s_X3_same_26 : Snd PG.nam M95 26 (m_iret .boolean) := snd_iret dX3_same_26 rfl
theorem s_X3_same_27 : Snd PG.nam M95 27 (m_iinc 2 (nI 1) 30) := snd_iinc dX3_same_27 (by decide) (by decide)
theorem s_X3_same_30 : Snd PG.nam M95 30 (m_goto 2) := snd_goto dX3_same_30 (by decide)
theorem s_X3_same_33 : Snd PG.nam M95 33 (m_const (.int (nI 1)) 34) := snd_iconst dX3_same_33 (by decide)
theorem s_X3_same_34 : Snd PG.nam M95 34 (m_iret .boolean) := snd_iret dX3_same_34 rfl
theorem T95 : ∀ q ∈ S95, Snd PG.nam M95 q.1 q.2 := List.forall_mem_cons.mpr ⟨s_X3_same_0, List.forall_mem_cons.mpr ⟨s_X3_same_1, List.forall_mem_cons.mpr ⟨s_X3_same_2, List.forall_mem_cons.mpr ⟨s_X3_same_3, List.forall_mem_cons.mpr ⟨s_X3_same_4, List.forall_mem_cons.mpr ⟨s_X3_same_7, List.forall_mem_cons.mpr ⟨s_X3_same_8, List.forall_mem_cons.mpr ⟨s_X3_same_11, List.forall_mem_cons.mpr ⟨s_X3_same_12, List.forall_mem_cons.mpr ⟨s_X3_same_13, List.forall_mem_cons.mpr ⟨s_X3_same_14, List.forall_mem_cons.mpr ⟨s_X3_same_17, List.forall_mem_cons.mpr ⟨s_X3_same_18, List.forall_mem_cons.mpr ⟨s_X3_same_19, List.forall_mem_cons.mpr ⟨s_X3_same_22, List.forall_mem_cons.mpr ⟨s_X3_same_25, List.forall_mem_cons.mpr ⟨s_X3_same_26, List.forall_mem_cons.mpr ⟨s_X3_same_27, List.forall_mem_cons.mpr ⟨s_X3_same_30, List.forall_mem_cons.mpr ⟨s_X3_same_33, List.forall_mem_cons.mpr ⟨s_X3_same_34, (fun q hq => absurd hq List.not_mem_nil)⟩⟩⟩⟩⟩⟩⟩⟩⟩⟩⟩⟩⟩⟩⟩⟩⟩⟩⟩⟩⟩
theorem s_X4_init_0 : Snd PG.nam M96 0 (m_aload 0 1) := snd_aload_n dX4_init_0 rfl
theorem s_X4_init_1 : Snd PG.nam M96 1 (m_oi 4) := snd_oi dX4_init_1 w297 w113 w114
theorem s_X4_init_4 : Snd PG.nam M96 4 (m_vret) := snd_vret dX4_init_4 rfl
theorem T96 : ∀ q ∈ S96, Snd PG.nam M96 q.1 q.2 := List.forall_mem_cons.mpr ⟨s_X4_init_0, List.forall_mem_cons.mpr ⟨s_X4_init_1, List.forall_mem_cons.mpr ⟨s_X4_init_4, (fun q hq => absurd hq List.not_mem_nil)⟩⟩⟩
theorem s_X5_init_0 : Snd PG.nam M97 0 (m_aload 0 1) := snd_aload_n dX5_init_0 rfl
theorem s_X5_init_1 : Snd PG.nam M97 1 (m_callI 96 0 4) := snd_callI (nam := PG.nam) (yy := 96) dX5_init_1 (Or.inr ⟨_, w294⟩) mi_96 rfl w296 (by decide)
theorem s_X5_init_4 : Snd PG.nam M97 4 (m_aload 0 5) := snd_aload_n dX5_init_4 rfl
theorem s_X5_init_5 : Snd PG.nam M97 5 (m_iload 1 6) := snd_iload_n dX5_init_5 rfl
theorem s_X5_init_6 : Snd PG.nam M97 6 (m_putf [(3, 0)] .int 9) := snd_putF dX5_init_6 fd_X5_7 rfl
theorem s_X5_init_9 : Snd PG.nam M97 9 (m_vret) := snd_vret dX5_init_9 rfl
theorem T97 : ∀ q ∈ S97, Snd PG.nam M97 q.1 q.2 := List.forall_mem_cons.mpr ⟨s_X5_init_0, List.forall_mem_cons.mpr ⟨s_X5_init_1, List.forall_mem_cons.mpr ⟨s_X5_init_4, List.forall_mem_cons.mpr ⟨s_X5_init_5, List.forall_mem_cons.mpr ⟨s_X5_init_6, List.forall_mem_cons.mpr ⟨s_X5_init_9, (fun q hq => absurd hq List.not_mem_nil)⟩⟩⟩⟩⟩⟩
theorem s_X5_same_0 : Snd PG.nam M98 0 (m_aload 1 1) := snd_aload_n dX5_same_0 rfl
theorem s_X5_same_1 : Snd PG.nam M98 1 (m_inst [3] [4] 4) := snd_inst dX5_same_1 w586 (List.forall_mem_cons.mpr ⟨⟨_, rfl, Or.inr rfl⟩, (fun ci hci => absurd hci List.not_mem_nil)⟩) (List.forall_mem_cons.mpr ⟨⟨_, rfl, nc_X6_X5⟩, (fun ci hci => absurd hci List.not_mem_nil)⟩)
theorem s_X5_same_4 : Snd PG.nam M98 4 (m_ifz (fun x => if x = 0 then 25 else 7)) := snd_if_eq dX5_same_4 (by decide)
theorem s_X5_same_7 : Snd PG.nam M98 7 (m_aload 1 8) := snd_aload_n dX5_same_7 rfl
theorem s_X5_same_8 : Snd PG.nam M98 8 (m_cast [3] 11) := snd_cast dX5_same_8 w586 (List.forall_mem_cons.mpr ⟨⟨_, rfl, Or.inr rfl⟩, (fun ci hci => absurd hci List.not_mem_nil)⟩)
theorem s_X5_same_11 : Snd PG.nam M98 11 (m_getf [(3, 0)] 14) := snd_getf dX5_same_11 fd_X5_7
theorem s_X5_same_14 : Snd PG.nam M98 14 (m_aload 0 15) := snd_aload_n dX5_same_14 rfl
theorem s_X5_same_15 : Snd PG.nam M98 15 (m_getf [(3, 0)] 18) := snd_getf dX5_same_15 fd_X5_7
theorem s_X5_same_18 : Snd PG.nam M98 18 (m_icmp (fun x z => if x = z then 21 else 25)) := snd_icmp_ne dX5_same_18 (by decide)
theorem s_X5_same_21 : Snd PG.nam M98 21 (m_const (.int (nI 1)) 22) := snd_iconst dX5_same_21 (by decide)
theorem s_X5_same_22 : Snd PG.nam M98 22 (m_goto 26) := snd_goto dX5_same_22 (by decide)
theorem s_X5_same_25 : Snd PG.nam M98 25 (m_const (.int (nI 0)) 26) := snd_iconst dX5_same_25 (by decide)
theorem s_X5_same_26 : Snd PG.nam M98 26 (m_iret .boolean) := snd_iret dX5_same_26 rfl
theorem T98 : ∀ q ∈ S98, Snd PG.nam M98 q.1 q.2 := List.forall_mem_cons.mpr ⟨s_X5_same_0, List.forall_mem_cons.mpr ⟨s_X5_same_1, List.forall_mem_cons.mpr ⟨s_X5_same_4, List.forall_mem_cons.mpr ⟨s_X5_same_7, List.forall_mem_cons.mpr ⟨s_X5_same_8, List.forall_mem_cons.mpr ⟨s_X5_same_11, List.forall_mem_cons.mpr ⟨s_X5_same_14, List.forall_mem_cons.mpr ⟨s_X5_same_15, List.forall_mem_cons.mpr ⟨s_X5_same_18, List.forall_mem_cons.mpr ⟨s_X5_same_21, List.forall_mem_cons.mpr ⟨s_X5_same_22, List.forall_mem_cons.mpr ⟨s_X5_same_25, List.forall_mem_cons.mpr ⟨s_X5_same_26, (fun q hq => absurd hq List.not_mem_nil)⟩⟩⟩⟩⟩⟩⟩⟩⟩⟩⟩⟩⟩
theorem s_X5_less_0 : Snd PG.nam M99 0 (m_aload 1 1) := snd_aload_n dX5_less_0 rfl
theorem s_X5_less_1 : Snd PG.nam M99 1 (m_inst [3] [4] 4) := snd_inst dX5_less_1 w586 (List.forall_mem_cons.mpr ⟨⟨_, rfl, Or.inr rfl⟩, (fun ci hci => absurd hci List.not_mem_nil)⟩) (List.forall_mem_cons.mpr ⟨⟨_, rfl, nc_X6_X5⟩, (fun ci hci => absurd hci List.not_mem_nil)⟩)
theorem s_X5_less_4 : Snd PG.nam M99 4 (m_ifz (fun x => if x = 0 then 21 else 7)) := snd_if_eq dX5_less_4 (by decide)
theorem s_X5_less_7 : Snd PG.nam M99 7 (m_aload 0 8) := snd_aload_n dX5_less_7 rfl
theorem s_X5_less_8 : Snd PG.nam M99 8 (m_getf [(3, 0)] 11) := snd_getf dX5_less_8 fd_X5_7
theorem s_X5_less_11 : Snd PG.nam M99 11 (m_aload 1 12) := snd_aload_n dX5_less_11 rfl
theorem s_X5_less_12 : Snd PG.nam M99 12 (m_cast [3] 15) := snd_cast dX5_less_12 w586 (List.forall_mem_cons.mpr ⟨⟨_, rfl, Or.inr rfl⟩, (fun ci hci => absurd hci List.not_mem_nil)⟩)
theorem s_X5_less_15 : Snd PG.nam M99 15 (m_getf [(3, 0)] 18) := snd_getf dX5_less_15 fd_X5_7
theorem s_X5_less_18 : Snd PG.nam M99 18 (m_icmp (fun x z => if x < z then 21 else 25)) := snd_icmp_ge dX5_less_18 (by decide)
theorem s_X5_less_21 : Snd PG.nam M99 21 (m_const (.int (nI 1)) 22) := snd_iconst dX5_less_21 (by decide)
theorem s_X5_less_22 : Snd PG.nam M99 22 (m_goto 26) := snd_goto dX5_less_22 (by decide)
theorem s_X5_less_25 : Snd PG.nam M99 25 (m_const (.int (nI 0)) 26) := snd_iconst dX5_less_25 (by decide)
theorem s_X5_less_26 : Snd PG.nam M99 26 (m_iret .boolean) := snd_iret dX5_less_26 rfl
theorem T99 : ∀ q ∈ S99, Snd PG.nam M99 q.1 q.2 := List.forall_mem_cons.mpr ⟨s_X5_less_0, List.forall_mem_cons.mpr ⟨s_X5_less_1, List.forall_mem_cons.mpr ⟨s_X5_less_4, List.forall_mem_cons.mpr ⟨s_X5_less_7, List.forall_mem_cons.mpr ⟨s_X5_less_8, List.forall_mem_cons.mpr ⟨s_X5_less_11, List.forall_mem_cons.mpr ⟨s_X5_less_12, List.forall_mem_cons.mpr ⟨s_X5_less_15, List.forall_mem_cons.mpr ⟨s_X5_less_18, List.forall_mem_cons.mpr ⟨s_X5_less_21, List.forall_mem_cons.mpr ⟨s_X5_less_22, List.forall_mem_cons.mpr ⟨s_X5_less_25, List.forall_mem_cons.mpr ⟨s_X5_less_26, (fun q hq => absurd hq List.not_mem_nil)⟩⟩⟩⟩⟩⟩⟩⟩⟩⟩⟩⟩⟩
theorem s_X5_coded_0 : Snd PG.nam M100 0 (m_const (.long (-1 : Int64)) 3) := snd_ldc2 dX5_coded_0 w1392
theorem s_X5_coded_3 : Snd PG.nam M100 3 (m_aload 0 4) := snd_aload_n dX5_coded_3 rfl
theorem s_X5_coded_4 : Snd PG.nam M100 4 (m_getf [(3, 0)] 7) := snd_getf dX5_coded_4 fd_X5_7
theorem s_X5_coded_7 : Snd PG.nam M100 7 (m_i2l 8) := snd_i2l dX5_coded_7
theorem s_X5_coded_8 : Snd PG.nam M100 8 (m_lbin (fun a b => a - b) 9) := snd_lsub dX5_coded_8
theorem s_X5_coded_9 : Snd PG.nam M100 9 (m_lret) := snd_lret dX5_coded_9 rfl
theorem T100 : ∀ q ∈ S100, Snd PG.nam M100 q.1 q.2 := List.forall_mem_cons.mpr ⟨s_X5_coded_0, List.forall_mem_cons.mpr ⟨s_X5_coded_3, List.forall_mem_cons.mpr ⟨s_X5_coded_4, List.forall_mem_cons.mpr ⟨s_X5_coded_7, List.forall_mem_cons.mpr ⟨s_X5_coded_8, List.forall_mem_cons.mpr ⟨s_X5_coded_9, (fun q hq => absurd hq List.not_mem_nil)⟩⟩⟩⟩⟩⟩
theorem s_X6_init_0 : Snd PG.nam M101 0 (m_aload 0 1) := snd_aload_n dX6_init_0 rfl
theorem s_X6_init_1 : Snd PG.nam M101 1 (m_callI 96 0 4) := snd_callI (nam := PG.nam) (yy := 96) dX6_init_1 (Or.inr ⟨_, w555⟩) mi_96 rfl w296 (by decide)
theorem s_X6_init_4 : Snd PG.nam M101 4 (m_aload 0 5) := snd_aload_n dX6_init_4 rfl
theorem s_X6_init_5 : Snd PG.nam M101 5 (m_aload 1 6) := snd_aload_n dX6_init_5 rfl
theorem s_X6_init_6 : Snd PG.nam M101 6 (m_putf [(4, 0)] (.object "java/lang/String") 9) := snd_putF dX6_init_6 fd_X6_7 rfl
theorem s_X6_init_9 : Snd PG.nam M101 9 (m_vret) := snd_vret dX6_init_9 rfl
theorem T101 : ∀ q ∈ S101, Snd PG.nam M101 q.1 q.2 := List.forall_mem_cons.mpr ⟨s_X6_init_0, List.forall_mem_cons.mpr ⟨s_X6_init_1, List.forall_mem_cons.mpr ⟨s_X6_init_4, List.forall_mem_cons.mpr ⟨s_X6_init_5, List.forall_mem_cons.mpr ⟨s_X6_init_6, List.forall_mem_cons.mpr ⟨s_X6_init_9, (fun q hq => absurd hq List.not_mem_nil)⟩⟩⟩⟩⟩⟩
theorem s_X6_same_0 : Snd PG.nam M102 0 (m_aload 1 1) := snd_aload_n dX6_same_0 rfl
theorem s_X6_same_1 : Snd PG.nam M102 1 (m_inst [4] [3] 4) := snd_inst dX6_same_1 w590 (List.forall_mem_cons.mpr ⟨⟨_, rfl, Or.inr rfl⟩, (fun ci hci => absurd hci List.not_mem_nil)⟩) (List.forall_mem_cons.mpr ⟨⟨_, rfl, nc_X5_X6⟩, (fun ci hci => absurd hci List.not_mem_nil)⟩)
theorem s_X6_same_4 : Snd PG.nam M102 4 (m_ifz (fun x => if x = 0 then 28 else 7)) := snd_if_eq dX6_same_4 (by decide)
theorem s_X6_same_7 : Snd PG.nam M102 7 (m_aload 1 8) := snd_aload_n dX6_same_7 rfl
theorem s_X6_same_8 : Snd PG.nam M102 8 (m_cast [4] 11) := snd_cast dX6_same_8 w590 (List.forall_mem_cons.mpr ⟨⟨_, rfl, Or.inr rfl⟩, (fun ci hci => absurd hci List.not_mem_nil)⟩)
theorem s_X6_same_11 : Snd PG.nam M102 11 (m_getf [(4, 0)] 14) := snd_getf dX6_same_11 fd_X6_7
theorem s_X6_same_14 : Snd PG.nam M102 14 (m_aload 0 15) := snd_aload_n dX6_same_14 rfl
theorem s_X6_same_15 : Snd PG.nam M102 15 (m_getf [(4, 0)] 18) := snd_getf dX6_same_15 fd_X6_7
theorem s_X6_same_18 : Snd PG.nam M102 18 (m_callV false [(23, 181)] 1 21) := snd_callV (nam := PG.nam) (List.forall_mem_cons.mpr ⟨dr_V (ym := PG.nam 181) dX6_same_18 (Or.inl w591) mi_181 rfl w593, (fun q hq => absurd hq List.not_mem_nil)⟩) (by decide)
theorem s_X6_same_21 : Snd PG.nam M102 21 (m_ifz (fun x => if x = 0 then 28 else 24)) := snd_if_eq dX6_same_21 (by decide)
theorem s_X6_same_24 : Snd PG.nam M102 24 (m_const (.int (nI 1)) 25) := snd_iconst dX6_same_24 (by decide)
theorem s_X6_same_25 : Snd PG.nam M102 25 (m_goto 29) := snd_goto dX6_same_25 (by decide)
theorem s_X6_same_28 : Snd PG.nam M102 28 (m_const (.int (nI 0)) 29) := snd_iconst dX6_same_28 (by decide)
theorem s_X6_same_29 : Snd PG.nam M102 29 (m_iret .boolean) := snd_iret dX6_same_29 rfl
theorem T102 : ∀ q ∈ S102, Snd PG.nam M102 q.1 q.2 := List.forall_mem_cons.mpr ⟨s_X6_same_0, List.forall_mem_cons.mpr ⟨s_X6_same_1, List.forall_mem_cons.mpr ⟨s_X6_same_4, List.forall_mem_cons.mpr ⟨s_X6_same_7, List.forall_mem_cons.mpr ⟨s_X6_same_8, List.forall_mem_cons.mpr ⟨s_X6_same_11, List.forall_mem_cons.mpr ⟨s_X6_same_14, List.forall_mem_cons.mpr ⟨s_X6_same_15, List.forall_mem_cons.mpr ⟨s_X6_same_18, List.forall_mem_cons.mpr ⟨s_X6_same_21, List.forall_mem_cons.mpr ⟨s_X6_same_24, List.forall_mem_cons.mpr ⟨s_X6_same_25, List.forall_mem_cons.mpr ⟨s_X6_same_28, List.forall_mem_cons.mpr ⟨s_X6_same_29, (fun q hq => absurd hq List.not_mem_nil)⟩⟩⟩⟩⟩⟩⟩⟩⟩⟩⟩⟩⟩⟩
theorem s_X6_less_0 : Snd PG.nam M103 0 (m_aload 1 1) := snd_aload_n dX6_less_0 rfl
theorem s_X6_less_1 : Snd PG.nam M103 1 (m_inst [4] [3] 4) := snd_inst dX6_less_1 w590 (List.forall_mem_cons.mpr ⟨⟨_, rfl, Or.inr rfl⟩, (fun ci hci => absurd hci List.not_mem_nil)⟩) (List.forall_mem_cons.mpr ⟨⟨_, rfl, nc_X5_X6⟩, (fun ci hci => absurd hci List.not_mem_nil)⟩)
theorem s_X6_less_4 : Snd PG.nam M103 4 (m_ifz (fun x => if x = 0 then 7 else 9)) := snd_if_ne dX6_less_4 (by decide)
theorem s_X6_less_7 : Snd PG.nam M103 7 (m_const (.int (nI 0)) 8) := snd_iconst dX6_less_7 (by decide)
theorem s_X6_less_8 : Snd PG.nam M103 8 (m_iret .boolean) := snd_iret dX6_less_8 rfl
theorem s_X6_less_9 : Snd PG.nam M103 9 (m_aload 1 10) := snd_aload_n dX6_less_9 rfl
theorem s_X6_less_10 : Snd PG.nam M103 10 (m_cast [4] 13) := snd_cast dX6_less_10 w590 (List.forall_mem_cons.mpr ⟨⟨_, rfl, Or.inr rfl⟩, (fun ci hci => absurd hci List.not_mem_nil)⟩)
theorem s_X6_less_13 : Snd PG.nam M103 13 (m_getf [(4, 0)] 16) := snd_getf dX6_less_13 fd_X6_7
theorem s_X6_less_16 : Snd PG.nam M103 16 (m_astore 2 17) := snd_astore_n dX6_less_16 rfl (by decide)
theorem s_X6_less_17 : Snd PG.nam M103 17 (m_const (.int (nI 0)) 18) := snd_iconst dX6_less_17 (by decide)
theorem s_X6_less_18 : Snd PG.nam M103 18 (m_istore 3 19) := snd_istore_n dX6_less_18 rfl (by decide)
theorem s_X6_less_19 : Snd PG.nam M103 19 (m_iload 3 20) := snd_iload_n dX6_less_19 rfl
theorem s_X6_less_20 : Snd PG.nam M103 20 (m_aload 0 21) := snd_aload_n dX6_less_20 rfl
theorem s_X6_less_21 : Snd PG.nam M103 21 (m_getf [(4, 0)] 24) := snd_getf dX6_less_21 fd_X6_7
theorem s_X6_less_24 : Snd PG.nam M103 24 (m_callV false [(23, 179)] 0 27) := snd_callV (nam := PG.nam) (List.forall_mem_cons.mpr ⟨dr_V (ym := PG.nam 179) dX6_less_24 (Or.inl w1307) mi_179 rfl w491, (fun q hq => absurd hq List.not_mem_nil)⟩) (by decide)
theorem s_X6_less_27 : Snd PG.nam M103 27 (m_icmp (fun x z => if x < z then 30 else 82)) := snd_icmp_ge dX6_less_27 (by decide)
theorem s_X6_less_30 : Snd PG.nam M103 30 (m_iload 3 31) := snd_iload_n dX6_less_30 rfl
theorem s_X6_less_31 : Snd PG.nam M103 31 (m_aload 2 32) := snd_aload_n dX6_less_31 rfl
theorem s_X6_less_32 : Snd PG.nam M103 32 (m_callV false [(23, 179)] 0 35) := snd_callV (nam := PG.nam) (List.forall_mem_cons.mpr ⟨dr_V (ym := PG.nam 179) dX6_less_32 (Or.inl w1307) mi_179 rfl w491, (fun q hq => absurd hq List.not_mem_nil)⟩) (by decide)
theorem s_X6_less_35 : Snd PG.nam M103 35 (m_icmp (fun x z => if x < z then 38 else 82)) := snd_icmp_ge dX6_less_35 (by decide)
theorem s_X6_less_38 : Snd PG.nam M103 38 (m_aload 0 39) := snd_aload_n dX6_less_38 rfl
theorem s_X6_less_39 : Snd PG.nam M103 39 (m_getf [(4, 0)] 42) := snd_getf dX6_less_39 fd_X6_7
theorem s_X6_less_42 : Snd PG.nam M103 42 (m_iload 3 43) := snd_iload_n dX6_less_42 rfl
theorem s_X6_less_43 : Snd PG.nam M103 43 (m_callV false [(23, 182)] 1 46) := snd_callV (nam := PG.nam) (List.forall_mem_cons.mpr ⟨dr_V (ym := PG.nam 182) dX6_less_43 (Or.inl w1308) mi_182 rfl w768, (fun q hq => absurd hq List.not_mem_nil)⟩) (by decide)
theorem s_X6_less_46 : Snd PG.nam M103 46 (m_aload 2 47) := snd_aload_n dX6_less_46 rfl
theorem s_X6_less_47 : Snd PG.nam M103 47 (m_iload 3 48) := snd_iload_n dX6_less_47 rfl
theorem s_X6_less_48 : Snd PG.nam M103 48 (m_callV false [(23, 182)] 1 51) := snd_callV (nam := PG.nam) (List.forall_mem_cons.mpr ⟨dr_V (ym := PG.nam 182) dX6_less_48 (Or.inl w1308) mi_182 rfl w768, (fun q hq => absurd hq List.not_mem_nil)⟩) (by decide)
theorem s_X6_less_51 : Snd PG.nam M103 51 (m_icmp (fun x z => if x = z then 76 else 54)) := snd_icmp_eq dX6_less_51 (by decide)
theorem s_X6_less_54 : Snd PG.nam M103 54 (m_aload 0 55) := snd_aload_n dX6_less_54 rfl
theorem s_X6_less_55 : Snd PG.nam M103 55 (m_getf [(4, 0)] 58) := snd_getf dX6_less_55 fd_X6_7
theorem s_X6_less_58 : Snd PG.nam M103 58 (m_iload 3 59) := snd_iload_n dX6_less_58 rfl
theorem s_X6_less_59 : Snd PG.nam M103 59 (m_callV false [(23, 182)] 1 62) := snd_callV (nam := PG.nam) (List.forall_mem_cons.mpr ⟨dr_V (ym := PG.nam 182) dX6_less_59 (Or.inl w1308) mi_182 rfl w768, (fun q hq => absurd hq List.not_mem_nil)⟩) (by decide)
theorem s_X6_less_62 : Snd PG.nam M103 62 (m_aload 2 63) := snd_aload_n dX6_less_62 rfl
theorem s_X6_less_63 : Snd PG.nam M103 63 (m_iload 3 64) := snd_iload_n dX6_less_63 rfl
theorem s_X6_less_64 : Snd PG.nam M103 64 (m_callV false [(23, 182)] 1 67) := snd_callV (nam := PG.nam) (List.forall_mem_cons.mpr ⟨dr_V (ym := PG.nam 182) dX6_less_64 (Or.inl w1308) mi_182 rfl w768, (fun q hq => absurd hq List.not_mem_nil)⟩) (by decide)
theorem s_X6_less_67 : Snd PG.nam M103 67 (m_icmp (fun x z => if x < z then 70 else 74)) := snd_icmp_ge dX6_less_67 (by decide)
theorem s_X6_less_70 : Snd PG.nam M103 70 (m_const (.int (nI 1)) 71) := snd_iconst dX6_less_70 (by decide)
theorem s_X6_less_71 : Snd PG.nam M103 71 (m_goto 75) := snd_goto dX6_less_71 (by decide)
theorem s_X6_less_74 : Snd PG.nam M103 74 (m_const (.int (nI 0)) 75) := snd_iconst dX6_less_74 (by decide)
theorem s_X6_less_75 : Snd PG.nam M103 75 (m_iret .boolean) := snd_iret dX6_less_75 rfl
theorem s_X6_less_76 : Snd PG.nam M103 76 (m_iinc 3 (nI 1) 79) := snd_iinc dX6_less_76 (by decide) (by decide)
theorem s_X6_less_79 : Snd PG.nam M103 79 (m_goto 19) := snd_goto dX6_less_79 (by decide)
theorem s_X6_less_82 : Snd PG.nam M103 82 (m_aload 0 83) := snd_aload_n dX6_less_82 rfl
theorem s_X6_less_83 : Snd PG.nam M103 83 (m_getf [(4, 0)] 86) := snd_getf dX6_less_83 fd_X6_7
theorem s_X6_less_86 : Snd PG.nam M103 86 (m_callV false [(23, 179)] 0 89) := snd_callV (nam := PG.nam) (List.forall_mem_cons.mpr ⟨dr_V (ym := PG.nam 179) dX6_less_86 (Or.inl w1307) mi_179 rfl w491, (fun q hq => absurd hq List.not_mem_nil)⟩) (by decide)
theorem s_X6_less_89 : Snd PG.nam M103 89 (m_aload 2 90) := snd_aload_n dX6_less_89 rfl
theorem s_X6_less_90 : Snd PG.nam M103 90 (m_callV false [(23, 179)] 0 93) := snd_callV (nam := PG.nam) (List.forall_mem_cons.mpr ⟨dr_V (ym := PG.nam 179) dX6_less_90 (Or.inl w1307) mi_179 rfl w491, (fun q hq => absurd hq List.not_mem_nil)⟩) (by decide)
theorem s_X6_less_93 : Snd PG.nam M103 93 (m_icmp (fun x z => if x < z then 96 else 100)) := snd_icmp_ge dX6_less_93 (by decide)
theorem s_X6_less_96 : Snd PG.nam M103 96 (m_const (.int (nI 1)) 97) := snd_iconst dX6_less_96 (by decide)
theorem s_X6_less_97 : Snd PG.nam M103 97 (m_goto 101) := snd_goto dX6_less_97 (by decide)
theorem s_X6_less_100 : Snd PG.nam M103 100 (m_const (.int (nI 0)) 101) := snd_iconst dX6_less_100 (by decide)
theorem s_X6_less_101 : Snd PG.nam M103 101 (m_iret .boolean) := snd_iret dX6_less_101 rfl
theorem T103 : ∀ q ∈ S103, Snd PG.nam M103 q.1 q.2 := List.forall_mem_cons.mpr ⟨s_X6_less_0, List.forall_mem_cons.mpr ⟨s_X6_less_1, List.forall_mem_cons.mpr ⟨s_X6_less_4, List.forall_mem_cons.mpr ⟨s_X6_less_7, List.forall_mem_cons.mpr ⟨s_X6_less_8, List.forall_mem_cons.mpr ⟨s_X6_less_9, List.forall_mem_cons.mpr ⟨s_X6_less_10, List.forall_mem_cons.mpr ⟨s_X6_less_13, List.forall_mem_cons.mpr ⟨s_X6_less_16, List.forall_mem_cons.mpr ⟨s_X6_less_17, List.forall_mem_cons.mpr ⟨s_X6_less_18, List.forall_mem_cons.mpr ⟨s_X6_less_19, List.forall_mem_cons.mpr ⟨s_X6_less_20, List.forall_mem_cons.mpr ⟨s_X6_less_21, List.forall_mem_cons.mpr ⟨s_X6_less_24, List.forall_mem_cons.mpr ⟨s_X6_less_27, List.forall_mem_cons.mpr ⟨s_X6_less_30, List.forall_mem_cons.mpr ⟨s_X6_less_31, List.forall_mem_cons.mpr ⟨s_X6_less_32, List.forall_mem_cons.mpr ⟨s_X6_less_35, List.forall_mem_cons.mpr ⟨s_X6_less_38, List.forall_mem_cons.mpr ⟨s_X6_less_39, List.forall_mem_cons.mpr ⟨s_X6_less_42, List.forall_mem_cons.mpr ⟨s_X6_less_43, List.forall_mem_cons.mpr ⟨s_X6_less_46, List.forall_mem_cons.mpr ⟨s_X6_less_47, List.forall_mem_cons.mpr ⟨s_X6_less_48, List.forall_mem_cons.mpr ⟨s_X6_less_51, List.forall_mem_cons.mpr ⟨s_X6_less_54, List.forall_mem_cons.mpr ⟨s_X6_less_55, List.forall_mem_cons.mpr ⟨s_X6_less_58, List.forall_mem_cons.mpr ⟨s_X6_less_59, List.forall_mem_cons.mpr ⟨s_X6_less_62, List.forall_mem_cons.mpr ⟨s_X6_less_63, List.forall_mem_cons.mpr ⟨s_X6_less_64, List.forall_mem_cons.mpr ⟨s_X6_less_67, List.forall_mem_cons.mpr ⟨s_X6_less_70, List.forall_mem_cons.mpr ⟨s_X6_less_71, List.forall_mem_cons.mpr ⟨s_X6_less_74, List.forall_mem_cons.mpr ⟨s_X6_less_75, List.forall_mem_cons.mpr ⟨s_X6_less_76, List.forall_mem_cons.mpr ⟨s_X6_less_79, List.forall_mem_cons.mpr ⟨s_X6_less_82, List.forall_mem_cons.mpr ⟨s_X6_less_83, List.forall_mem_cons.mpr ⟨s_X6_less_86, List.forall_mem_cons.mpr ⟨s_X6_less_89, List.forall_mem_cons.mpr ⟨s_X6_less_90, List.forall_mem_cons.mpr ⟨s_X6_less_93, List.forall_mem_cons.mpr ⟨s_X6_less_96, List.forall_mem_cons.mpr ⟨s_X6_less_97, List.forall_mem_cons.mpr ⟨s_X6_less_100, List.forall_mem_cons.mpr ⟨s_X6_less_101, (fun q hq => absurd hq List.not_mem_nil)⟩⟩⟩⟩⟩⟩⟩⟩⟩⟩⟩⟩⟩⟩⟩⟩⟩⟩⟩⟩⟩⟩⟩⟩⟩⟩⟩⟩⟩⟩⟩⟩⟩⟩⟩⟩⟩⟩⟩⟩⟩⟩⟩⟩⟩⟩⟩⟩⟩⟩⟩⟩
theorem s_X6_coded_0 : Snd PG.nam M104 0 (m_const (.long (0 : Int64)) 1) := snd_lconst dX6_coded_0 (by decide)
theorem s_X6_coded_1 : Snd PG.nam M104 1 (m_lstore 1 2) := snd_lstore_n dX6_coded_1 rfl (by decide)
theorem s_X6_coded_2 : Snd PG.nam M104 2 (m_const (.int (nI 0)) 3) := snd_iconst dX6_coded_2 (by decide)
theorem s_X6_coded_3 : Snd PG.nam M104 3 (m_istore 3 4) := snd_istore_n dX6_coded_3 rfl (by decide)
theorem s_X6_coded_4 : Snd PG.nam M104 4 (m_iload 3 5) := snd_iload_n dX6_coded_4 rfl
theorem s_X6_coded_5 : Snd PG.nam M104 5 (m_aload 0 6) := snd_aload_n dX6_coded_5 rfl
theorem s_X6_coded_6 : Snd PG.nam M104 6 (m_getf [(4, 0)] 9) := snd_getf dX6_coded_6 fd_X6_7
theorem s_X6_coded_9 : Snd PG.nam M104 9 (m_callV false [(23, 179)] 0 12) := snd_callV (nam := PG.nam) (List.forall_mem_cons.mpr ⟨dr_V (ym := PG.nam 179) dX6_coded_9 (Or.inl w1307) mi_179 rfl w491, (fun q hq => absurd hq List.not_mem_nil)⟩) (by decide)
theorem s_X6_coded_12 : Snd PG.nam M104 12 (m_icmp (fun x z => if x < z then 15 else 36)) := snd_icmp_ge dX6_coded_12 (by decide)
theorem s_X6_coded_15 : Snd PG.nam M104 15 (m_lload 1 16) := snd_lload_n dX6_coded_15 rfl
theorem s_X6_coded_16 : Snd PG.nam M104 16 (m_const (.int (nI 8)) 18) := snd_bipush dX6_coded_16 (by decide)
theorem s_X6_coded_18 : Snd PG.nam M104 18 (m_lsh (fun a b => a <<< (b.toInt64 &&& 63)) 19) := snd_lshl dX6_coded_18
theorem s_X6_coded_19 : Snd PG.nam M104 19 (m_aload 0 20) := snd_aload_n dX6_coded_19 rfl
theorem s_X6_coded_20 : Snd PG.nam M104 20 (m_getf [(4, 0)] 23) := snd_getf dX6_coded_20 fd_X6_7
theorem s_X6_coded_23 : Snd PG.nam M104 23 (m_iload 3 24) := snd_iload_n dX6_coded_23 rfl
theorem s_X6_coded_24 : Snd PG.nam M104 24 (m_callV false [(23, 182)] 1 27) := snd_callV (nam := PG.nam) (List.forall_mem_cons.mpr ⟨dr_V (ym := PG.nam 182) dX6_coded_24 (Or.inl w1308) mi_182 rfl w768, (fun q hq => absurd hq List.not_mem_nil)⟩) (by decide)
theorem s_X6_coded_27 : Snd PG.nam M104 27 (m_i2l 28) := snd_i2l dX6_coded_27
theorem s_X6_coded_28 : Snd PG.nam M104 28 (m_lbin (fun a b => a ||| b) 29) := snd_lor dX6_coded_28
theorem s_X6_coded_29 : Snd PG.nam M104 29 (m_lstore 1 30) := snd_lstore_n dX6_coded_29 rfl (by decide)
theorem s_X6_coded_30 : Snd PG.nam M104 30 (m_iinc 3 (nI 1) 33) := snd_iinc dX6_coded_30 (by decide) (by decide)
theorem s_X6_coded_33 : Snd PG.nam M104 33 (m_goto 4) := snd_goto dX6_coded_33 (by decide)
theorem s_X6_coded_36 : Snd PG.nam M104 36 (m_lload 1 37) := snd_lload_n dX6_coded_36 rfl
theorem s_X6_coded_37 : Snd PG.nam M104 37 (m_lret) := snd_lret dX6_coded_37 rfl
theorem T104 : ∀ q ∈ S104, Snd PG.nam M104 q.1 q.2 := List.forall_mem_cons.mpr ⟨s_X6_coded_0, List.forall_mem_cons.mpr ⟨s_X6_coded_1, List.forall_mem_cons.mpr ⟨s_X6_coded_2, List.forall_mem_cons.mpr ⟨s_X6_coded_3, List.forall_mem_cons.mpr ⟨s_X6_coded_4, List.forall_mem_cons.mpr ⟨s_X6_coded_5, List.forall_mem_cons.mpr ⟨s_X6_coded_6, List.forall_mem_cons.mpr ⟨s_X6_coded_9, List.forall_mem_cons.mpr ⟨s_X6_coded_12, List.forall_mem_cons.mpr ⟨s_X6_coded_15, List.forall_mem_cons.mpr ⟨s_X6_coded_16, List.forall_mem_cons.mpr ⟨s_X6_coded_18, List.forall_mem_cons.mpr ⟨s_X6_coded_19, List.forall_mem_cons.mpr ⟨s_X6_coded_20, List.forall_mem_cons.mpr ⟨s_X6_coded_23, List.forall_mem_cons.mpr ⟨s_X6_coded_24, List.forall_mem_cons.mpr ⟨s_X6_coded_27, List.forall_mem_cons.mpr ⟨s_X6_coded_28, List.forall_mem_cons.mpr ⟨s_X6_coded_29, List.forall_mem_cons.mpr ⟨s_X6_coded_30, List.forall_mem_cons.mpr ⟨s_X6_coded_33, List.forall_mem_cons.mpr ⟨s_X6_coded_36, List.forall_mem_cons.mpr ⟨s_X6_coded_37, (fun q hq => absurd hq List.not_mem_nil)⟩⟩⟩⟩⟩⟩⟩⟩⟩⟩⟩⟩⟩⟩⟩⟩⟩⟩⟩⟩⟩⟩⟩
theorem s_X7_init_0 : Snd PG.nam M105 0 (m_aload 0 1) := snd_aload_n dX7_init_0 rfl
theorem s_X7_init_1 : Snd PG.nam M105 1 (m_oi 4) := snd_oi dX7_init_1 w627 w113 w114
theorem s_X7_init_4 : Snd PG.nam M105 4 (m_aload 0 5) := snd_aload_n dX7_init_4 rfl
theorem s_X7_init_5 : Snd PG.nam M105 5 (m_iload 1 6) := snd_iload_n dX7_init_5 rfl
theorem s_X7_init_6 : Snd PG.nam M105 6 (m_putf [(5, 0)] .boolean 9) := snd_putF dX7_init_6 fd_X7_7 rfl
theorem s_X7_init_9 : Snd PG.nam M105 9 (m_aload 0 10) := snd_aload_n dX7_init_9 rfl
theorem s_X7_init_10 : Snd PG.nam M105 10 (m_aload 2 11) := snd_aload_n dX7_init_10 rfl
theorem s_X7_init_11 : Snd PG.nam M105 11 (m_putf [(5, 1)] (.object "TripleStore$Triple") 14) := snd_putF dX7_init_11 fd_X7_13 rfl
theorem s_X7_init_14 : Snd PG.nam M105 14 (m_aload 0 15) := snd_aload_n dX7_init_14 rfl
theorem s_X7_init_15 : Snd PG.nam M105 15 (m_aload 3 16) := snd_aload_n dX7_init_15 rfl
theorem s_X7_init_16 : Snd PG.nam M105 16 (m_putf [(5, 2)] (.object "TripleStore$Change") 19) := snd_putF dX7_init_16 fd_X7_17 rfl
theorem s_X7_init_19 : Snd PG.nam M105 19 (m_vret) := snd_vret dX7_init_19 rfl
theorem T105 : ∀ q ∈ S105, Snd PG.nam M105 q.1 q.2 := List.forall_mem_cons.mpr ⟨s_X7_init_0, List.forall_mem_cons.mpr ⟨s_X7_init_1, List.forall_mem_cons.mpr ⟨s_X7_init_4, List.forall_mem_cons.mpr ⟨s_X7_init_5, List.forall_mem_cons.mpr ⟨s_X7_init_6, List.forall_mem_cons.mpr ⟨s_X7_init_9, List.forall_mem_cons.mpr ⟨s_X7_init_10, List.forall_mem_cons.mpr ⟨s_X7_init_11, List.forall_mem_cons.mpr ⟨s_X7_init_14, List.forall_mem_cons.mpr ⟨s_X7_init_15, List.forall_mem_cons.mpr ⟨s_X7_init_16, List.forall_mem_cons.mpr ⟨s_X7_init_19, (fun q hq => absurd hq List.not_mem_nil)⟩⟩⟩⟩⟩⟩⟩⟩⟩⟩⟩⟩
theorem s_X8_init_0 : Snd PG.nam M106 0 (m_aload 0 1) := snd_aload_n dX8_init_0 rfl
theorem s_X8_init_1 : Snd PG.nam M106 1 (m_oi 4) := snd_oi dX8_init_1 w650 w113 w114
theorem s_X8_init_4 : Snd PG.nam M106 4 (m_aload 0 5) := snd_aload_n dX8_init_4 rfl
theorem s_X8_init_5 : Snd PG.nam M106 5 (m_aload 1 6) := snd_aload_n dX8_init_5 rfl
theorem s_X8_init_6 : Snd PG.nam M106 6 (m_putf [(6, 0)] (.object "TripleStore$Change") 9) := snd_putF dX8_init_6 fd_X8_7 rfl
theorem s_X8_init_9 : Snd PG.nam M106 9 (m_vret) := snd_vret dX8_init_9 rfl
theorem T106 : ∀ q ∈ S106, Snd PG.nam M106 q.1 q.2 := List.forall_mem_cons.mpr ⟨s_X8_init_0, List.forall_mem_cons.mpr ⟨s_X8_init_1, List.forall_mem_cons.mpr ⟨s_X8_init_4, List.forall_mem_cons.mpr ⟨s_X8_init_5, List.forall_mem_cons.mpr ⟨s_X8_init_6, List.forall_mem_cons.mpr ⟨s_X8_init_9, (fun q hq => absurd hq List.not_mem_nil)⟩⟩⟩⟩⟩⟩
theorem s_X9_init_0 : Snd PG.nam M107 0 (m_aload 0 1) := snd_aload_n dX9_init_0 rfl
theorem s_X9_init_1 : Snd PG.nam M107 1 (m_oi 4) := snd_oi dX9_init_1 w758 w113 w114
theorem s_X9_init_4 : Snd PG.nam M107 4 (m_aload 0 5) := snd_aload_n dX9_init_4 rfl
theorem s_X9_init_5 : Snd PG.nam M107 5 (m_const (.int (nI 6)) 7) := snd_bipush dX9_init_5 (by decide)
theorem s_X9_init_7 : Snd PG.nam M107 7 (m_anew "java/lang/String" 10) := snd_anew dX9_init_7 w759 w760
theorem s_X9_init_10 : Snd PG.nam M107 10 (m_putf [(7, 2)] (.array (.object "java/lang/String")) 13) := snd_putF dX9_init_10 fd_X9_11 rfl
theorem s_X9_init_13 : Snd PG.nam M107 13 (m_aload 0 14) := snd_aload_n dX9_init_13 rfl
theorem s_X9_init_14 : Snd PG.nam M107 14 (m_aload 1 15) := snd_aload_n dX9_init_14 rfl
theorem s_X9_init_15 : Snd PG.nam M107 15 (m_putf [(7, 0)] (.object "TripleStore") 18) := snd_putF dX9_init_15 fd_X9_17 rfl
theorem s_X9_init_18 : Snd PG.nam M107 18 (m_aload 0 19) := snd_aload_n dX9_init_18 rfl
theorem s_X9_init_19 : Snd PG.nam M107 19 (m_aload 2 20) := snd_aload_n dX9_init_19 rfl
theorem s_X9_init_20 : Snd PG.nam M107 20 (m_putf [(7, 1)] (.object "java/lang/String") 23) := snd_putF dX9_init_20 fd_X9_21 rfl
theorem s_X9_init_23 : Snd PG.nam M107 23 (m_aload 0 24) := snd_aload_n dX9_init_23 rfl
theorem s_X9_init_24 : Snd PG.nam M107 24 (m_callV true [(7, 108)] 0 27) := snd_callV (nam := PG.nam) (List.forall_mem_cons.mpr ⟨dr_V (ym := PG.nam 108) dX9_init_24 (Or.inl w761) mi_108 rfl (lw_all_tbl qs10), (fun q hq => absurd hq List.not_mem_nil)⟩) (by decide)
theorem s_X9_init_27 : Snd PG.nam M107 27 (m_vret) := snd_vret dX9_init_27 rfl
theorem T107 : ∀ q ∈ S107, Snd PG.nam M107 q.1 q.2 := List.forall_mem_cons.mpr ⟨s_X9_init_0, List.forall_mem_cons.mpr ⟨s_X9_init_1, List.forall_mem_cons.mpr ⟨s_X9_init_4, List.forall_mem_cons.mpr ⟨s_X9_init_5, List.forall_mem_cons.mpr ⟨s_X9_init_7, List.forall_mem_cons.mpr ⟨s_X9_init_10, List.forall_mem_cons.mpr ⟨s_X9_init_13, List.forall_mem_cons.mpr ⟨s_X9_init_14, List.forall_mem_cons.mpr ⟨s_X9_init_15, List.forall_mem_cons.mpr ⟨s_X9_init_18, List.forall_mem_cons.mpr ⟨s_X9_init_19, List.forall_mem_cons.mpr ⟨s_X9_init_20, List.forall_mem_cons.mpr ⟨s_X9_init_23, List.forall_mem_cons.mpr ⟨s_X9_init_24, List.forall_mem_cons.mpr ⟨s_X9_init_27, (fun q hq => absurd hq List.not_mem_nil)⟩⟩⟩⟩⟩⟩⟩⟩⟩⟩⟩⟩⟩⟩⟩
theorem s_X9_advance_0 : Snd PG.nam M108 0 (m_aload 0 1) := snd_aload_n dX9_advance_0 rfl
theorem s_X9_advance_1 : Snd PG.nam M108 1 (m_getf [(7, 8)] 4) := snd_getf dX9_advance_1 fd_X9_79
theorem s_X9_advance_4 : Snd PG.nam M108 4 (m_istore 1 5) := snd_istore_n dX9_advance_4 rfl (by decide)
theorem s_X9_advance_5 : Snd PG.nam M108 5 (m_aload 0 6) := snd_aload_n dX9_advance_5 rfl
theorem s_X9_advance_6 : Snd PG.nam M108 6 (m_getf [(7, 7)] 9) := snd_getf dX9_advance_6 fd_X9_65
theorem s_X9_advance_9 : Snd PG.nam M108 9 (m_aload 0 10) := snd_aload_n dX9_advance_9 rfl
theorem s_X9_advance_10 : Snd PG.nam M108 10 (m_getf [(7, 1)] 13) := snd_getf dX9_advance_10 fd_X9_21
theorem s_X9_advance_13 : Snd PG.nam M108 13 (m_callV false [(23, 179)] 0 16) := snd_callV (nam := PG.nam) (List.forall_mem_cons.mpr ⟨dr_V (ym := PG.nam 179) dX9_advance_13 (Or.inl w765) mi_179 rfl w491, (fun q hq => absurd hq List.not_mem_nil)⟩) (by decide)
theorem s_X9_advance_16 : Snd PG.nam M108 16 (m_icmp (fun x z => if x < z then 19 else 48)) := snd_icmp_ge dX9_advance_16 (by decide)
theorem s_X9_advance_19 : Snd PG.nam M108 19 (m_aload 0 20) := snd_aload_n dX9_advance_19 rfl
theorem s_X9_advance_20 : Snd PG.nam M108 20 (m_getf [(7, 1)] 23) := snd_getf dX9_advance_20 fd_X9_21
theorem s_X9_advance_23 : Snd PG.nam M108 23 (m_aload 0 24) := snd_aload_n dX9_advance_23 rfl
theorem s_X9_advance_24 : Snd PG.nam M108 24 (m_getf [(7, 7)] 27) := snd_getf dX9_advance_24 fd_X9_65
theorem s_X9_advance_27 : Snd PG.nam M108 27 (m_callV false [(23, 182)] 1 30) := snd_callV (nam := PG.nam) (List.forall_mem_cons.mpr ⟨dr_V (ym := PG.nam 182) dX9_advance_27 (Or.inl w766) mi_182 rfl w768, (fun q hq => absurd hq List.not_mem_nil)⟩) (by decide)
theorem s_X9_advance_30 : Snd PG.nam M108 30 (m_const (.int (nI 32)) 32) := snd_bipush dX9_advance_30 (by decide)
theorem s_X9_advance_32 : Snd PG.nam M108 32 (m_icmp (fun x z => if x = z then 35 else 48)) := snd_icmp_ne dX9_advance_32 (by decide)
theorem s_X9_advance_35 : Snd PG.nam M108 35 (m_aload 0 36) := snd_aload_n dX9_advance_35 rfl
theorem s_X9_advance_36 : Snd PG.nam M108 36 (m_dup 37) := snd_dup dX9_advance_36
theorem s_X9_advance_37 : Snd PG.nam M108 37 (m_getf [(7, 7)] 40) := snd_getf dX9_advance_37 fd_X9_65
theorem s_X9_advance_40 : Snd PG.nam M108 40 (m_const (.int (nI 1)) 41) := snd_iconst dX9_advance_40 (by decide)
theorem s_X9_advance_41 : Snd PG.nam M108 41 (m_ibin (fun a b => a + b) 42) := snd_iadd dX9_advance_41
theorem s_X9_advance_42 : Snd PG.nam M108 42 (m_putf [(7, 7)] .int 45) := snd_putf dX9_advance_42 fd_X9_65
theorem s_X9_advance_45 : Snd PG.nam M108 45 (m_goto 5) := snd_goto dX9_advance_45 (by decide)
theorem s_X9_advance_48 : Snd PG.nam M108 48 (m_aload 0 49) := snd_aload_n dX9_advance_48 rfl
theorem s_X9_advance_49 : Snd PG.nam M108 49 (m_aload 0 50) := snd_aload_n dX9_advance_49 rfl
theorem s_X9_advance_50 : Snd PG.nam M108 50 (m_getf [(7, 7)] 53) := snd_getf dX9_advance_50 fd_X9_65
theorem s_X9_advance_53 : Snd PG.nam M108 53 (m_putf [(7, 6)] .int 56) := snd_putf dX9_advance_53 fd_X9_82
theorem s_X9_advance_56 : Snd PG.nam M108 56 (m_aload 0 57) := snd_aload_n dX9_advance_56 rfl
theorem s_X9_advance_57 : Snd PG.nam M108 57 (m_gets (fun Ω => .ref (Ω.k 0)) 59) := snd_ldcS (i := 0) dX9_advance_57 rfl
theorem s_X9_advance_59 : Snd PG.nam M108 59 (m_putf [(7, 5)] (.object "java/lang/String") 62) := snd_putf dX9_advance_59 fd_X9_87
theorem s_X9_advance_62 : Snd PG.nam M108 62 (m_aload 0 63) := snd_aload_n dX9_advance_62 rfl
theorem s_X9_advance_63 : Snd PG.nam M108 63 (m_getf [(7, 7)] 66) := snd_getf dX9_advance_63 fd_X9_65
theorem s_X9_advance_66 : Snd PG.nam M108 66 (m_aload 0 67) := snd_aload_n dX9_advance_66 rfl
theorem s_X9_advance_67 : Snd PG.nam M108 67 (m_getf [(7, 1)] 70) := snd_getf dX9_advance_67 fd_X9_21
theorem s_X9_advance_70 : Snd PG.nam M108 70 (m_callV false [(23, 179)] 0 73) := snd_callV (nam := PG.nam) (List.forall_mem_cons.mpr ⟨dr_V (ym := PG.nam 179) dX9_advance_70 (Or.inl w765) mi_179 rfl w491, (fun q hq => absurd hq List.not_mem_nil)⟩) (by decide)
theorem s_X9_advance_73 : Snd PG.nam M108 73 (m_icmp (fun x z => if x = z then 76 else 88)) := snd_icmp_ne dX9_advance_73 (by decide)
theorem s_X9_advance_76 : Snd PG.nam M108 76 (m_aload 0 77) := snd_aload_n dX9_advance_76 rfl
theorem s_X9_advance_77 : Snd PG.nam M108 77 (m_const (.int (nI 6)) 79) := snd_bipush dX9_advance_77 (by decide)
theorem s_X9_advance_79 : Snd PG.nam M108 79 (m_putf [(7, 4)] .int 82) := snd_putf dX9_advance_79 fd_X9_90
theorem s_X9_advance_82 : Snd PG.nam M108 82 (m_aload 0 83) := snd_aload_n dX9_advance_82 rfl
theorem s_X9_advance_83 : Snd PG.nam M108 83 (m_iload 1 84) := snd_iload_n dX9_advance_83 rfl
theorem s_X9_advance_84 : Snd PG.nam M108 84 (m_putf [(7, 6)] .int 87) := snd_putf dX9_advance_84 fd_X9_82
theorem s_X9_advance_87 : Snd PG.nam M108 87 (m_vret) := snd_vret dX9_advance_87 rfl
theorem s_X9_advance_88 : Snd PG.nam M108 88 (m_aload 0 89) := snd_aload_n dX9_advance_88 rfl
theorem s_X9_advance_89 : Snd PG.nam M108 89 (m_getf [(7, 1)] 92) := snd_getf dX9_advance_89 fd_X9_21
theorem s_X9_advance_92 : Snd PG.nam M108 92 (m_aload 0 93) := snd_aload_n dX9_advance_92 rfl
theorem s_X9_advance_93 : Snd PG.nam M108 93 (m_getf [(7, 7)] 96) := snd_getf dX9_advance_93 fd_X9_65
theorem s_X9_advance_96 : Snd PG.nam M108 96 (m_callV false [(23, 182)] 1 99) := snd_callV (nam := PG.nam) (List.forall_mem_cons.mpr ⟨dr_V (ym := PG.nam 182) dX9_advance_96 (Or.inl w766) mi_182 rfl w768, (fun q hq => absurd hq List.not_mem_nil)⟩) (by decide)
theorem s_X9_advance_99 : Snd PG.nam M108 99 (m_istore 2 100) := snd_istore_n dX9_advance_99 rfl (by decide)
theorem s_X9_advance_100 : Snd PG.nam M108 100 (m_aload 0 101) := snd_aload_n dX9_advance_100 rfl
theorem s_X9_advance_101 : Snd PG.nam M108 101 (m_dup 102) := snd_dup dX9_advance_101
theorem s_X9_advance_102 : Snd PG.nam M108 102 (m_getf [(7, 7)] 105) := snd_getf dX9_advance_102 fd_X9_65
theorem s_X9_advance_105 : Snd PG.nam M108 105 (m_const (.int (nI 1)) 106) := snd_iconst dX9_advance_105 (by decide)
theorem s_X9_advance_106 : Snd PG.nam M108 106 (m_ibin (fun a b => a + b) 107) := snd_iadd dX9_advance_106
theorem s_X9_advance_107 : Snd PG.nam M108 107 (m_putf [(7, 7)] .int 110) := snd_putf dX9_advance_107 fd_X9_65
theorem s_X9_advance_110 : Snd PG.nam M108 110 (m_aload 0 111) := snd_aload_n dX9_advance_110 rfl
theorem s_X9_advance_111 : Snd PG.nam M108 111 (m_iload 2 112) := snd_iload_n dX9_advance_111 rfl
theorem s_X9_advance_112 : Snd PG.nam M108 112 (m_callS false 109 1 115) := snd_callS (nam := PG.nam) (yy := 109) dX9_advance_112 (Or.inl w782) w783 ⟨by decide, by decide +kernel⟩ (by decide)
theorem s_X9_advance_115 : Snd PG.nam M108 115 (m_putf [(7, 4)] .int 118) := snd_putf dX9_advance_115 fd_X9_90
theorem s_X9_advance_118 : Snd PG.nam M108 118 (m_iload 2 119) := snd_iload_n dX9_advance_118 rfl
theorem s_X9_advance_119 : Snd PG.nam M108 119 (m_callS false 110 1 122) := snd_callS (nam := PG.nam) (yy := 110) dX9_advance_119 (Or.inl w785) w786 ⟨by decide, by decide +kernel⟩ (by decide)
theorem s_X9_advance_122 : Snd PG.nam M108 122 (m_ifz (fun x => if x = 0 then 186 else 125)) := snd_if_eq dX9_advance_122 (by decide)
theorem s_X9_advance_125 : Snd PG.nam M108 125 (m_aload 0 126) := snd_aload_n dX9_advance_125 rfl
theorem s_X9_advance_126 : Snd PG.nam M108 126 (m_callV true [(7, 111)] 0 129) := snd_callV (nam := PG.nam) (List.forall_mem_cons.mpr ⟨dr_V (ym := PG.nam 111) dX9_advance_126 (Or.inl w788) mi_111 rfl (lw_all_tbl qs11), (fun q hq => absurd hq List.not_mem_nil)⟩) (by decide)
theorem s_X9_advance_129 : Snd PG.nam M108 129 (m_aload 0 130) := snd_aload_n dX9_advance_129 rfl
theorem s_X9_advance_130 : Snd PG.nam M108 130 (m_aload 0 131) := snd_aload_n dX9_advance_130 rfl
theorem s_X9_advance_131 : Snd PG.nam M108 131 (m_getf [(7, 1)] 134) := snd_getf dX9_advance_131 fd_X9_21
theorem s_X9_advance_134 : Snd PG.nam M108 134 (m_aload 0 135) := snd_aload_n dX9_advance_134 rfl
theorem s_X9_advance_135 : Snd PG.nam M108 135 (m_getf [(7, 6)] 138) := snd_getf dX9_advance_135 fd_X9_82
theorem s_X9_advance_138 : Snd PG.nam M108 138 (m_aload 0 139) := snd_aload_n dX9_advance_138 rfl
theorem s_X9_advance_139 : Snd PG.nam M108 139 (m_getf [(7, 7)] 142) := snd_getf dX9_advance_139 fd_X9_65
theorem s_X9_advance_142 : Snd PG.nam M108 142 (m_callV false [(23, 184)] 2 145) := snd_callV (nam := PG.nam) (List.forall_mem_cons.mpr ⟨dr_V (ym := PG.nam 184) dX9_advance_142 (Or.inl w792) mi_184 rfl w794, (fun q hq => absurd hq List.not_mem_nil)⟩) (by decide)
theorem s_X9_advance_145 : Snd PG.nam M108 145 (m_putf [(7, 5)] (.object "java/lang/String") 148) := snd_putf dX9_advance_145 fd_X9_87
theorem s_X9_advance_148 : Snd PG.nam M108 148 (m_aload 0 149) := snd_aload_n dX9_advance_148 rfl
theorem s_X9_advance_149 : Snd PG.nam M108 149 (m_aload 0 150) := snd_aload_n dX9_advance_149 rfl
theorem s_X9_advance_150 : Snd PG.nam M108 150 (m_getf [(7, 5)] 153) := snd_getf dX9_advance_150 fd_X9_87
theorem s_X9_advance_153 : Snd PG.nam M108 153 (m_callV false [(23, 179)] 0 156) := snd_callV (nam := PG.nam) (List.forall_mem_cons.mpr ⟨dr_V (ym := PG.nam 179) dX9_advance_153 (Or.inl w765) mi_179 rfl w491, (fun q hq => absurd hq List.not_mem_nil)⟩) (by decide)
theorem s_X9_advance_156 : Snd PG.nam M108 156 (m_const (.int (nI 8)) 158) := snd_bipush dX9_advance_156 (by decide)
theorem s_X9_advance_158 : Snd PG.nam M108 158 (m_icmp (fun x z => if z < x then 161 else 165)) := snd_icmp_le dX9_advance_158 (by decide)
theorem s_X9_advance_161 : Snd PG.nam M108 161 (m_const (.int (nI 5)) 162) := snd_iconst dX9_advance_161 (by decide)
theorem s_X9_advance_162 : Snd PG.nam M108 162 (m_goto 180) := snd_goto dX9_advance_162 (by decide)
theorem s_X9_advance_165 : Snd PG.nam M108 165 (m_aload 0 166) := snd_aload_n dX9_advance_165 rfl
theorem s_X9_advance_166 : Snd PG.nam M108 166 (m_getf [(7, 5)] 169) := snd_getf dX9_advance_166 fd_X9_87
theorem s_X9_advance_169 : Snd PG.nam M108 169 (m_callS false 112 1 172) := snd_callS (nam := PG.nam) (yy := 112) dX9_advance_169 (Or.inl w816) w817 ⟨by decide, by decide +kernel⟩ (by decide)
theorem s_X9_advance_172 : Snd PG.nam M108 172 (m_ifz (fun x => if x = 0 then 179 else 175)) := snd_if_eq dX9_advance_172 (by decide)
theorem s_X9_advance_175 : Snd PG.nam M108 175 (m_const (.int (nI 2)) 176) := snd_iconst dX9_advance_175 (by decide)
theorem s_X9_advance_176 : Snd PG.nam M108 176 (m_goto 180) := snd_goto dX9_advance_176 (by decide)
theorem s_X9_advance_179 : Snd PG.nam M108 179 (m_const (.int (nI 1)) 180) := snd_iconst dX9_advance_179 (by decide)
theorem s_X9_advance_180 : Snd PG.nam M108 180 (m_putf [(7, 4)] .int 183) := snd_putf dX9_advance_180 fd_X9_90
theorem s_X9_advance_183 : Snd PG.nam M108 183 (m_goto 341) := snd_goto dX9_advance_183 (by decide)
theorem s_X9_advance_186 : Snd PG.nam M108 186 (m_iload 2 187) := snd_iload_n dX9_advance_186 rfl
theorem s_X9_advance_187 : Snd PG.nam M108 187 (m_callS false 113 1 190) := snd_callS (nam := PG.nam) (yy := 113) dX9_advance_187 (Or.inl w888) w889 ⟨by decide, by decide +kernel⟩ (by decide)
theorem s_X9_advance_190 : Snd PG.nam M108 190 (m_ifz (fun x => if x = 0 then 279 else 193)) := snd_if_eq dX9_advance_190 (by decide)
theorem s_X9_advance_193 : Snd PG.nam M108 193 (m_aload 0 194) := snd_aload_n dX9_advance_193 rfl
theorem s_X9_advance_194 : Snd PG.nam M108 194 (m_getf [(7, 7)] 197) := snd_getf dX9_advance_194 fd_X9_65
theorem s_X9_advance_197 : Snd PG.nam M108 197 (m_aload 0 198) := snd_aload_n dX9_advance_197 rfl
theorem s_X9_advance_198 : Snd PG.nam M108 198 (m_getf [(7, 1)] 201) := snd_getf dX9_advance_198 fd_X9_21
theorem s_X9_advance_201 : Snd PG.nam M108 201 (m_callV false [(23, 179)] 0 204) := snd_callV (nam := PG.nam) (List.forall_mem_cons.mpr ⟨dr_V (ym := PG.nam 179) dX9_advance_201 (Or.inl w765) mi_179 rfl w491, (fun q hq => absurd hq List.not_mem_nil)⟩) (by decide)
theorem s_X9_advance_204 : Snd PG.nam M108 204 (m_icmp (fun x z => if x < z then 207 else 237)) := snd_icmp_ge dX9_advance_204 (by decide)
theorem s_X9_advance_207 : Snd PG.nam M108 207 (m_aload 0 208) := snd_aload_n dX9_advance_207 rfl
theorem s_X9_advance_208 : Snd PG.nam M108 208 (m_getf [(7, 1)] 211) := snd_getf dX9_advance_208 fd_X9_21
theorem s_X9_advance_211 : Snd PG.nam M108 211 (m_aload 0 212) := snd_aload_n dX9_advance_211 rfl
theorem s_X9_advance_212 : Snd PG.nam M108 212 (m_getf [(7, 7)] 215) := snd_getf dX9_advance_212 fd_X9_65
theorem s_X9_advance_215 : Snd PG.nam M108 215 (m_callV false [(23, 182)] 1 218) := snd_callV (nam := PG.nam) (List.forall_mem_cons.mpr ⟨dr_V (ym := PG.nam 182) dX9_advance_215 (Or.inl w766) mi_182 rfl w768, (fun q hq => absurd hq List.not_mem_nil)⟩) (by decide)
theorem s_X9_advance_218 : Snd PG.nam M108 218 (m_callS false 113 1 221) := snd_callS (nam := PG.nam) (yy := 113) dX9_advance_218 (Or.inl w888) w889 ⟨by decide, by decide +kernel⟩ (by decide)
theorem s_X9_advance_221 : Snd PG.nam M108 221 (m_ifz (fun x => if x = 0 then 237 else 224)) := snd_if_eq dX9_advance_221 (by decide)
theorem s_X9_advance_224 : Snd PG.nam M108 224 (m_aload 0 225) := snd_aload_n dX9_advance_224 rfl
theorem s_X9_advance_225 : Snd PG.nam M108 225 (m_dup 226) := snd_dup dX9_advance_225
theorem s_X9_advance_226 : Snd PG.nam M108 226 (m_getf [(7, 7)] 229) := snd_getf dX9_advance_226 fd_X9_65
theorem s_X9_advance_229 : Snd PG.nam M108 229 (m_const (.int (nI 1)) 230) := snd_iconst dX9_advance_229 (by decide)
theorem s_X9_advance_230 : Snd PG.nam M108 230 (m_ibin (fun a b => a + b) 231) := snd_iadd dX9_advance_230
theorem s_X9_advance_231 : Snd PG.nam M108 231 (m_putf [(7, 7)] .int 234) := snd_putf dX9_advance_231 fd_X9_65
theorem s_X9_advance_234 : Snd PG.nam M108 234 (m_goto 193) := snd_goto dX9_advance_234 (by decide)
theorem s_X9_advance_237 : Snd PG.nam M108 237 (m_aload 0 238) := snd_aload_n dX9_advance_237 rfl
theorem s_X9_advance_238 : Snd PG.nam M108 238 (m_aload 0 239) := snd_aload_n dX9_advance_238 rfl
theorem s_X9_advance_239 : Snd PG.nam M108 239 (m_getf [(7, 1)] 242) := snd_getf dX9_advance_239 fd_X9_21
theorem s_X9_advance_242 : Snd PG.nam M108 242 (m_aload 0 243) := snd_aload_n dX9_advance_242 rfl
theorem s_X9_advance_243 : Snd PG.nam M108 243 (m_getf [(7, 6)] 246) := snd_getf dX9_advance_243 fd_X9_82
theorem s_X9_advance_246 : Snd PG.nam M108 246 (m_aload 0 247) := snd_aload_n dX9_advance_246 rfl
theorem s_X9_advance_247 : Snd PG.nam M108 247 (m_getf [(7, 7)] 250) := snd_getf dX9_advance_247 fd_X9_65
theorem s_X9_advance_250 : Snd PG.nam M108 250 (m_callV false [(23, 184)] 2 253) := snd_callV (nam := PG.nam) (List.forall_mem_cons.mpr ⟨dr_V (ym := PG.nam 184) dX9_advance_250 (Or.inl w792) mi_184 rfl w794, (fun q hq => absurd hq List.not_mem_nil)⟩) (by decide)
theorem s_X9_advance_253 : Snd PG.nam M108 253 (m_putf [(7, 5)] (.object "java/lang/String") 256) := snd_putf dX9_advance_253 fd_X9_87
theorem s_X9_advance_256 : Snd PG.nam M108 256 (m_aload 0 257) := snd_aload_n dX9_advance_256 rfl
theorem s_X9_advance_257 : Snd PG.nam M108 257 (m_aload 0 258) := snd_aload_n dX9_advance_257 rfl
theorem s_X9_advance_258 : Snd PG.nam M108 258 (m_getf [(7, 5)] 261) := snd_getf dX9_advance_258 fd_X9_87
theorem s_X9_advance_261 : Snd PG.nam M108 261 (m_callV false [(23, 179)] 0 264) := snd_callV (nam := PG.nam) (List.forall_mem_cons.mpr ⟨dr_V (ym := PG.nam 179) dX9_advance_261 (Or.inl w765) mi_179 rfl w491, (fun q hq => absurd hq List.not_mem_nil)⟩) (by decide)
theorem s_X9_advance_264 : Snd PG.nam M108 264 (m_const (.int (nI 4)) 265) := snd_iconst dX9_advance_264 (by decide)
theorem s_X9_advance_265 : Snd PG.nam M108 265 (m_icmp (fun x z => if z < x then 268 else 272)) := snd_icmp_le dX9_advance_265 (by decide)
theorem s_X9_advance_268 : Snd PG.nam M108 268 (m_const (.int (nI 5)) 269) := snd_iconst dX9_advance_268 (by decide)
theorem s_X9_advance_269 : Snd PG.nam M108 269 (m_goto 273) := snd_goto dX9_advance_269 (by decide)
theorem s_X9_advance_272 : Snd PG.nam M108 272 (m_const (.int (nI 3)) 273) := snd_iconst dX9_advance_272 (by decide)
theorem s_X9_advance_273 : Snd PG.nam M108 273 (m_putf [(7, 4)] .int 276) := snd_putf dX9_advance_273 fd_X9_90
theorem s_X9_advance_276 : Snd PG.nam M108 276 (m_goto 341) := snd_goto dX9_advance_276 (by decide)
theorem s_X9_advance_279 : Snd PG.nam M108 279 (m_iload 2 280) := snd_iload_n dX9_advance_279 rfl
theorem s_X9_advance_280 : Snd PG.nam M108 280 (m_const (.int (nI 63)) 282) := snd_bipush dX9_advance_280 (by decide)
theorem s_X9_advance_282 : Snd PG.nam M108 282 (m_icmp (fun x z => if x = z then 285 else 341)) := snd_icmp_ne dX9_advance_282 (by decide)
theorem s_X9_advance_285 : Snd PG.nam M108 285 (m_aload 0 286) := snd_aload_n dX9_advance_285 rfl
theorem s_X9_advance_286 : Snd PG.nam M108 286 (m_callV true [(7, 111)] 0 289) := snd_callV (nam := PG.nam) (List.forall_mem_cons.mpr ⟨dr_V (ym := PG.nam 111) dX9_advance_286 (Or.inl w788) mi_111 rfl (lw_all_tbl qs11), (fun q hq => absurd hq List.not_mem_nil)⟩) (by decide)
theorem s_X9_advance_289 : Snd PG.nam M108 289 (m_aload 0 290) := snd_aload_n dX9_advance_289 rfl
theorem s_X9_advance_290 : Snd PG.nam M108 290 (m_aload 0 291) := snd_aload_n dX9_advance_290 rfl
theorem s_X9_advance_291 : Snd PG.nam M108 291 (m_getf [(7, 1)] 294) := snd_getf dX9_advance_291 fd_X9_21
theorem s_X9_advance_294 : Snd PG.nam M108 294 (m_aload 0 295) := snd_aload_n dX9_advance_294 rfl
theorem s_X9_advance_295 : Snd PG.nam M108 295 (m_getf [(7, 6)] 298) := snd_getf dX9_advance_295 fd_X9_82
theorem s_X9_advance_298 : Snd PG.nam M108 298 (m_const (.int (nI 1)) 299) := snd_iconst dX9_advance_298 (by decide)
theorem s_X9_advance_299 : Snd PG.nam M108 299 (m_ibin (fun a b => a + b) 300) := snd_iadd dX9_advance_299
theorem s_X9_advance_300 : Snd PG.nam M108 300 (m_aload 0 301) := snd_aload_n dX9_advance_300 rfl
theorem s_X9_advance_301 : Snd PG.nam M108 301 (m_getf [(7, 7)] 304) := snd_getf dX9_advance_301 fd_X9_65
theorem s_X9_advance_304 : Snd PG.nam M108 304 (m_callV false [(23, 184)] 2 307) := snd_callV (nam := PG.nam) (List.forall_mem_cons.mpr ⟨dr_V (ym := PG.nam 184) dX9_advance_304 (Or.inl w792) mi_184 rfl w794, (fun q hq => absurd hq List.not_mem_nil)⟩) (by decide)
theorem s_X9_advance_307 : Snd PG.nam M108 307 (m_putf [(7, 5)] (.object "java/lang/String") 310) := snd_putf dX9_advance_307 fd_X9_87
theorem s_X9_advance_310 : Snd PG.nam M108 310 (m_aload 0 311) := snd_aload_n dX9_advance_310 rfl
theorem s_X9_advance_311 : Snd PG.nam M108 311 (m_aload 0 312) := snd_aload_n dX9_advance_311 rfl
theorem s_X9_advance_312 : Snd PG.nam M108 312 (m_getf [(7, 5)] 315) := snd_getf dX9_advance_312 fd_X9_87
theorem s_X9_advance_315 : Snd PG.nam M108 315 (m_callV false [(23, 179)] 0 318) := snd_callV (nam := PG.nam) (List.forall_mem_cons.mpr ⟨dr_V (ym := PG.nam 179) dX9_advance_315 (Or.inl w765) mi_179 rfl w491, (fun q hq => absurd hq List.not_mem_nil)⟩) (by decide)
theorem s_X9_advance_318 : Snd PG.nam M108 318 (m_ifz (fun x => if x = 0 then 333 else 321)) := snd_if_eq dX9_advance_318 (by decide)
theorem s_X9_advance_321 : Snd PG.nam M108 321 (m_aload 0 322) := snd_aload_n dX9_advance_321 rfl
theorem s_X9_advance_322 : Snd PG.nam M108 322 (m_getf [(7, 5)] 325) := snd_getf dX9_advance_322 fd_X9_87
theorem s_X9_advance_325 : Snd PG.nam M108 325 (m_callV false [(23, 179)] 0 328) := snd_callV (nam := PG.nam) (List.forall_mem_cons.mpr ⟨dr_V (ym := PG.nam 179) dX9_advance_325 (Or.inl w765) mi_179 rfl w491, (fun q hq => absurd hq List.not_mem_nil)⟩) (by decide)
theorem s_X9_advance_328 : Snd PG.nam M108 328 (m_const (.int (nI 8)) 330) := snd_bipush dX9_advance_328 (by decide)
theorem s_X9_advance_330 : Snd PG.nam M108 330 (m_icmp (fun x z => if z < x then 333 else 337)) := snd_icmp_le dX9_advance_330 (by decide)
theorem s_X9_advance_333 : Snd PG.nam M108 333 (m_const (.int (nI 5)) 334) := snd_iconst dX9_advance_333 (by decide)
theorem s_X9_advance_334 : Snd PG.nam M108 334 (m_goto 338) := snd_goto dX9_advance_334 (by decide)
theorem s_X9_advance_337 : Snd PG.nam M108 337 (m_const (.int (nI 4)) 338) := snd_iconst dX9_advance_337 (by decide)
theorem s_X9_advance_338 : Snd PG.nam M108 338 (m_putf [(7, 4)] .int 341) := snd_putf dX9_advance_338 fd_X9_90
theorem s_X9_advance_341 : Snd PG.nam M108 341 (m_aload 0 342) := snd_aload_n dX9_advance_341 rfl
theorem s_X9_advance_342 : Snd PG.nam M108 342 (m_aload 0 343) := snd_aload_n dX9_advance_342 rfl
theorem s_X9_advance_343 : Snd PG.nam M108 343 (m_getf [(7, 7)] 346) := snd_getf dX9_advance_343 fd_X9_65
theorem s_X9_advance_346 : Snd PG.nam M108 346 (m_putf [(7, 8)] .int 349) := snd_putf dX9_advance_346 fd_X9_79
theorem s_X9_advance_349 : Snd PG.nam M108 349 (m_vret) := snd_vret dX9_advance_349 rfl
theorem T108 : ∀ q ∈ S108, Snd PG.nam M108 q.1 q.2 := List.forall_mem_cons.mpr ⟨s_X9_advance_0, List.forall_mem_cons.mpr ⟨s_X9_advance_1, List.forall_mem_cons.mpr ⟨s_X9_advance_4, List.forall_mem_cons.mpr ⟨s_X9_advance_5, List.forall_mem_cons.mpr ⟨s_X9_advance_6, List.forall_mem_cons.mpr ⟨s_X9_advance_9, List.forall_mem_cons.mpr ⟨s_X9_advance_10, List.forall_mem_cons.mpr ⟨s_X9_advance_13, List.forall_mem_cons.mpr ⟨s_X9_advance_16, List.forall_mem_cons.mpr ⟨s_X9_advance_19, List.forall_mem_cons.mpr ⟨s_X9_advance_20, List.forall_mem_cons.mpr ⟨s_X9_advance_23, List.forall_mem_cons.mpr ⟨s_X9_advance_24, List.forall_mem_cons.mpr ⟨s_X9_advance_27, List.forall_mem_cons.mpr ⟨s_X9_advance_30, List.forall_mem_cons.mpr ⟨s_X9_advance_32, List.forall_mem_cons.mpr ⟨s_X9_advance_35, List.forall_mem_cons.mpr ⟨s_X9_advance_36, List.forall_mem_cons.mpr ⟨s_X9_advance_37, List.forall_mem_cons.mpr ⟨s_X9_advance_40, List.forall_mem_cons.mpr ⟨s_X9_advance_41, List.forall_mem_cons.mpr ⟨s_X9_advance_42, List.forall_mem_cons.mpr ⟨s_X9_advance_45, List.forall_mem_cons.mpr ⟨s_X9_advance_48, List.forall_mem_cons.mpr ⟨s_X9_advance_49, List.forall_mem_cons.mpr ⟨s_X9_advance_50, List.forall_mem_cons.mpr ⟨s_X9_advance_53, List.forall_mem_cons.mpr ⟨s_X9_advance_56, List.forall_mem_cons.mpr ⟨s_X9_advance_57, List.forall_mem_cons.mpr ⟨s_X9_advance_59, List.forall_mem_cons.mpr ⟨s_X9_advance_62, List.forall_mem_cons.mpr ⟨s_X9_advance_63, List.forall_mem_cons.mpr ⟨s_X9_advance_66, List.forall_mem_cons.mpr ⟨s_X9_advance_67, List.forall_mem_cons.mpr ⟨s_X9_advance_70, List.forall_mem_cons.mpr ⟨s_X9_advance_73, List.forall_mem_cons.mpr ⟨s_X9_advance_76, List.forall_mem_cons.mpr ⟨s_X9_advance_77, List.forall_mem_cons.mpr ⟨s_X9_advance_79, List.forall_mem_cons.mpr ⟨s_X9_advance_82, List.forall_mem_cons.mpr ⟨s_X9_advance_83, List.forall_mem_cons.mpr ⟨s_X9_advance_84, List.forall_mem_cons.mpr ⟨s_X9_advance_87, List.forall_mem_cons.mpr ⟨s_X9_advance_88, List.forall_mem_cons.mpr ⟨s_X9_advance_89, List.forall_mem_cons.mpr ⟨s_X9_advance_92, List.forall_mem_cons.mpr ⟨s_X9_advance_93, List.forall_mem_cons.mpr ⟨s_X9_advance_96, List.forall_mem_cons.mpr ⟨s_X9_advance_99, List.forall_mem_cons.mpr ⟨s_X9_advance_100, List.forall_mem_cons.mpr ⟨s_X9_advance_101, List.forall_mem_cons.mpr ⟨s_X9_advance_102, List.forall_mem_cons.mpr ⟨s_X9_advance_105, List.forall_mem_cons.mpr ⟨s_X9_advance_106, List.forall_mem_cons.mpr ⟨s_X9_advance_107, List.forall_mem_cons.mpr ⟨s_X9_advance_110, List.forall_mem_cons.mpr ⟨s_X9_advance_111, List.forall_mem_cons.mpr ⟨s_X9_advance_112, List.forall_mem_cons.mpr ⟨s_X9_advance_115, List.forall_mem_cons.mpr ⟨s_X9_advance_118, List.forall_mem_cons.mpr ⟨s_X9_advance_119, List.forall_mem_cons.mpr ⟨s_X9_advance_122, List.forall_mem_cons.mpr ⟨s_X9_advance_125, List.forall_mem_cons.mpr ⟨s_X9_advance_126, List.forall_mem_cons.mpr ⟨s_X9_advance_129, List.forall_mem_cons.mpr ⟨s_X9_advance_130, List.forall_mem_cons.mpr ⟨s_X9_advance_131, List.forall_mem_cons.mpr ⟨s_X9_advance_134, List.forall_mem_cons.mpr ⟨s_X9_advance_135, List.forall_mem_cons.mpr ⟨s_X9_advance_138, List.forall_mem_cons.mpr ⟨s_X9_advance_139, List.forall_mem_cons.mpr ⟨s_X9_advance_142, List.forall_mem_cons.mpr ⟨s_X9_advance_145, List.forall_mem_cons.mpr ⟨s_X9_advance_148, List.forall_mem_cons.mpr ⟨s_X9_advance_149, List.forall_mem_cons.mpr ⟨s_X9_advance_150, List.forall_mem_cons.mpr ⟨s_X9_advance_153, List.forall_mem_cons.mpr ⟨s_X9_advance_156, List.forall_mem_cons.mpr ⟨s_X9_advance_158, List.forall_mem_cons.mpr ⟨s_X9_advance_161, List.forall_mem_cons.mpr ⟨s_X9_advance_162, List.forall_mem_cons.mpr ⟨s_X9_advance_165, List.forall_mem_cons.mpr ⟨s_X9_advance_166, List.forall_mem_cons.mpr ⟨s_X9_advance_169, List.forall_mem_cons.mpr ⟨s_X9_advance_172, List.forall_mem_cons.mpr ⟨s_X9_advance_175, List.forall_mem_cons.mpr ⟨s_X9_advance_176, List.forall_mem_cons.mpr ⟨s_X9_advance_179, List.forall_mem_cons.mpr ⟨s_X9_advance_180, List.forall_mem_cons.mpr ⟨s_X9_advance_183, List.forall_mem_cons.mpr ⟨s_X9_advance_186, List.forall_mem_cons.mpr ⟨s_X9_advance_187, List.forall_mem_cons.mpr ⟨s_X9_advance_190, List.forall_mem_cons.mpr ⟨s_X9_advance_193, List.forall_mem_cons.mpr ⟨s_X9_advance_194, List.forall_mem_cons.mpr ⟨s_X9_advance_197, List.forall_mem_cons.mpr ⟨s_X9_advance_198, List.forall_mem_cons.mpr ⟨s_X9_advance_201, List.forall_mem_cons.mpr ⟨s_X9_advance_204, List.forall_mem_cons.mpr ⟨s_X9_advance_207, List.forall_mem_cons.mpr ⟨s_X9_advance_208, List.forall_mem_cons.mpr ⟨s_X9_advance_211, List.forall_mem_cons.mpr ⟨s_X9_advance_212, List.forall_mem_cons.mpr ⟨s_X9_advance_215, List.forall_mem_cons.mpr ⟨s_X9_advance_218, List.forall_mem_cons.mpr ⟨s_X9_advance_221, List.forall_mem_cons.mpr ⟨s_X9_advance_224, List.forall_mem_cons.mpr ⟨s_X9_advance_225, List.forall_mem_cons.mpr ⟨s_X9_advance_226, List.forall_mem_cons.mpr ⟨s_X9_advance_229, List.forall_mem_cons.mpr ⟨s_X9_advance_230, List.forall_mem_cons.mpr ⟨s_X9_advance_231, List.forall_mem_cons.mpr ⟨s_X9_advance_234, List.forall_mem_cons.mpr ⟨s_X9_advance_237, List.forall_mem_cons.mpr ⟨s_X9_advance_238, List.forall_mem_cons.mpr ⟨s_X9_advance_239, List.forall_mem_cons.mpr ⟨s_X9_advance_242, List.forall_mem_cons.mpr ⟨s_X9_advance_243, List.forall_mem_cons.mpr ⟨s_X9_advance_246, List.forall_mem_cons.mpr ⟨s_X9_advance_247, List.forall_mem_cons.mpr ⟨s_X9_advance_250, List.forall_mem_cons.mpr ⟨s_X9_advance_253, List.forall_mem_cons.mpr ⟨s_X9_advance_256, List.forall_mem_cons.mpr ⟨s_X9_advance_257, List.forall_mem_cons.mpr ⟨s_X9_advance_258, List.forall_mem_cons.mpr ⟨s_X9_advance_261, List.forall_mem_cons.mpr ⟨s_X9_advance_264, List.forall_mem_cons.mpr ⟨s_X9_advance_265, List.forall_mem_cons.mpr ⟨s_X9_advance_268, List.forall_mem_cons.mpr ⟨s_X9_advance_269, List.forall_mem_cons.mpr ⟨s_X9_advance_272, List.forall_mem_cons.mpr ⟨s_X9_advance_273, List.forall_mem_cons.mpr ⟨s_X9_advance_276, List.forall_mem_cons.mpr ⟨s_X9_advance_279, List.forall_mem_cons.mpr ⟨s_X9_advance_280, List.forall_mem_cons.mpr ⟨s_X9_advance_282, List.forall_mem_cons.mpr ⟨s_X9_advance_285, List.forall_mem_cons.mpr ⟨s_X9_advance_286, List.forall_mem_cons.mpr ⟨s_X9_advance_289, List.forall_mem_cons.mpr ⟨s_X9_advance_290, List.forall_mem_cons.mpr ⟨s_X9_advance_291, List.forall_mem_cons.mpr ⟨s_X9_advance_294, List.forall_mem_cons.mpr ⟨s_X9_advance_295, List.forall_mem_cons.mpr ⟨s_X9_advance_298, List.forall_mem_cons.mpr ⟨s_X9_advance_299, List.forall_mem_cons.mpr ⟨s_X9_advance_300, List.forall_mem_cons.mpr ⟨s_X9_advance_301, List.forall_mem_cons.mpr ⟨s_X9_advance_304, List.forall_mem_cons.mpr ⟨s_X9_advance_307, List.forall_mem_cons.mpr ⟨s_X9_advance_310, List.forall_mem_cons.mpr ⟨s_X9_advance_311, List.forall_mem_cons.mpr ⟨s_X9_advance_312, List.forall_mem_cons.mpr ⟨s_X9_advance_315, List.forall_mem_cons.mpr ⟨s_X9_advance_318, List.forall_mem_cons.mpr ⟨s_X9_advance_321, List.forall_mem_cons.mpr ⟨s_X9_advance_322, List.forall_mem_cons.mpr ⟨s_X9_advance_325, List.forall_mem_cons.mpr ⟨s_X9_advance_328, List.forall_mem_cons.mpr ⟨s_X9_advance_330, List.forall_mem_cons.mpr ⟨s_X9_advance_333, List.forall_mem_cons.mpr ⟨s_X9_advance_334, List.forall_mem_cons.mpr ⟨s_X9_advance_337, List.forall_mem_cons.mpr ⟨s_X9_advance_338, List.forall_mem_cons.mpr ⟨s_X9_advance_341, List.forall_mem_cons.mpr ⟨s_X9_advance_342, List.forall_mem_cons.mpr ⟨s_X9_advance_343, List.forall_mem_cons.mpr ⟨s_X9_advance_346, List.forall_mem_cons.mpr ⟨s_X9_advance_349, (fun q hq => absurd hq List.not_mem_nil)⟩⟩⟩⟩⟩⟩⟩⟩⟩⟩⟩⟩⟩⟩⟩⟩⟩⟩⟩⟩⟩⟩⟩⟩⟩⟩⟩⟩⟩⟩⟩⟩⟩⟩⟩⟩⟩⟩⟩⟩⟩⟩⟩⟩⟩⟩⟩⟩⟩⟩⟩⟩⟩⟩⟩⟩⟩⟩⟩⟩⟩⟩⟩⟩⟩⟩⟩⟩⟩⟩⟩⟩⟩⟩⟩⟩⟩⟩⟩⟩⟩⟩⟩⟩⟩⟩⟩⟩⟩⟩⟩⟩⟩⟩⟩⟩⟩⟩⟩⟩⟩⟩⟩⟩⟩⟩⟩⟩⟩⟩⟩⟩⟩⟩⟩⟩⟩⟩⟩⟩⟩⟩⟩⟩⟩⟩⟩⟩⟩⟩⟩⟩⟩⟩⟩⟩⟩⟩⟩⟩⟩⟩⟩⟩⟩⟩⟩⟩⟩⟩⟩⟩⟩⟩⟩⟩⟩⟩⟩⟩⟩⟩⟩⟩⟩⟩⟩⟩
theorem s_X9_kindOf_0 : Snd PG.nam M109 0 (m_iload 0 1) := snd_iload_n dX9_kindOf_0 rfl
theorem s_X9_kindOf_1 : Snd PG.nam M109 1 (m_ifz (fun x => if x = (nI 33) then 68 else if x = (nI 46) then 68 else if x = (nI 60) then 68 else if x = (nI 61) then 68 else if x = (nI 62) then 68 else if x = (nI 123) then 68 else if x = (nI 125) then 68 else 70)) := snd_sw (fun Ω d mc ms P h k n lv st x kk => by
    dsimp only at kk
    by_cases h0 : x = (nI 33)
    · rw [if_pos h0] at kk; subst h0; exact V.lookup (off := 67) dX9_kindOf_1 (by decide +kernel) (by decide +kernel) (by decide) kk
    rw [if_neg h0] at kk
    by_cases h1 : x = (nI 46)
    · rw [if_pos h1] at kk; subst h1; exact V.lookup (off := 67) dX9_kindOf_1 (by decide +kernel) (by decide +kernel) (by decide) kk
    rw [if_neg h1] at kk
    by_cases h2 : x = (nI 60)
    · rw [if_pos h2] at kk; subst h2; exact V.lookup (off := 67) dX9_kindOf_1 (by decide +kernel) (by decide +kernel) (by decide) kk
    rw [if_neg h2] at kk
    by_cases h3 : x = (nI 61)
    · rw [if_pos h3] at kk; subst h3; exact V.lookup (off := 67) dX9_kindOf_1 (by decide +kernel) (by decide +kernel) (by decide) kk
    rw [if_neg h3] at kk
    by_cases h4 : x = (nI 62)
    · rw [if_pos h4] at kk; subst h4; exact V.lookup (off := 67) dX9_kindOf_1 (by decide +kernel) (by decide +kernel) (by decide) kk
    rw [if_neg h4] at kk
    by_cases h5 : x = (nI 123)
    · rw [if_pos h5] at kk; subst h5; exact V.lookup (off := 67) dX9_kindOf_1 (by decide +kernel) (by decide +kernel) (by decide) kk
    rw [if_neg h5] at kk
    by_cases h6 : x = (nI 125)
    · rw [if_pos h6] at kk; subst h6; exact V.lookup (off := 67) dX9_kindOf_1 (by decide +kernel) (by decide +kernel) (by decide) kk
    rw [if_neg h6] at kk
    have g0 := sw_ne h0 (v := 33) (by decide +kernel)
    have g1 := sw_ne h1 (v := 46) (by decide +kernel)
    have g2 := sw_ne h2 (v := 60) (by decide +kernel)
    have g3 := sw_ne h3 (v := 61) (by decide +kernel)
    have g4 := sw_ne h4 (v := 62) (by decide +kernel)
    have g5 := sw_ne h5 (v := 123) (by decide +kernel)
    have g6 := sw_ne h6 (v := 125) (by decide +kernel)
    refine V.lookup dX9_kindOf_1 (by decide +kernel) (off := 69) ?_ (by decide) kk
    simp [Op.lookupswitch.offset, Ne.symm g0, Ne.symm g1, Ne.symm g2, Ne.symm g3, Ne.symm g4, Ne.symm g5, Ne.symm g6])
theorem s_X9_kindOf_68 : Snd PG.nam M109 68 (m_iload 0 69) := snd_iload_n dX9_kindOf_68 rfl
theorem s_X9_kindOf_69 : Snd PG.nam M109 69 (m_iret .int) := snd_iret dX9_kindOf_69 rfl
theorem s_X9_kindOf_70 : Snd PG.nam M109 70 (m_const (.int (nI 5)) 71) := snd_iconst dX9_kindOf_70 (by decide)
theorem s_X9_kindOf_71 : Snd PG.nam M109 71 (m_iret .int) := snd_iret dX9_kindOf_71 rfl
theorem T109 : ∀ q ∈ S109, Snd PG.nam M109 q.1 q.2 := List.forall_mem_cons.mpr ⟨s_X9_kindOf_0, List.forall_mem_cons.mpr ⟨s_X9_kindOf_1, List.forall_mem_cons.mpr ⟨s_X9_kindOf_68, List.forall_mem_cons.mpr ⟨s_X9_kindOf_69, List.forall_mem_cons.mpr ⟨s_X9_kindOf_70, List.forall_mem_cons.mpr ⟨s_X9_kindOf_71, (fun q hq => absurd hq List.not_mem_nil)⟩⟩⟩⟩⟩⟩
theorem s_X9_letter_0 : Snd PG.nam M110 0 (m_iload 0 1) := snd_iload_n dX9_letter_0 rfl
theorem s_X9_letter_1 : Snd PG.nam M110 1 (m_const (.int (nI 97)) 3) := snd_bipush dX9_letter_1 (by decide)
theorem s_X9_letter_3 : Snd PG.nam M110 3 (m_icmp (fun x z => if x < z then 16 else 6)) := snd_icmp_lt dX9_letter_3 (by decide)
theorem s_X9_letter_6 : Snd PG.nam M110 6 (m_iload 0 7) := snd_iload_n dX9_letter_6 rfl
theorem s_X9_letter_7 : Snd PG.nam M110 7 (m_const (.int (nI 122)) 9) := snd_bipush dX9_letter_7 (by decide)
theorem s_X9_letter_9 : Snd PG.nam M110 9 (m_icmp (fun x z => if z < x then 16 else 12)) := snd_icmp_gt dX9_letter_9 (by decide)
theorem s_X9_letter_12 : Snd PG.nam M110 12 (m_const (.int (nI 1)) 13) := snd_iconst dX9_letter_12 (by decide)
theorem s_X9_letter_13 : Snd PG.nam M110 13 (m_goto 17) := snd_goto dX9_letter_13 (by decide)
theorem s_X9_letter_16 : Snd PG.nam M110 16 (m_const (.int (nI 0)) 17) := snd_iconst dX9_letter_16 (by decide)
theorem s_X9_letter_17 : Snd PG.nam M110 17 (m_iret .boolean) := snd_iret dX9_letter_17 rfl
theorem T110 : ∀ q ∈ S110, Snd PG.nam M110 q.1 q.2 := List.forall_mem_cons.mpr ⟨s_X9_letter_0, List.forall_mem_cons.mpr ⟨s_X9_letter_1, List.forall_mem_cons.mpr ⟨s_X9_letter_3, List.forall_mem_cons.mpr ⟨s_X9_letter_6, List.forall_mem_cons.mpr ⟨s_X9_letter_7, List.forall_mem_cons.mpr ⟨s_X9_letter_9, List.forall_mem_cons.mpr ⟨s_X9_letter_12, List.forall_mem_cons.mpr ⟨s_X9_letter_13, List.forall_mem_cons.mpr ⟨s_X9_letter_16, List.forall_mem_cons.mpr ⟨s_X9_letter_17, (fun q hq => absurd hq List.not_mem_nil)⟩⟩⟩⟩⟩⟩⟩⟩⟩⟩
theorem s_X9_letters_0 : Snd PG.nam M111 0 (m_aload 0 1) := snd_aload_n dX9_letters_0 rfl
theorem s_X9_letters_1 : Snd PG.nam M111 1 (m_getf [(7, 7)] 4) := snd_getf dX9_letters_1 fd_X9_65
theorem s_X9_letters_4 : Snd PG.nam M111 4 (m_aload 0 5) := snd_aload_n dX9_letters_4 rfl
theorem s_X9_letters_5 : Snd PG.nam M111 5 (m_getf [(7, 1)] 8) := snd_getf dX9_letters_5 fd_X9_21
theorem s_X9_letters_8 : Snd PG.nam M111 8 (m_callV false [(23, 179)] 0 11) := snd_callV (nam := PG.nam) (List.forall_mem_cons.mpr ⟨dr_V (ym := PG.nam 179) dX9_letters_8 (Or.inl w765) mi_179 rfl w491, (fun q hq => absurd hq List.not_mem_nil)⟩) (by decide)
theorem s_X9_letters_11 : Snd PG.nam M111 11 (m_icmp (fun x z => if x < z then 14 else 44)) := snd_icmp_ge dX9_letters_11 (by decide)
theorem s_X9_letters_14 : Snd PG.nam M111 14 (m_aload 0 15) := snd_aload_n dX9_letters_14 rfl
theorem s_X9_letters_15 : Snd PG.nam M111 15 (m_getf [(7, 1)] 18) := snd_getf dX9_letters_15 fd_X9_21
theorem s_X9_letters_18 : Snd PG.nam M111 18 (m_aload 0 19) := snd_aload_n dX9_letters_18 rfl
theorem s_X9_letters_19 : Snd PG.nam M111 19 (m_getf [(7, 7)] 22) := snd_getf dX9_letters_19 fd_X9_65
theorem s_X9_letters_22 : Snd PG.nam M111 22 (m_callV false [(23, 182)] 1 25) := snd_callV (nam := PG.nam) (List.forall_mem_cons.mpr ⟨dr_V (ym := PG.nam 182) dX9_letters_22 (Or.inl w766) mi_182 rfl w768, (fun q hq => absurd hq List.not_mem_nil)⟩) (by decide)
theorem s_X9_letters_25 : Snd PG.nam M111 25 (m_callS false 110 1 28) := snd_callS (nam := PG.nam) (yy := 110) dX9_letters_25 (Or.inl w785) w786 ⟨by decide, by decide +kernel⟩ (by decide)
theorem s_X9_letters_28 : Snd PG.nam M111 28 (m_ifz (fun x => if x = 0 then 44 else 31)) := snd_if_eq dX9_letters_28 (by decide)
theorem s_X9_letters_31 : Snd PG.nam M111 31 (m_aload 0 32) := snd_aload_n dX9_letters_31 rfl
theorem s_X9_letters_32 : Snd PG.nam M111 32 (m_dup 33) := snd_dup dX9_letters_32
theorem s_X9_letters_33 : Snd PG.nam M111 33 (m_getf [(7, 7)] 36) := snd_getf dX9_letters_33 fd_X9_65
theorem s_X9_letters_36 : Snd PG.nam M111 36 (m_const (.int (nI 1)) 37) := snd_iconst dX9_letters_36 (by decide)
theorem s_X9_letters_37 : Snd PG.nam M111 37 (m_ibin (fun a b => a + b) 38) := snd_iadd dX9_letters_37
theorem s_X9_letters_38 : Snd PG.nam M111 38 (m_putf [(7, 7)] .int 41) := snd_putf dX9_letters_38 fd_X9_65
theorem s_X9_letters_41 : Snd PG.nam M111 41 (m_goto 0) := snd_goto dX9_letters_41 (by decide)
theorem s_X9_letters_44 : Snd PG.nam M111 44 (m_vret) := snd_vret dX9_letters_44 rfl
theorem T111 : ∀ q ∈ S111, Snd PG.nam M111 q.1 q.2 := List.forall_mem_cons.mpr ⟨s_X9_letters_0, List.forall_mem_cons.mpr ⟨s_X9_letters_1, List.forall_mem_cons.mpr ⟨s_X9_letters_4, List.forall_mem_cons.mpr ⟨s_X9_letters_5, List.forall_mem_cons.mpr ⟨s_X9_letters_8, List.forall_mem_cons.mpr ⟨s_X9_letters_11, List.forall_mem_cons.mpr ⟨s_X9_letters_14, List.forall_mem_cons.mpr ⟨s_X9_letters_15, List.forall_mem_cons.mpr ⟨s_X9_letters_18, List.forall_mem_cons.mpr ⟨s_X9_letters_19, List.forall_mem_cons.mpr ⟨s_X9_letters_22, List.forall_mem_cons.mpr ⟨s_X9_letters_25, List.forall_mem_cons.mpr ⟨s_X9_letters_28, List.forall_mem_cons.mpr ⟨s_X9_letters_31, List.forall_mem_cons.mpr ⟨s_X9_letters_32, List.forall_mem_cons.mpr ⟨s_X9_letters_33, List.forall_mem_cons.mpr ⟨s_X9_letters_36, List.forall_mem_cons.mpr ⟨s_X9_letters_37, List.forall_mem_cons.mpr ⟨s_X9_letters_38, List.forall_mem_cons.mpr ⟨s_X9_letters_41, List.forall_mem_cons.mpr ⟨s_X9_letters_44, (fun q hq => absurd hq List.not_mem_nil)⟩⟩⟩⟩⟩⟩⟩⟩⟩⟩⟩⟩⟩⟩⟩⟩⟩⟩⟩⟩⟩
theorem s_X9_key_0 : Snd PG.nam M112 0 (m_aload 0 1) := snd_aload_n dX9_key_0 rfl
theorem s_X9_key_1 : Snd PG.nam M112 1 (m_astore 1 2) := snd_astore_n dX9_key_1 rfl (by decide)
theorem s_X9_key_2 : Snd PG.nam M112 2 (m_const (.int (-1)) 3) := snd_iconst dX9_key_2 (by decide)
theorem s_X9_key_3 : Snd PG.nam M112 3 (m_istore 2 4) := snd_istore_n dX9_key_3 rfl (by decide)
theorem s_X9_key_4 : Snd PG.nam M112 4 (m_aload 1 5) := snd_aload_n dX9_key_4 rfl
theorem s_X9_key_5 : Snd PG.nam M112 5 (m_callV false [(23, 185)] 0 8) := snd_callV (nam := PG.nam) (List.forall_mem_cons.mpr ⟨dr_V (ym := PG.nam 185) dX9_key_5 (Or.inl w819) mi_185 rfl w821, (fun q hq => absurd hq List.not_mem_nil)⟩) (by decide)
theorem s_X9_key_8 : Snd PG.nam M112 8 (m_ifz (fun x => if x = (-1274492040) then 178 else if x = (-906021636) then 108 else if x = (-79017120) then 192 else if x = (nI 109267) then 237 else if x = (nI 3079825) then 150 else if x = (nI 93927806) then 252 else if x = (nI 102976443) then 164 else if x = (nI 103901296) then 207 else if x = (nI 106006350) then 136 else if x = (nI 111433423) then 222 else if x = (nI 288698108) then 122 else 264)) := snd_sw (fun Ω d mc ms P h k n lv st x kk => by
    dsimp only at kk
    by_cases h0 : x = (-1274492040)
    · rw [if_pos h0] at kk; subst h0; exact V.lookup (off := 170) dX9_key_8 (by decide +kernel) (by decide +kernel) (by decide) kk
    rw [if_neg h0] at kk
    by_cases h1 : x = (-906021636)
    · rw [if_pos h1] at kk; subst h1; exact V.lookup (off := 100) dX9_key_8 (by decide +kernel) (by decide +kernel) (by decide) kk
    rw [if_neg h1] at kk
    by_cases h2 : x = (-79017120)
    · rw [if_pos h2] at kk; subst h2; exact V.lookup (off := 184) dX9_key_8 (by decide +kernel) (by decide +kernel) (by decide) kk
    rw [if_neg h2] at kk
    by_cases h3 : x = (nI 109267)
    · rw [if_pos h3] at kk; subst h3; exact V.lookup (off := 229) dX9_key_8 (by decide +kernel) (by decide +kernel) (by decide) kk
    rw [if_neg h3] at kk
    by_cases h4 : x = (nI 3079825)
    · rw [if_pos h4] at kk; subst h4; exact V.lookup (off := 142) dX9_key_8 (by decide +kernel) (by decide +kernel) (by decide) kk
    rw [if_neg h4] at kk
    by_cases h5 : x = (nI 93927806)
    · rw [if_pos h5] at kk; subst h5; exact V.lookup (off := 244) dX9_key_8 (by decide +kernel) (by decide +kernel) (by decide) kk
    rw [if_neg h5] at kk
    by_cases h6 : x = (nI 102976443)
    · rw [if_pos h6] at kk; subst h6; exact V.lookup (off := 156) dX9_key_8 (by decide +kernel) (by decide +kernel) (by decide) kk
    rw [if_neg h6] at kk
    by_cases h7 : x = (nI 103901296)
    · rw [if_pos h7] at kk; subst h7; exact V.lookup (off := 199) dX9_key_8 (by decide +kernel) (by decide +kernel) (by decide) kk
    rw [if_neg h7] at kk
    by_cases h8 : x = (nI 106006350)
    · rw [if_pos h8] at kk; subst h8; exact V.lookup (off := 128) dX9_key_8 (by decide +kernel) (by decide +kernel) (by decide) kk
    rw [if_neg h8] at kk
    by_cases h9 : x = (nI 111433423)
    · rw [if_pos h9] at kk; subst h9; exact V.lookup (off := 214) dX9_key_8 (by decide +kernel) (by decide +kernel) (by decide) kk
    rw [if_neg h9] at kk
    by_cases h10 : x = (nI 288698108)
    · rw [if_pos h10] at kk; subst h10; exact V.lookup (off := 114) dX9_key_8 (by decide +kernel) (by decide +kernel) (by decide) kk
    rw [if_neg h10] at kk
    have g0 := sw_ne h0 (v := -1274492040) (by decide +kernel)
    have g1 := sw_ne h1 (v := -906021636) (by decide +kernel)
    have g2 := sw_ne h2 (v := -79017120) (by decide +kernel)
    have g3 := sw_ne h3 (v := 109267) (by decide +kernel)
    have g4 := sw_ne h4 (v := 3079825) (by decide +kernel)
    have g5 := sw_ne h5 (v := 93927806) (by decide +kernel)
    have g6 := sw_ne h6 (v := 102976443) (by decide +kernel)
    have g7 := sw_ne h7 (v := 103901296) (by decide +kernel)
    have g8 := sw_ne h8 (v := 106006350) (by decide +kernel)
    have g9 := sw_ne h9 (v := 111433423) (by decide +kernel)
    have g10 := sw_ne h10 (v := 288698108) (by decide +kernel)
    refine V.lookup dX9_key_8 (by decide +kernel) (off := 256) ?_ (by decide) kk
    simp [Op.lookupswitch.offset, Ne.symm g0, Ne.symm g1, Ne.symm g2, Ne.symm g3, Ne.symm g4, Ne.symm g5, Ne.symm g6, Ne.symm g7, Ne.symm g8, Ne.symm g9, Ne.symm g10])
theorem s_X9_key_108 : Snd PG.nam M112 108 (m_aload 1 109) := snd_aload_n dX9_key_108 rfl
theorem s_X9_key_109 : Snd PG.nam M112 109 (m_gets (fun Ω => .ref (Ω.k 2)) 111) := snd_ldcS (i := 2) dX9_key_109 rfl
theorem s_X9_key_111 : Snd PG.nam M112 111 (m_callV false [(23, 181)] 1 114) := snd_callV (nam := PG.nam) (List.forall_mem_cons.mpr ⟨dr_V (ym := PG.nam 181) dX9_key_111 (Or.inl w877) mi_181 rfl w593, (fun q hq => absurd hq List.not_mem_nil)⟩) (by decide)
theorem s_X9_key_114 : Snd PG.nam M112 114 (m_ifz (fun x => if x = 0 then 264 else 117)) := snd_if_eq dX9_key_114 (by decide)
theorem s_X9_key_117 : Snd PG.nam M112 117 (m_const (.int (nI 0)) 118) := snd_iconst dX9_key_117 (by decide)
theorem s_X9_key_118 : Snd PG.nam M112 118 (m_istore 2 119) := snd_istore_n dX9_key_118 rfl (by decide)
theorem s_X9_key_119 : Snd PG.nam M112 119 (m_goto 264) := snd_goto dX9_key_119 (by decide)
theorem s_X9_key_122 : Snd PG.nam M112 122 (m_aload 1 123) := snd_aload_n dX9_key_122 rfl
theorem s_X9_key_123 : Snd PG.nam M112 123 (m_gets (fun Ω => .ref (Ω.k 3)) 125) := snd_ldcS (i := 3) dX9_key_123 rfl
theorem s_X9_key_125 : Snd PG.nam M112 125 (m_callV false [(23, 181)] 1 128) := snd_callV (nam := PG.nam) (List.forall_mem_cons.mpr ⟨dr_V (ym := PG.nam 181) dX9_key_125 (Or.inl w877) mi_181 rfl w593, (fun q hq => absurd hq List.not_mem_nil)⟩) (by decide)
theorem s_X9_key_128 : Snd PG.nam M112 128 (m_ifz (fun x => if x = 0 then 264 else 131)) := snd_if_eq dX9_key_128 (by decide)
theorem s_X9_key_131 : Snd PG.nam M112 131 (m_const (.int (nI 1)) 132) := snd_iconst dX9_key_131 (by decide)
theorem s_X9_key_132 : Snd PG.nam M112 132 (m_istore 2 133) := snd_istore_n dX9_key_132 rfl (by decide)
theorem s_X9_key_133 : Snd PG.nam M112 133 (m_goto 264) := snd_goto dX9_key_133 (by decide)
theorem s_X9_key_136 : Snd PG.nam M112 136 (m_aload 1 137) := snd_aload_n dX9_key_136 rfl
theorem s_X9_key_137 : Snd PG.nam M112 137 (m_gets (fun Ω => .ref (Ω.k 4)) 139) := snd_ldcS (i := 4) dX9_key_137 rfl
theorem s_X9_key_139 : Snd PG.nam M112 139 (m_callV false [(23, 181)] 1 142) := snd_callV (nam := PG.nam) (List.forall_mem_cons.mpr ⟨dr_V (ym := PG.nam 181) dX9_key_139 (Or.inl w877) mi_181 rfl w593, (fun q hq => absurd hq List.not_mem_nil)⟩) (by decide)
theorem s_X9_key_142 : Snd PG.nam M112 142 (m_ifz (fun x => if x = 0 then 264 else 145)) := snd_if_eq dX9_key_142 (by decide)
theorem s_X9_key_145 : Snd PG.nam M112 145 (m_const (.int (nI 2)) 146) := snd_iconst dX9_key_145 (by decide)
theorem s_X9_key_146 : Snd PG.nam M112 146 (m_istore 2 147) := snd_istore_n dX9_key_146 rfl (by decide)
theorem s_X9_key_147 : Snd PG.nam M112 147 (m_goto 264) := snd_goto dX9_key_147 (by decide)
theorem s_X9_key_150 : Snd PG.nam M112 150 (m_aload 1 151) := snd_aload_n dX9_key_150 rfl
theorem s_X9_key_151 : Snd PG.nam M112 151 (m_gets (fun Ω => .ref (Ω.k 5)) 153) := snd_ldcS (i := 5) dX9_key_151 rfl
theorem s_X9_key_153 : Snd PG.nam M112 153 (m_callV false [(23, 181)] 1 156) := snd_callV (nam := PG.nam) (List.forall_mem_cons.mpr ⟨dr_V (ym := PG.nam 181) dX9_key_153 (Or.inl w877) mi_181 rfl w593, (fun q hq => absurd hq List.not_mem_nil)⟩) (by decide)
theorem s_X9_key_156 : Snd PG.nam M112 156 (m_ifz (fun x => if x = 0 then 264 else 159)) := snd_if_eq dX9_key_156 (by decide)
theorem s_X9_key_159 : Snd PG.nam M112 159 (m_const (.int (nI 3)) 160) := snd_iconst dX9_key_159 (by decide)
theorem s_X9_key_160 : Snd PG.nam M112 160 (m_istore 2 161) := snd_istore_n dX9_key_160 rfl (by decide)
theorem s_X9_key_161 : Snd PG.nam M112 161 (m_goto 264) := snd_goto dX9_key_161 (by decide)
theorem s_X9_key_164 : Snd PG.nam M112 164 (m_aload 1 165) := snd_aload_n dX9_key_164 rfl
theorem s_X9_key_165 : Snd PG.nam M112 165 (m_gets (fun Ω => .ref (Ω.k 6)) 167) := snd_ldcS (i := 6) dX9_key_165 rfl
theorem s_X9_key_167 : Snd PG.nam M112 167 (m_callV false [(23, 181)] 1 170) := snd_callV (nam := PG.nam) (List.forall_mem_cons.mpr ⟨dr_V (ym := PG.nam 181) dX9_key_167 (Or.inl w877) mi_181 rfl w593, (fun q hq => absurd hq List.not_mem_nil)⟩) (by decide)
theorem s_X9_key_170 : Snd PG.nam M112 170 (m_ifz (fun x => if x = 0 then 264 else 173)) := snd_if_eq dX9_key_170 (by decide)
theorem s_X9_key_173 : Snd PG.nam M112 173 (m_const (.int (nI 4)) 174) := snd_iconst dX9_key_173 (by decide)
theorem s_X9_key_174 : Snd PG.nam M112 174 (m_istore 2 175) := snd_istore_n dX9_key_174 rfl (by decide)
theorem s_X9_key_175 : Snd PG.nam M112 175 (m_goto 264) := snd_goto dX9_key_175 (by decide)
theorem s_X9_key_178 : Snd PG.nam M112 178 (m_aload 1 179) := snd_aload_n dX9_key_178 rfl
theorem s_X9_key_179 : Snd PG.nam M112 179 (m_gets (fun Ω => .ref (Ω.k 7)) 181) := snd_ldcS (i := 7) dX9_key_179 rfl
theorem s_X9_key_181 : Snd PG.nam M112 181 (m_callV false [(23, 181)] 1 184) := snd_callV (nam := PG.nam) (List.forall_mem_cons.mpr ⟨dr_V (ym := PG.nam 181) dX9_key_181 (Or.inl w877) mi_181 rfl w593, (fun q hq => absurd hq List.not_mem_nil)⟩) (by decide)
theorem s_X9_key_184 : Snd PG.nam M112 184 (m_ifz (fun x => if x = 0 then 264 else 187)) := snd_if_eq dX9_key_184 (by decide)
theorem s_X9_key_187 : Snd PG.nam M112 187 (m_const (.int (nI 5)) 188) := snd_iconst dX9_key_187 (by decide)
theorem s_X9_key_188 : Snd PG.nam M112 188 (m_istore 2 189) := snd_istore_n dX9_key_188 rfl (by decide)
theorem s_X9_key_189 : Snd PG.nam M112 189 (m_goto 264) := snd_goto dX9_key_189 (by decide)
theorem s_X9_key_192 : Snd PG.nam M112 192 (m_aload 1 193) := snd_aload_n dX9_key_192 rfl
theorem s_X9_key_193 : Snd PG.nam M112 193 (m_gets (fun Ω => .ref (Ω.k 8)) 195) := snd_ldcS (i := 8) dX9_key_193 rfl
theorem s_X9_key_195 : Snd PG.nam M112 195 (m_callV false [(23, 181)] 1 198) := snd_callV (nam := PG.nam) (List.forall_mem_cons.mpr ⟨dr_V (ym := PG.nam 181) dX9_key_195 (Or.inl w877) mi_181 rfl w593, (fun q hq => absurd hq List.not_mem_nil)⟩) (by decide)
theorem s_X9_key_198 : Snd PG.nam M112 198 (m_ifz (fun x => if x = 0 then 264 else 201)) := snd_if_eq dX9_key_198 (by decide)
theorem s_X9_key_201 : Snd PG.nam M112 201 (m_const (.int (nI 6)) 203) := snd_bipush dX9_key_201 (by decide)
theorem s_X9_key_203 : Snd PG.nam M112 203 (m_istore 2 204) := snd_istore_n dX9_key_203 rfl (by decide)
theorem s_X9_key_204 : Snd PG.nam M112 204 (m_goto 264) := snd_goto dX9_key_204 (by decide)
theorem s_X9_key_207 : Snd PG.nam M112 207 (m_aload 1 208) := snd_aload_n dX9_key_207 rfl
theorem s_X9_key_208 : Snd PG.nam M112 208 (m_gets (fun Ω => .ref (Ω.k 9)) 210) := snd_ldcS (i := 9) dX9_key_208 rfl
theorem s_X9_key_210 : Snd PG.nam M112 210 (m_callV false [(23, 181)] 1 213) := snd_callV (nam := PG.nam) (List.forall_mem_cons.mpr ⟨dr_V (ym := PG.nam 181) dX9_key_210 (Or.inl w877) mi_181 rfl w593, (fun q hq => absurd hq List.not_mem_nil)⟩) (by decide)
theorem s_X9_key_213 : Snd PG.nam M112 213 (m_ifz (fun x => if x = 0 then 264 else 216)) := snd_if_eq dX9_key_213 (by decide)
theorem s_X9_key_216 : Snd PG.nam M112 216 (m_const (.int (nI 7)) 218) := snd_bipush dX9_key_216 (by decide)
theorem s_X9_key_218 : Snd PG.nam M112 218 (m_istore 2 219) := snd_istore_n dX9_key_218 rfl (by decide)
theorem s_X9_key_219 : Snd PG.nam M112 219 (m_goto 264) := snd_goto dX9_key_219 (by decide)
theorem s_X9_key_222 : Snd PG.nam M112 222 (m_aload 1 223) := snd_aload_n dX9_key_222 rfl
theorem s_X9_key_223 : Snd PG.nam M112 223 (m_gets (fun Ω => .ref (Ω.k 10)) 225) := snd_ldcS (i := 10) dX9_key_223 rfl
theorem s_X9_key_225 : Snd PG.nam M112 225 (m_callV false [(23, 181)] 1 228) := snd_callV (nam := PG.nam) (List.forall_mem_cons.mpr ⟨dr_V (ym := PG.nam 181) dX9_key_225 (Or.inl w877) mi_181 rfl w593, (fun q hq => absurd hq List.not_mem_nil)⟩) (by decide)
theorem s_X9_key_228 : Snd PG.nam M112 228 (m_ifz (fun x => if x = 0 then 264 else 231)) := snd_if_eq dX9_key_228 (by decide)
theorem s_X9_key_231 : Snd PG.nam M112 231 (m_const (.int (nI 8)) 233) := snd_bipush dX9_key_231 (by decide)
theorem s_X9_key_233 : Snd PG.nam M112 233 (m_istore 2 234) := snd_istore_n dX9_key_233 rfl (by decide)
theorem s_X9_key_234 : Snd PG.nam M112 234 (m_goto 264) := snd_goto dX9_key_234 (by decide)
theorem s_X9_key_237 : Snd PG.nam M112 237 (m_aload 1 238) := snd_aload_n dX9_key_237 rfl
theorem s_X9_key_238 : Snd PG.nam M112 238 (m_gets (fun Ω => .ref (Ω.k 11)) 240) := snd_ldcS (i := 11) dX9_key_238 rfl
theorem s_X9_key_240 : Snd PG.nam M112 240 (m_callV false [(23, 181)] 1 243) := snd_callV (nam := PG.nam) (List.forall_mem_cons.mpr ⟨dr_V (ym := PG.nam 181) dX9_key_240 (Or.inl w877) mi_181 rfl w593, (fun q hq => absurd hq List.not_mem_nil)⟩) (by decide)
theorem s_X9_key_243 : Snd PG.nam M112 243 (m_ifz (fun x => if x = 0 then 264 else 246)) := snd_if_eq dX9_key_243 (by decide)
theorem s_X9_key_246 : Snd PG.nam M112 246 (m_const (.int (nI 9)) 248) := snd_bipush dX9_key_246 (by decide)
theorem s_X9_key_248 : Snd PG.nam M112 248 (m_istore 2 249) := snd_istore_n dX9_key_248 rfl (by decide)
theorem s_X9_key_249 : Snd PG.nam M112 249 (m_goto 264) := snd_goto dX9_key_249 (by decide)
theorem s_X9_key_252 : Snd PG.nam M112 252 (m_aload 1 253) := snd_aload_n dX9_key_252 rfl
theorem s_X9_key_253 : Snd PG.nam M112 253 (m_gets (fun Ω => .ref (Ω.k 12)) 255) := snd_ldcS (i := 12) dX9_key_253 rfl
theorem s_X9_key_255 : Snd PG.nam M112 255 (m_callV false [(23, 181)] 1 258) := snd_callV (nam := PG.nam) (List.forall_mem_cons.mpr ⟨dr_V (ym := PG.nam 181) dX9_key_255 (Or.inl w877) mi_181 rfl w593, (fun q hq => absurd hq List.not_mem_nil)⟩) (by decide)
theorem s_X9_key_258 : Snd PG.nam M112 258 (m_ifz (fun x => if x = 0 then 264 else 261)) := snd_if_eq dX9_key_258 (by decide)
theorem s_X9_key_261 : Snd PG.nam M112 261 (m_const (.int (nI 10)) 263) := snd_bipush dX9_key_261 (by decide)
theorem s_X9_key_263 : Snd PG.nam M112 263 (m_istore 2 264) := snd_istore_n dX9_key_263 rfl (by decide)
theorem s_X9_key_264 : Snd PG.nam M112 264 (m_iload 2 265) := snd_iload_n dX9_key_264 rfl
theorem s_X9_key_265 : Snd PG.nam M112 265 (m_ifz (fun x => if x = (nI 0) then 324 else if x = (nI 1) then 324 else if x = (nI 2) then 324 else if x = (nI 3) then 324 else if x = (nI 4) then 324 else if x = (nI 5) then 324 else if x = (nI 6) then 324 else if x = (nI 7) then 324 else if x = (nI 8) then 324 else if x = (nI 9) then 324 else if x = (nI 10) then 324 else 326)) := snd_sw (fun Ω d mc ms P h k n lv st x kk => by
    dsimp only at kk
    by_cases h0 : x = (nI 0)
    · rw [if_pos h0] at kk; subst h0; exact V.tableIn (off := 59) dX9_key_265 (by decide +kernel) (by decide +kernel) (by decide +kernel) (by decide) kk
    rw [if_neg h0] at kk
    by_cases h1 : x = (nI 1)
    · rw [if_pos h1] at kk; subst h1; exact V.tableIn (off := 59) dX9_key_265 (by decide +kernel) (by decide +kernel) (by decide +kernel) (by decide) kk
    rw [if_neg h1] at kk
    by_cases h2 : x = (nI 2)
    · rw [if_pos h2] at kk; subst h2; exact V.tableIn (off := 59) dX9_key_265 (by decide +kernel) (by decide +kernel) (by decide +kernel) (by decide) kk
    rw [if_neg h2] at kk
    by_cases h3 : x = (nI 3)
    · rw [if_pos h3] at kk; subst h3; exact V.tableIn (off := 59) dX9_key_265 (by decide +kernel) (by decide +kernel) (by decide +kernel) (by decide) kk
    rw [if_neg h3] at kk
    by_cases h4 : x = (nI 4)
    · rw [if_pos h4] at kk; subst h4; exact V.tableIn (off := 59) dX9_key_265 (by decide +kernel) (by decide +kernel) (by decide +kernel) (by decide) kk
    rw [if_neg h4] at kk
    by_cases h5 : x = (nI 5)
    · rw [if_pos h5] at kk; subst h5; exact V.tableIn (off := 59) dX9_key_265 (by decide +kernel) (by decide +kernel) (by decide +kernel) (by decide) kk
    rw [if_neg h5] at kk
    by_cases h6 : x = (nI 6)
    · rw [if_pos h6] at kk; subst h6; exact V.tableIn (off := 59) dX9_key_265 (by decide +kernel) (by decide +kernel) (by decide +kernel) (by decide) kk
    rw [if_neg h6] at kk
    by_cases h7 : x = (nI 7)
    · rw [if_pos h7] at kk; subst h7; exact V.tableIn (off := 59) dX9_key_265 (by decide +kernel) (by decide +kernel) (by decide +kernel) (by decide) kk
    rw [if_neg h7] at kk
    by_cases h8 : x = (nI 8)
    · rw [if_pos h8] at kk; subst h8; exact V.tableIn (off := 59) dX9_key_265 (by decide +kernel) (by decide +kernel) (by decide +kernel) (by decide) kk
    rw [if_neg h8] at kk
    by_cases h9 : x = (nI 9)
    · rw [if_pos h9] at kk; subst h9; exact V.tableIn (off := 59) dX9_key_265 (by decide +kernel) (by decide +kernel) (by decide +kernel) (by decide) kk
    rw [if_neg h9] at kk
    by_cases h10 : x = (nI 10)
    · rw [if_pos h10] at kk; subst h10; exact V.tableIn (off := 59) dX9_key_265 (by decide +kernel) (by decide +kernel) (by decide +kernel) (by decide) kk
    rw [if_neg h10] at kk
    refine V.tableOut dX9_key_265 ?_ (by decide) kk
    have g0 := sw_ne h0 (v := 0) (by decide +kernel)
    have g1 := sw_ne h1 (v := 1) (by decide +kernel)
    have g2 := sw_ne h2 (v := 2) (by decide +kernel)
    have g3 := sw_ne h3 (v := 3) (by decide +kernel)
    have g4 := sw_ne h4 (v := 4) (by decide +kernel)
    have g5 := sw_ne h5 (v := 5) (by decide +kernel)
    have g6 := sw_ne h6 (v := 6) (by decide +kernel)
    have g7 := sw_ne h7 (v := 7) (by decide +kernel)
    have g8 := sw_ne h8 (v := 8) (by decide +kernel)
    have g9 := sw_ne h9 (v := 9) (by decide +kernel)
    have g10 := sw_ne h10 (v := 10) (by decide +kernel)
    omega)
theorem s_X9_key_324 : Snd PG.nam M112 324 (m_const (.int (nI 1)) 325) := snd_iconst dX9_key_324 (by decide)
theorem s_X9_key_325 : Snd PG.nam M112 325 (m_iret .boolean) := snd_iret dX9_key_325 rfl
theorem s_X9_key_326 : Snd PG.nam M112 326 (m_const (.int (nI 0)) 327) := snd_iconst dX9_key_326 (by decide)
theorem s_X9_key_327 : Snd PG.nam M112 327 (m_iret .boolean) := snd_iret dX9_key_327 rfl
theorem T112 : ∀ q ∈ S112, Snd PG.nam M112 q.1 q.2 := List.forall_mem_cons.mpr ⟨s_X9_key_0, List.forall_mem_cons.mpr ⟨s_X9_key_1, List.forall_mem_cons.mpr ⟨s_X9_key_2, List.forall_mem_cons.mpr ⟨s_X9_key_3, List.forall_mem_cons.mpr ⟨s_X9_key_4, List.forall_mem_cons.mpr ⟨s_X9_key_5, List.forall_mem_cons.mpr ⟨s_X9_key_8, List.forall_mem_cons.mpr ⟨s_X9_key_108, List.forall_mem_cons.mpr ⟨s_X9_key_109, List.forall_mem_cons.mpr ⟨s_X9_key_111, List.forall_mem_cons.mpr ⟨s_X9_key_114, List.forall_mem_cons.mpr ⟨s_X9_key_117, List.forall_mem_cons.mpr ⟨s_X9_key_118, List.forall_mem_cons.mpr ⟨s_X9_key_119, List.forall_mem_cons.mpr ⟨s_X9_key_122, List.forall_mem_cons.mpr ⟨s_X9_key_123, List.forall_mem_cons.mpr ⟨s_X9_key_125, List.forall_mem_cons.mpr ⟨s_X9_key_128, List.forall_mem_cons.mpr ⟨s_X9_key_131, List.forall_mem_cons.mpr ⟨s_X9_key_132, List.forall_mem_cons.mpr ⟨s_X9_key_133, List.forall_mem_cons.mpr ⟨s_X9_key_136, List.forall_mem_cons.mpr ⟨s_X9_key_137, List.forall_mem_cons.mpr ⟨s_X9_key_139, List.forall_mem_cons.mpr ⟨s_X9_key_142, List.forall_mem_cons.mpr ⟨s_X9_key_145, List.forall_mem_cons.mpr ⟨s_X9_key_146, List.forall_mem_cons.mpr ⟨s_X9_key_147, List.forall_mem_cons.mpr ⟨s_X9_key_150, List.forall_mem_cons.mpr ⟨s_X9_key_151, List.forall_mem_cons.mpr ⟨s_X9_key_153, List.forall_mem_cons.mpr ⟨s_X9_key_156, List.forall_mem_cons.mpr ⟨s_X9_key_159, List.forall_mem_cons.mpr ⟨s_X9_key_160, List.forall_mem_cons.mpr ⟨s_X9_key_161, List.forall_mem_cons.mpr ⟨s_X9_key_164, List.forall_mem_cons.mpr ⟨s_X9_key_165, List.forall_mem_cons.mpr ⟨s_X9_key_167, List.forall_mem_cons.mpr ⟨s_X9_key_170, List.forall_mem_cons.mpr ⟨s_X9_key_173, List.forall_mem_cons.mpr ⟨s_X9_key_174, List.forall_mem_cons.mpr ⟨s_X9_key_175, List.forall_mem_cons.mpr ⟨s_X9_key_178, List.forall_mem_cons.mpr ⟨s_X9_key_179, List.forall_mem_cons.mpr ⟨s_X9_key_181, List.forall_mem_cons.mpr ⟨s_X9_key_184, List.forall_mem_cons.mpr ⟨s_X9_key_187, List.forall_mem_cons.mpr ⟨s_X9_key_188, List.forall_mem_cons.mpr ⟨s_X9_key_189, List.forall_mem_cons.mpr ⟨s_X9_key_192, List.forall_mem_cons.mpr ⟨s_X9_key_193, List.forall_mem_cons.mpr ⟨s_X9_key_195, List.forall_mem_cons.mpr ⟨s_X9_key_198, List.forall_mem_cons.mpr ⟨s_X9_key_201, List.forall_mem_cons.mpr ⟨s_X9_key_203, List.forall_mem_cons.mpr ⟨s_X9_key_204, List.forall_mem_cons.mpr ⟨s_X9_key_207, List.forall_mem_cons.mpr ⟨s_X9_key_208, List.forall_mem_cons.mpr ⟨s_X9_key_210, List.forall_mem_cons.mpr ⟨s_X9_key_213, List.forall_mem_cons.mpr ⟨s_X9_key_216, List.forall_mem_cons.mpr ⟨s_X9_key_218, List.forall_mem_cons.mpr ⟨s_X9_key_219, List.forall_mem_cons.mpr ⟨s_X9_key_222, List.forall_mem_cons.mpr ⟨s_X9_key_223, List.forall_mem_cons.mpr ⟨s_X9_key_225, List.forall_mem_cons.mpr ⟨s_X9_key_228, List.forall_mem_cons.mpr ⟨s_X9_key_231, List.forall_mem_cons.mpr ⟨s_X9_key_233, List.forall_mem_cons.mpr ⟨s_X9_key_234, List.forall_mem_cons.mpr ⟨s_X9_key_237, List.forall_mem_cons.mpr ⟨s_X9_key_238, List.forall_mem_cons.mpr ⟨s_X9_key_240, List.forall_mem_cons.mpr ⟨s_X9_key_243, List.forall_mem_cons.mpr ⟨s_X9_key_246, List.forall_mem_cons.mpr ⟨s_X9_key_248, List.forall_mem_cons.mpr ⟨s_X9_key_249, List.forall_mem_cons.mpr ⟨s_X9_key_252, List.forall_mem_cons.mpr ⟨s_X9_key_253, List.forall_mem_cons.mpr ⟨s_X9_key_255, List.forall_mem_cons.mpr ⟨s_X9_key_258, List.forall_mem_cons.mpr ⟨s_X9_key_261, List.forall_mem_cons.mpr ⟨s_X9_key_263, List.forall_mem_cons.mpr ⟨s_X9_key_264, List.forall_mem_cons.mpr ⟨s_X9_key_265, List.forall_mem_cons.mpr ⟨s_X9_key_324, List.forall_mem_cons.mpr ⟨s_X9_key_325, List.forall_mem_cons.mpr ⟨s_X9_key_326, List.forall_mem_cons.mpr ⟨s_X9_key_327, (fun q hq => absurd hq List.not_mem_nil)⟩⟩⟩⟩⟩⟩⟩⟩⟩⟩⟩⟩⟩⟩⟩⟩⟩⟩⟩⟩⟩⟩⟩⟩⟩⟩⟩⟩⟩⟩⟩⟩⟩⟩⟩⟩⟩⟩⟩⟩⟩⟩⟩⟩⟩⟩⟩⟩⟩⟩⟩⟩⟩⟩⟩⟩⟩⟩⟩⟩⟩⟩⟩⟩⟩⟩⟩⟩⟩⟩⟩⟩⟩⟩⟩⟩⟩⟩⟩⟩⟩⟩⟩⟩⟩⟩⟩⟩⟩
theorem s_X9_digit_0 : Snd PG.nam M113 0 (m_iload 0 1) := snd_iload_n dX9_digit_0 rfl
theorem s_X9_digit_1 : Snd PG.nam M113 1 (m_const (.int (nI 48)) 3) := snd_bipush dX9_digit_1 (by decide)
theorem s_X9_digit_3 : Snd PG.nam M113 3 (m_icmp (fun x z => if x < z then 16 else 6)) := snd_icmp_lt dX9_digit_3 (by decide)
theorem s_X9_digit_6 : Snd PG.nam M113 6 (m_iload 0 7) := snd_iload_n dX9_digit_6 rfl
theorem s_X9_digit_7 : Snd PG.nam M113 7 (m_const (.int (nI 57)) 9) := snd_bipush dX9_digit_7 (by decide)
theorem s_X9_digit_9 : Snd PG.nam M113 9 (m_icmp (fun x z => if z < x then 16 else 12)) := snd_icmp_gt dX9_digit_9 (by decide)
theorem s_X9_digit_12 : Snd PG.nam M113 12 (m_const (.int (nI 1)) 13) := snd_iconst dX9_digit_12 (by decide)
theorem s_X9_digit_13 : Snd PG.nam M113 13 (m_goto 17) := snd_goto dX9_digit_13 (by decide)
theorem s_X9_digit_16 : Snd PG.nam M113 16 (m_const (.int (nI 0)) 17) := snd_iconst dX9_digit_16 (by decide)
theorem s_X9_digit_17 : Snd PG.nam M113 17 (m_iret .boolean) := snd_iret dX9_digit_17 rfl
theorem T113 : ∀ q ∈ S113, Snd PG.nam M113 q.1 q.2 := List.forall_mem_cons.mpr ⟨s_X9_digit_0, List.forall_mem_cons.mpr ⟨s_X9_digit_1, List.forall_mem_cons.mpr ⟨s_X9_digit_3, List.forall_mem_cons.mpr ⟨s_X9_digit_6, List.forall_mem_cons.mpr ⟨s_X9_digit_7, List.forall_mem_cons.mpr ⟨s_X9_digit_9, List.forall_mem_cons.mpr ⟨s_X9_digit_12, List.forall_mem_cons.mpr ⟨s_X9_digit_13, List.forall_mem_cons.mpr ⟨s_X9_digit_16, List.forall_mem_cons.mpr ⟨s_X9_digit_17, (fun q hq => absurd hq List.not_mem_nil)⟩⟩⟩⟩⟩⟩⟩⟩⟩⟩
theorem s_X9_read_0 : Snd PG.nam M114 0 (m_new 8 [.int 0, .null, .int 0, .null, .int 0, .int 0, .int 0] 3) := snd_new dX9_read_0 rfl w929 w930 w89 rfl (by decide +kernel)
theorem s_X9_read_3 : Snd PG.nam M114 3 (m_dup 4) := snd_dup dX9_read_3
theorem s_X9_read_4 : Snd PG.nam M114 4 (m_callI 125 0 7) := snd_callI (nam := PG.nam) (yy := 125) dX9_read_4 (Or.inr ⟨_, w931⟩) mi_125 rfl w933 (by decide)
theorem s_X9_read_7 : Snd PG.nam M114 7 (m_astore 1 8) := snd_astore_n dX9_read_7 rfl (by decide)
theorem s_X9_read_8 : Snd PG.nam M114 8 (m_aload 0 9) := snd_aload_n dX9_read_8 rfl
theorem s_X9_read_9 : Snd PG.nam M114 9 (m_aload 0 10) := snd_aload_n dX9_read_9 rfl
theorem s_X9_read_10 : Snd PG.nam M114 10 (m_gets (fun Ω => .ref (Ω.k 2)) 12) := snd_ldcS (i := 2) dX9_read_10 rfl
theorem s_X9_read_12 : Snd PG.nam M114 12 (m_callV false [(7, 115)] 1 15) := snd_callV (nam := PG.nam) (List.forall_mem_cons.mpr ⟨dr_V (ym := PG.nam 115) dX9_read_12 (Or.inl w969) mi_115 rfl (lw_all_tbl qs12), (fun q hq => absurd hq List.not_mem_nil)⟩) (by decide)
theorem s_X9_read_15 : Snd PG.nam M114 15 (m_aload 0 16) := snd_aload_n dX9_read_15 rfl
theorem s_X9_read_16 : Snd PG.nam M114 16 (m_getf [(7, 6)] 19) := snd_getf dX9_read_16 fd_X9_82
theorem s_X9_read_19 : Snd PG.nam M114 19 (m_callV true [(7, 116)] 2 22) := snd_callV (nam := PG.nam) (List.forall_mem_cons.mpr ⟨dr_V (ym := PG.nam 116) dX9_read_19 (Or.inl w973) mi_116 rfl (lw_all_tbl qs13), (fun q hq => absurd hq List.not_mem_nil)⟩) (by decide)
theorem s_X9_read_22 : Snd PG.nam M114 22 (m_aload 0 23) := snd_aload_n dX9_read_22 rfl
theorem s_X9_read_23 : Snd PG.nam M114 23 (m_callV true [(7, 108)] 0 26) := snd_callV (nam := PG.nam) (List.forall_mem_cons.mpr ⟨dr_V (ym := PG.nam 108) dX9_read_23 (Or.inl w761) mi_108 rfl (lw_all_tbl qs10), (fun q hq => absurd hq List.not_mem_nil)⟩) (by decide)
theorem s_X9_read_26 : Snd PG.nam M114 26 (m_aload 1 27) := snd_aload_n dX9_read_26 rfl
theorem s_X9_read_27 : Snd PG.nam M114 27 (m_aload 0 28) := snd_aload_n dX9_read_27 rfl
theorem s_X9_read_28 : Snd PG.nam M114 28 (m_gets (fun Ω => .ref (Ω.k 3)) 30) := snd_ldcS (i := 3) dX9_read_28 rfl
theorem s_X9_read_30 : Snd PG.nam M114 30 (m_callV false [(7, 117)] 1 33) := snd_callV (nam := PG.nam) (List.forall_mem_cons.mpr ⟨dr_V (ym := PG.nam 117) dX9_read_30 (Or.inl w979) mi_117 rfl (lw_all_tbl qs14), (fun q hq => absurd hq List.not_mem_nil)⟩) (by decide)
theorem s_X9_read_33 : Snd PG.nam M114 33 (m_putf [(8, 0)] .boolean 36) := snd_putf dX9_read_33 fd_X9_148
theorem s_X9_read_36 : Snd PG.nam M114 36 (m_const (.int (nI 1)) 37) := snd_iconst dX9_read_36 (by decide)
theorem s_X9_read_37 : Snd PG.nam M114 37 (m_istore 2 38) := snd_istore_n dX9_read_37 rfl (by decide)
theorem s_X9_read_38 : Snd PG.nam M114 38 (m_iload 2 39) := snd_iload_n dX9_read_38 rfl
theorem s_X9_read_39 : Snd PG.nam M114 39 (m_ifz (fun x => if x = 0 then 110 else 42)) := snd_if_eq dX9_read_39 (by decide)
theorem s_X9_read_42 : Snd PG.nam M114 42 (m_aload 0 43) := snd_aload_n dX9_read_42 rfl
theorem s_X9_read_43 : Snd PG.nam M114 43 (m_getf [(7, 6)] 46) := snd_getf dX9_read_43 fd_X9_82
theorem s_X9_read_46 : Snd PG.nam M114 46 (m_istore 3 47) := snd_istore_n dX9_read_46 rfl (by decide)
theorem s_X9_read_47 : Snd PG.nam M114 47 (m_aload 0 48) := snd_aload_n dX9_read_47 rfl
theorem s_X9_read_48 : Snd PG.nam M114 48 (m_callV false [(7, 118)] 0 51) := snd_callV (nam := PG.nam) (List.forall_mem_cons.mpr ⟨dr_V (ym := PG.nam 118) dX9_read_48 (Or.inl w983) mi_118 rfl (lw_all_tbl qs15), (fun q hq => absurd hq List.not_mem_nil)⟩) (by decide)
theorem s_X9_read_51 : Snd PG.nam M114 51 (m_istore 4 53) := snd_istore dX9_read_51 (by decide)
theorem s_X9_read_53 : Snd PG.nam M114 53 (m_aload 0 54) := snd_aload_n dX9_read_53 rfl
theorem s_X9_read_54 : Snd PG.nam M114 54 (m_aload 1 55) := snd_aload_n dX9_read_54 rfl
theorem s_X9_read_55 : Snd PG.nam M114 55 (m_getf [(8, 2)] 58) := snd_getf dX9_read_55 fd_X9_151
theorem s_X9_read_58 : Snd PG.nam M114 58 (m_const (.int (nI 6)) 60) := snd_bipush dX9_read_58 (by decide)
theorem s_X9_read_60 : Snd PG.nam M114 60 (m_icmp (fun x z => if x < z then 63 else 67)) := snd_icmp_ge dX9_read_60 (by decide)
theorem s_X9_read_63 : Snd PG.nam M114 63 (m_const (.int (nI 1)) 64) := snd_iconst dX9_read_63 (by decide)
theorem s_X9_read_64 : Snd PG.nam M114 64 (m_goto 68) := snd_goto dX9_read_64 (by decide)
theorem s_X9_read_67 : Snd PG.nam M114 67 (m_const (.int (nI 0)) 68) := snd_iconst dX9_read_67 (by decide)
theorem s_X9_read_68 : Snd PG.nam M114 68 (m_iload 3 69) := snd_iload_n dX9_read_68 rfl
theorem s_X9_read_69 : Snd PG.nam M114 69 (m_callV true [(7, 116)] 2 72) := snd_callV (nam := PG.nam) (List.forall_mem_cons.mpr ⟨dr_V (ym := PG.nam 116) dX9_read_69 (Or.inl w973) mi_116 rfl (lw_all_tbl qs13), (fun q hq => absurd hq List.not_mem_nil)⟩) (by decide)
theorem s_X9_read_72 : Snd PG.nam M114 72 (m_aload 1 73) := snd_aload_n dX9_read_72 rfl
theorem s_X9_read_73 : Snd PG.nam M114 73 (m_getf [(8, 1)] 76) := snd_getf dX9_read_73 fd_X9_154
theorem s_X9_read_76 : Snd PG.nam M114 76 (m_aload 1 77) := snd_aload_n dX9_read_76 rfl
theorem s_X9_read_77 : Snd PG.nam M114 77 (m_getf [(8, 2)] 80) := snd_getf dX9_read_77 fd_X9_151
theorem s_X9_read_80 : Snd PG.nam M114 80 (m_iload 4 82) := snd_iload dX9_read_80
theorem s_X9_read_82 : Snd PG.nam M114 82 (m_iast [.int] 83) := snd_iast dX9_read_82
theorem s_X9_read_83 : Snd PG.nam M114 83 (m_aload 1 84) := snd_aload_n dX9_read_83 rfl
theorem s_X9_read_84 : Snd PG.nam M114 84 (m_dup 85) := snd_dup dX9_read_84
theorem s_X9_read_85 : Snd PG.nam M114 85 (m_getf [(8, 2)] 88) := snd_getf dX9_read_85 fd_X9_151
theorem s_X9_read_88 : Snd PG.nam M114 88 (m_const (.int (nI 1)) 89) := snd_iconst dX9_read_88 (by decide)
theorem s_X9_read_89 : Snd PG.nam M114 89 (m_ibin (fun a b => a + b) 90) := snd_iadd dX9_read_89
theorem s_X9_read_90 : Snd PG.nam M114 90 (m_putf [(8, 2)] .int 93) := snd_putf dX9_read_90 fd_X9_151
theorem s_X9_read_93 : Snd PG.nam M114 93 (m_aload 0 94) := snd_aload_n dX9_read_93 rfl
theorem s_X9_read_94 : Snd PG.nam M114 94 (m_getf [(7, 4)] 97) := snd_getf dX9_read_94 fd_X9_90
theorem s_X9_read_97 : Snd PG.nam M114 97 (m_const (.int (nI 4)) 98) := snd_iconst dX9_read_97 (by decide)
theorem s_X9_read_98 : Snd PG.nam M114 98 (m_icmp (fun x z => if x = z then 101 else 105)) := snd_icmp_ne dX9_read_98 (by decide)
theorem s_X9_read_101 : Snd PG.nam M114 101 (m_const (.int (nI 1)) 102) := snd_iconst dX9_read_101 (by decide)
theorem s_X9_read_102 : Snd PG.nam M114 102 (m_goto 106) := snd_goto dX9_read_102 (by decide)
theorem s_X9_read_105 : Snd PG.nam M114 105 (m_const (.int (nI 0)) 106) := snd_iconst dX9_read_105 (by decide)
theorem s_X9_read_106 : Snd PG.nam M114 106 (m_istore 2 107) := snd_istore_n dX9_read_106 rfl (by decide)
theorem s_X9_read_107 : Snd PG.nam M114 107 (m_goto 38) := snd_goto dX9_read_107 (by decide)
theorem s_X9_read_110 : Snd PG.nam M114 110 (m_aload 1 111) := snd_aload_n dX9_read_110 rfl
theorem s_X9_read_111 : Snd PG.nam M114 111 (m_aload 0 112) := snd_aload_n dX9_read_111 rfl
theorem s_X9_read_112 : Snd PG.nam M114 112 (m_callV false [(7, 119)] 0 115) := snd_callV (nam := PG.nam) (List.forall_mem_cons.mpr ⟨dr_V (ym := PG.nam 119) dX9_read_112 (Or.inl w987) mi_119 rfl (lw_all_tbl qs16), (fun q hq => absurd hq List.not_mem_nil)⟩) (by decide)
theorem s_X9_read_115 : Snd PG.nam M114 115 (m_putf [(8, 3)] (.object "TripleStore$Group") 118) := snd_putf dX9_read_115 fd_X9_162
theorem s_X9_read_118 : Snd PG.nam M114 118 (m_aload 0 119) := snd_aload_n dX9_read_118 rfl
theorem s_X9_read_119 : Snd PG.nam M114 119 (m_gets (fun Ω => .ref (Ω.k 4)) 121) := snd_ldcS (i := 4) dX9_read_119 rfl
theorem s_X9_read_121 : Snd PG.nam M114 121 (m_callV false [(7, 117)] 1 124) := snd_callV (nam := PG.nam) (List.forall_mem_cons.mpr ⟨dr_V (ym := PG.nam 117) dX9_read_121 (Or.inl w979) mi_117 rfl (lw_all_tbl qs14), (fun q hq => absurd hq List.not_mem_nil)⟩) (by decide)
theorem s_X9_read_124 : Snd PG.nam M114 124 (m_ifz (fun x => if x = 0 then 145 else 127)) := snd_if_eq dX9_read_124 (by decide)
theorem s_X9_read_127 : Snd PG.nam M114 127 (m_aload 1 128) := snd_aload_n dX9_read_127 rfl
theorem s_X9_read_128 : Snd PG.nam M114 128 (m_aload 0 129) := snd_aload_n dX9_read_128 rfl
theorem s_X9_read_129 : Snd PG.nam M114 129 (m_callV false [(7, 118)] 0 132) := snd_callV (nam := PG.nam) (List.forall_mem_cons.mpr ⟨dr_V (ym := PG.nam 118) dX9_read_129 (Or.inl w983) mi_118 rfl (lw_all_tbl qs15), (fun q hq => absurd hq List.not_mem_nil)⟩) (by decide)
theorem s_X9_read_132 : Snd PG.nam M114 132 (m_putf [(8, 4)] .int 135) := snd_putf dX9_read_132 fd_X9_165
theorem s_X9_read_135 : Snd PG.nam M114 135 (m_aload 1 136) := snd_aload_n dX9_read_135 rfl
theorem s_X9_read_136 : Snd PG.nam M114 136 (m_aload 0 137) := snd_aload_n dX9_read_136 rfl
theorem s_X9_read_137 : Snd PG.nam M114 137 (m_gets (fun Ω => .ref (Ω.k 5)) 139) := snd_ldcS (i := 5) dX9_read_137 rfl
theorem s_X9_read_139 : Snd PG.nam M114 139 (m_callV false [(7, 117)] 1 142) := snd_callV (nam := PG.nam) (List.forall_mem_cons.mpr ⟨dr_V (ym := PG.nam 117) dX9_read_139 (Or.inl w979) mi_117 rfl (lw_all_tbl qs14), (fun q hq => absurd hq List.not_mem_nil)⟩) (by decide)
theorem s_X9_read_142 : Snd PG.nam M114 142 (m_putf [(8, 5)] .boolean 145) := snd_putf dX9_read_142 fd_X9_167
theorem s_X9_read_145 : Snd PG.nam M114 145 (m_aload 0 146) := snd_aload_n dX9_read_145 rfl
theorem s_X9_read_146 : Snd PG.nam M114 146 (m_gets (fun Ω => .ref (Ω.k 6)) 148) := snd_ldcS (i := 6) dX9_read_146 rfl
theorem s_X9_read_148 : Snd PG.nam M114 148 (m_callV false [(7, 117)] 1 151) := snd_callV (nam := PG.nam) (List.forall_mem_cons.mpr ⟨dr_V (ym := PG.nam 117) dX9_read_148 (Or.inl w979) mi_117 rfl (lw_all_tbl qs14), (fun q hq => absurd hq List.not_mem_nil)⟩) (by decide)
theorem s_X9_read_151 : Snd PG.nam M114 151 (m_ifz (fun x => if x = 0 then 162 else 154)) := snd_if_eq dX9_read_151 (by decide)
theorem s_X9_read_154 : Snd PG.nam M114 154 (m_aload 1 155) := snd_aload_n dX9_read_154 rfl
theorem s_X9_read_155 : Snd PG.nam M114 155 (m_aload 0 156) := snd_aload_n dX9_read_155 rfl
theorem s_X9_read_156 : Snd PG.nam M114 156 (m_callV false [(7, 123)] 0 159) := snd_callV (nam := PG.nam) (List.forall_mem_cons.mpr ⟨dr_V (ym := PG.nam 123) dX9_read_156 (Or.inl w1057) mi_123 rfl (lw_all_tbl qs20), (fun q hq => absurd hq List.not_mem_nil)⟩) (by decide)
theorem s_X9_read_159 : Snd PG.nam M114 159 (m_putf [(8, 6)] .int 162) := snd_putf dX9_read_159 fd_X9_170
theorem s_X9_read_162 : Snd PG.nam M114 162 (m_aload 0 163) := snd_aload_n dX9_read_162 rfl
theorem s_X9_read_163 : Snd PG.nam M114 163 (m_aload 0 164) := snd_aload_n dX9_read_163 rfl
theorem s_X9_read_164 : Snd PG.nam M114 164 (m_getf [(7, 4)] 167) := snd_getf dX9_read_164 fd_X9_90
theorem s_X9_read_167 : Snd PG.nam M114 167 (m_const (.int (nI 6)) 169) := snd_bipush dX9_read_167 (by decide)
theorem s_X9_read_169 : Snd PG.nam M114 169 (m_icmp (fun x z => if x = z then 172 else 176)) := snd_icmp_ne dX9_read_169 (by decide)
theorem s_X9_read_172 : Snd PG.nam M114 172 (m_const (.int (nI 1)) 173) := snd_iconst dX9_read_172 (by decide)
theorem s_X9_read_173 : Snd PG.nam M114 173 (m_goto 177) := snd_goto dX9_read_173 (by decide)
theorem s_X9_read_176 : Snd PG.nam M114 176 (m_const (.int (nI 0)) 177) := snd_iconst dX9_read_176 (by decide)
theorem s_X9_read_177 : Snd PG.nam M114 177 (m_aload 0 178) := snd_aload_n dX9_read_177 rfl
theorem s_X9_read_178 : Snd PG.nam M114 178 (m_getf [(7, 6)] 181) := snd_getf dX9_read_178 fd_X9_82
theorem s_X9_read_181 : Snd PG.nam M114 181 (m_callV true [(7, 116)] 2 184) := snd_callV (nam := PG.nam) (List.forall_mem_cons.mpr ⟨dr_V (ym := PG.nam 116) dX9_read_181 (Or.inl w973) mi_116 rfl (lw_all_tbl qs13), (fun q hq => absurd hq List.not_mem_nil)⟩) (by decide)
theorem s_X9_read_184 : Snd PG.nam M114 184 (m_aload 1 185) := snd_aload_n dX9_read_184 rfl
theorem s_X9_read_185 : Snd PG.nam M114 185 (m_aret) := snd_aret dX9_read_185 rfl (Or.inl ⟨_, rfl⟩)
theorem T114 : ∀ q ∈ S114, Snd PG.nam M114 q.1 q.2 := List.forall_mem_cons.mpr ⟨s_X9_read_0, List.forall_mem_cons.mpr ⟨s_X9_read_3, List.forall_mem_cons.mpr ⟨s_X9_read_4, List.forall_mem_cons.mpr ⟨s_X9_read_7, List.forall_mem_cons.mpr ⟨s_X9_read_8, List.forall_mem_cons.mpr ⟨s_X9_read_9, List.forall_mem_cons.mpr ⟨s_X9_read_10, List.forall_mem_cons.mpr ⟨s_X9_read_12, List.forall_mem_cons.mpr ⟨s_X9_read_15, List.forall_mem_cons.mpr ⟨s_X9_read_16, List.forall_mem_cons.mpr ⟨s_X9_read_19, List.forall_mem_cons.mpr ⟨s_X9_read_22, List.forall_mem_cons.mpr ⟨s_X9_read_23, List.forall_mem_cons.mpr ⟨s_X9_read_26, List.forall_mem_cons.mpr ⟨s_X9_read_27, List.forall_mem_cons.mpr ⟨s_X9_read_28, List.forall_mem_cons.mpr ⟨s_X9_read_30, List.forall_mem_cons.mpr ⟨s_X9_read_33, List.forall_mem_cons.mpr ⟨s_X9_read_36, List.forall_mem_cons.mpr ⟨s_X9_read_37, List.forall_mem_cons.mpr ⟨s_X9_read_38, List.forall_mem_cons.mpr ⟨s_X9_read_39, List.forall_mem_cons.mpr ⟨s_X9_read_42, List.forall_mem_cons.mpr ⟨s_X9_read_43, List.forall_mem_cons.mpr ⟨s_X9_read_46, List.forall_mem_cons.mpr ⟨s_X9_read_47, List.forall_mem_cons.mpr ⟨s_X9_read_48, List.forall_mem_cons.mpr ⟨s_X9_read_51, List.forall_mem_cons.mpr ⟨s_X9_read_53, List.forall_mem_cons.mpr ⟨s_X9_read_54, List.forall_mem_cons.mpr ⟨s_X9_read_55, List.forall_mem_cons.mpr ⟨s_X9_read_58, List.forall_mem_cons.mpr ⟨s_X9_read_60, List.forall_mem_cons.mpr ⟨s_X9_read_63, List.forall_mem_cons.mpr ⟨s_X9_read_64, List.forall_mem_cons.mpr ⟨s_X9_read_67, List.forall_mem_cons.mpr ⟨s_X9_read_68, List.forall_mem_cons.mpr ⟨s_X9_read_69, List.forall_mem_cons.mpr ⟨s_X9_read_72, List.forall_mem_cons.mpr ⟨s_X9_read_73, List.forall_mem_cons.mpr ⟨s_X9_read_76, List.forall_mem_cons.mpr ⟨s_X9_read_77, List.forall_mem_cons.mpr ⟨s_X9_read_80, List.forall_mem_cons.mpr ⟨s_X9_read_82, List.forall_mem_cons.mpr ⟨s_X9_read_83, List.forall_mem_cons.mpr ⟨s_X9_read_84, List.forall_mem_cons.mpr ⟨s_X9_read_85, List.forall_mem_cons.mpr ⟨s_X9_read_88, List.forall_mem_cons.mpr ⟨s_X9_read_89, List.forall_mem_cons.mpr ⟨s_X9_read_90, List.forall_mem_cons.mpr ⟨s_X9_read_93, List.forall_mem_cons.mpr ⟨s_X9_read_94, List.forall_mem_cons.mpr ⟨s_X9_read_97, List.forall_mem_cons.mpr ⟨s_X9_read_98, List.forall_mem_cons.mpr ⟨s_X9_read_101, List.forall_mem_cons.mpr ⟨s_X9_read_102, List.forall_mem_cons.mpr ⟨s_X9_read_105, List.forall_mem_cons.mpr ⟨s_X9_read_106, List.forall_mem_cons.mpr ⟨s_X9_read_107, List.forall_mem_cons.mpr ⟨s_X9_read_110, List.forall_mem_cons.mpr ⟨s_X9_read_111, List.forall_mem_cons.mpr ⟨s_X9_read_112, List.forall_mem_cons.mpr ⟨s_X9_read_115, List.forall_mem_cons.mpr ⟨s_X9_read_118, List.forall_mem_cons.mpr ⟨s_X9_read_119, List.forall_mem_cons.mpr ⟨s_X9_read_121, List.forall_mem_cons.mpr ⟨s_X9_read_124, List.forall_mem_cons.mpr ⟨s_X9_read_127, List.forall_mem_cons.mpr ⟨s_X9_read_128, List.forall_mem_cons.mpr ⟨s_X9_read_129, List.forall_mem_cons.mpr ⟨s_X9_read_132, List.forall_mem_cons.mpr ⟨s_X9_read_135, List.forall_mem_cons.mpr ⟨s_X9_read_136, List.forall_mem_cons.mpr ⟨s_X9_read_137, List.forall_mem_cons.mpr ⟨s_X9_read_139, List.forall_mem_cons.mpr ⟨s_X9_read_142, List.forall_mem_cons.mpr ⟨s_X9_read_145, List.forall_mem_cons.mpr ⟨s_X9_read_146, List.forall_mem_cons.mpr ⟨s_X9_read_148, List.forall_mem_cons.mpr ⟨s_X9_read_151, List.forall_mem_cons.mpr ⟨s_X9_read_154, List.forall_mem_cons.mpr ⟨s_X9_read_155, List.forall_mem_cons.mpr ⟨s_X9_read_156, List.forall_mem_cons.mpr ⟨s_X9_read_159, List.forall_mem_cons.mpr ⟨s_X9_read_162, List.forall_mem_cons.mpr ⟨s_X9_read_163, List.forall_mem_cons.mpr ⟨s_X9_read_164, List.forall_mem_cons.mpr ⟨s_X9_read_167, List.forall_mem_cons.mpr ⟨s_X9_read_169, List.forall_mem_cons.mpr ⟨s_X9_read_172, List.forall_mem_cons.mpr ⟨s_X9_read_173, List.forall_mem_cons.mpr ⟨s_X9_read_176, List.forall_mem_cons.mpr ⟨s_X9_read_177, List.forall_mem_cons.mpr ⟨s_X9_read_178, List.forall_mem_cons.mpr ⟨s_X9_read_181, List.forall_mem_cons.mpr ⟨s_X9_read_184, List.forall_mem_cons.mpr ⟨s_X9_read_185, (fun q hq => absurd hq List.not_mem_nil)⟩⟩⟩⟩⟩⟩⟩⟩⟩⟩⟩⟩⟩⟩⟩⟩⟩⟩⟩⟩⟩⟩⟩⟩⟩⟩⟩⟩⟩⟩⟩⟩⟩⟩⟩⟩⟩⟩⟩⟩⟩⟩⟩⟩⟩⟩⟩⟩⟩⟩⟩⟩⟩⟩⟩⟩⟩⟩⟩⟩⟩⟩⟩⟩⟩⟩⟩⟩⟩⟩⟩⟩⟩⟩⟩⟩⟩⟩⟩⟩⟩⟩⟩⟩⟩⟩⟩⟩⟩⟩⟩⟩⟩⟩⟩⟩⟩
theorem s_X9_isKey_0 : Snd PG.nam M115 0 (m_aload 0 1) := snd_aload_n dX9_isKey_0 rfl
theorem s_X9_isKey_1 : Snd PG.nam M115 1 (m_getf [(7, 4)] 4) := snd_getf dX9_isKey_1 fd_X9_90
theorem s_X9_isKey_4 : Snd PG.nam M115 4 (m_const (.int (nI 2)) 5) := snd_iconst dX9_isKey_4 (by decide)
theorem s_X9_isKey_5 : Snd PG.nam M115 5 (m_icmp (fun x z => if x = z then 8 else 23)) := snd_icmp_ne dX9_isKey_5 (by decide)
theorem s_X9_isKey_8 : Snd PG.nam M115 8 (m_aload 0 9) := snd_aload_n dX9_isKey_8 rfl
theorem s_X9_isKey_9 : Snd PG.nam M115 9 (m_getf [(7, 5)] 12) := snd_getf dX9_isKey_9 fd_X9_87
theorem s_X9_isKey_12 : Snd PG.nam M115 12 (m_aload 1 13) := snd_aload_n dX9_isKey_12 rfl
theorem s_X9_isKey_13 : Snd PG.nam M115 13 (m_callV false [(23, 181)] 1 16) := snd_callV (nam := PG.nam) (List.forall_mem_cons.mpr ⟨dr_V (ym := PG.nam 181) dX9_isKey_13 (Or.inl w877) mi_181 rfl w593, (fun q hq => absurd hq List.not_mem_nil)⟩) (by decide)
theorem s_X9_isKey_16 : Snd PG.nam M115 16 (m_ifz (fun x => if x = 0 then 23 else 19)) := snd_if_eq dX9_isKey_16 (by decide)
theorem s_X9_isKey_19 : Snd PG.nam M115 19 (m_const (.int (nI 1)) 20) := snd_iconst dX9_isKey_19 (by decide)
theorem s_X9_isKey_20 : Snd PG.nam M115 20 (m_goto 24) := snd_goto dX9_isKey_20 (by decide)
theorem s_X9_isKey_23 : Snd PG.nam M115 23 (m_const (.int (nI 0)) 24) := snd_iconst dX9_isKey_23 (by decide)
theorem s_X9_isKey_24 : Snd PG.nam M115 24 (m_iret .boolean) := snd_iret dX9_isKey_24 rfl
theorem T115 : ∀ q ∈ S115, Snd PG.nam M115 q.1 q.2 := List.forall_mem_cons.mpr ⟨s_X9_isKey_0, List.forall_mem_cons.mpr ⟨s_X9_isKey_1, List.forall_mem_cons.mpr ⟨s_X9_isKey_4, List.forall_mem_cons.mpr ⟨s_X9_isKey_5, List.forall_mem_cons.mpr ⟨s_X9_isKey_8, List.forall_mem_cons.mpr ⟨s_X9_isKey_9, List.forall_mem_cons.mpr ⟨s_X9_isKey_12, List.forall_mem_cons.mpr ⟨s_X9_isKey_13, List.forall_mem_cons.mpr ⟨s_X9_isKey_16, List.forall_mem_cons.mpr ⟨s_X9_isKey_19, List.forall_mem_cons.mpr ⟨s_X9_isKey_20, List.forall_mem_cons.mpr ⟨s_X9_isKey_23, List.forall_mem_cons.mpr ⟨s_X9_isKey_24, (fun q hq => absurd hq List.not_mem_nil)⟩⟩⟩⟩⟩⟩⟩⟩⟩⟩⟩⟩⟩
theorem s_X9_check_0 : Snd PG.nam M116 0 (m_iload 1 1) := snd_iload_n dX9_check_0 rfl
theorem s_X9_check_1 : Snd PG.nam M116 1 (m_ifz (fun x => if x = 0 then 5 else 4)) := snd_if_eq dX9_check_1 (by decide)
theorem s_X9_check_4 : Snd PG.nam M116 4 (m_vret) := snd_vret dX9_check_4 rfl
theorem s_X9_check_5 : Snd PG.nam M116 5 (m_aload 0 6) := snd_aload_n dX9_check_5 rfl
theorem s_X9_check_6 : Snd PG.nam M116 6 (m_getf [(7, 0)] 9) := snd_getf dX9_check_6 fd_X9_17
theorem s_X9_check_9 : Snd PG.nam M116 9 (m_iload 2 10) := snd_iload_n dX9_check_9 rfl
theorem s_X9_check_10 : Snd PG.nam M116 10 (m_putf [(0, 10)] .int 13) := snd_putf dX9_check_10 fd_X9_28
theorem s_X9_check_13 : Snd PG.nam M116 13 (m_thr 24) := snd_thr exc_J7 rfl dX9_check_13 dX9_check_16 dX9_check_17 dX9_check_20 w977 w978 w73 (by decide)
theorem T116 : ∀ q ∈ S116, Snd PG.nam M116 q.1 q.2 := List.forall_mem_cons.mpr ⟨s_X9_check_0, List.forall_mem_cons.mpr ⟨s_X9_check_1, List.forall_mem_cons.mpr ⟨s_X9_check_4, List.forall_mem_cons.mpr ⟨s_X9_check_5, List.forall_mem_cons.mpr ⟨s_X9_check_6, List.forall_mem_cons.mpr ⟨s_X9_check_9, List.forall_mem_cons.mpr ⟨s_X9_check_10, List.forall_mem_cons.mpr ⟨s_X9_check_13, (fun q hq => absurd hq List.not_mem_nil)⟩⟩⟩⟩⟩⟩⟩⟩
theorem s_X9_takeKey_0 : Snd PG.nam M117 0 (m_aload 0 1) := snd_aload_n dX9_takeKey_0 rfl
theorem s_X9_takeKey_1 : Snd PG.nam M117 1 (m_aload 1 2) := snd_aload_n dX9_takeKey_1 rfl
theorem s_X9_takeKey_2 : Snd PG.nam M117 2 (m_callV false [(7, 115)] 1 5) := snd_callV (nam := PG.nam) (List.forall_mem_cons.mpr ⟨dr_V (ym := PG.nam 115) dX9_takeKey_2 (Or.inl w969) mi_115 rfl (lw_all_tbl qs12), (fun q hq => absurd hq List.not_mem_nil)⟩) (by decide)
theorem s_X9_takeKey_5 : Snd PG.nam M117 5 (m_ifz (fun x => if x = 0 then 8 else 10)) := snd_if_ne dX9_takeKey_5 (by decide)
theorem s_X9_takeKey_8 : Snd PG.nam M117 8 (m_const (.int (nI 0)) 9) := snd_iconst dX9_takeKey_8 (by decide)
theorem s_X9_takeKey_9 : Snd PG.nam M117 9 (m_iret .boolean) := snd_iret dX9_takeKey_9 rfl
theorem s_X9_takeKey_10 : Snd PG.nam M117 10 (m_aload 0 11) := snd_aload_n dX9_takeKey_10 rfl
theorem s_X9_takeKey_11 : Snd PG.nam M117 11 (m_callV true [(7, 108)] 0 14) := snd_callV (nam := PG.nam) (List.forall_mem_cons.mpr ⟨dr_V (ym := PG.nam 108) dX9_takeKey_11 (Or.inl w761) mi_108 rfl (lw_all_tbl qs10), (fun q hq => absurd hq List.not_mem_nil)⟩) (by decide)
theorem s_X9_takeKey_14 : Snd PG.nam M117 14 (m_const (.int (nI 1)) 15) := snd_iconst dX9_takeKey_14 (by decide)
theorem s_X9_takeKey_15 : Snd PG.nam M117 15 (m_iret .boolean) := snd_iret dX9_takeKey_15 rfl
theorem T117 : ∀ q ∈ S117, Snd PG.nam M117 q.1 q.2 := List.forall_mem_cons.mpr ⟨s_X9_takeKey_0, List.forall_mem_cons.mpr ⟨s_X9_takeKey_1, List.forall_mem_cons.mpr ⟨s_X9_takeKey_2, List.forall_mem_cons.mpr ⟨s_X9_takeKey_5, List.forall_mem_cons.mpr ⟨s_X9_takeKey_8, List.forall_mem_cons.mpr ⟨s_X9_takeKey_9, List.forall_mem_cons.mpr ⟨s_X9_takeKey_10, List.forall_mem_cons.mpr ⟨s_X9_takeKey_11, List.forall_mem_cons.mpr ⟨s_X9_takeKey_14, List.forall_mem_cons.mpr ⟨s_X9_takeKey_15, (fun q hq => absurd hq List.not_mem_nil)⟩⟩⟩⟩⟩⟩⟩⟩⟩⟩
theorem s_X9_variable_0 : Snd PG.nam M118 0 (m_aload 0 1) := snd_aload_n dX9_variable_0 rfl
theorem s_X9_variable_1 : Snd PG.nam M118 1 (m_aload 0 2) := snd_aload_n dX9_variable_1 rfl
theorem s_X9_variable_2 : Snd PG.nam M118 2 (m_getf [(7, 4)] 5) := snd_getf dX9_variable_2 fd_X9_90
theorem s_X9_variable_5 : Snd PG.nam M118 5 (m_const (.int (nI 4)) 6) := snd_iconst dX9_variable_5 (by decide)
theorem s_X9_variable_6 : Snd PG.nam M118 6 (m_icmp (fun x z => if x = z then 9 else 13)) := snd_icmp_ne dX9_variable_6 (by decide)
theorem s_X9_variable_9 : Snd PG.nam M118 9 (m_const (.int (nI 1)) 10) := snd_iconst dX9_variable_9 (by decide)
theorem s_X9_variable_10 : Snd PG.nam M118 10 (m_goto 14) := snd_goto dX9_variable_10 (by decide)
theorem s_X9_variable_13 : Snd PG.nam M118 13 (m_const (.int (nI 0)) 14) := snd_iconst dX9_variable_13 (by decide)
theorem s_X9_variable_14 : Snd PG.nam M118 14 (m_aload 0 15) := snd_aload_n dX9_variable_14 rfl
theorem s_X9_variable_15 : Snd PG.nam M118 15 (m_getf [(7, 6)] 18) := snd_getf dX9_variable_15 fd_X9_82
theorem s_X9_variable_18 : Snd PG.nam M118 18 (m_callV true [(7, 116)] 2 21) := snd_callV (nam := PG.nam) (List.forall_mem_cons.mpr ⟨dr_V (ym := PG.nam 116) dX9_variable_18 (Or.inl w973) mi_116 rfl (lw_all_tbl qs13), (fun q hq => absurd hq List.not_mem_nil)⟩) (by decide)
theorem s_X9_variable_21 : Snd PG.nam M118 21 (m_const (.int (nI 0)) 22) := snd_iconst dX9_variable_21 (by decide)
theorem s_X9_variable_22 : Snd PG.nam M118 22 (m_istore 1 23) := snd_istore_n dX9_variable_22 rfl (by decide)
theorem s_X9_variable_23 : Snd PG.nam M118 23 (m_iload 1 24) := snd_iload_n dX9_variable_23 rfl
theorem s_X9_variable_24 : Snd PG.nam M118 24 (m_aload 0 25) := snd_aload_n dX9_variable_24 rfl
theorem s_X9_variable_25 : Snd PG.nam M118 25 (m_getf [(7, 3)] 28) := snd_getf dX9_variable_25 fd_X9_118
theorem s_X9_variable_28 : Snd PG.nam M118 28 (m_icmp (fun x z => if x < z then 31 else 53)) := snd_icmp_ge dX9_variable_28 (by decide)
theorem s_X9_variable_31 : Snd PG.nam M118 31 (m_aload 0 32) := snd_aload_n dX9_variable_31 rfl
theorem s_X9_variable_32 : Snd PG.nam M118 32 (m_getf [(7, 2)] 35) := snd_getf dX9_variable_32 fd_X9_11
theorem s_X9_variable_35 : Snd PG.nam M118 35 (m_iload 1 36) := snd_iload_n dX9_variable_35 rfl
theorem s_X9_variable_36 : Snd PG.nam M118 36 (m_aald 37) := snd_aald dX9_variable_36
theorem s_X9_variable_37 : Snd PG.nam M118 37 (m_aload 0 38) := snd_aload_n dX9_variable_37 rfl
theorem s_X9_variable_38 : Snd PG.nam M118 38 (m_getf [(7, 5)] 41) := snd_getf dX9_variable_38 fd_X9_87
theorem s_X9_variable_41 : Snd PG.nam M118 41 (m_callV false [(23, 181)] 1 44) := snd_callV (nam := PG.nam) (List.forall_mem_cons.mpr ⟨dr_V (ym := PG.nam 181) dX9_variable_41 (Or.inl w877) mi_181 rfl w593, (fun q hq => absurd hq List.not_mem_nil)⟩) (by decide)
theorem s_X9_variable_44 : Snd PG.nam M118 44 (m_ifz (fun x => if x = 0 then 47 else 53)) := snd_if_ne dX9_variable_44 (by decide)
theorem s_X9_variable_47 : Snd PG.nam M118 47 (m_iinc 1 (nI 1) 50) := snd_iinc dX9_variable_47 (by decide) (by decide)
theorem s_X9_variable_50 : Snd PG.nam M118 50 (m_goto 23) := snd_goto dX9_variable_50 (by decide)
theorem s_X9_variable_53 : Snd PG.nam M118 53 (m_aload 0 54) := snd_aload_n dX9_variable_53 rfl
theorem s_X9_variable_54 : Snd PG.nam M118 54 (m_iload 1 55) := snd_iload_n dX9_variable_54 rfl
theorem s_X9_variable_55 : Snd PG.nam M118 55 (m_const (.int (nI 6)) 57) := snd_bipush dX9_variable_55 (by decide)
theorem s_X9_variable_57 : Snd PG.nam M118 57 (m_icmp (fun x z => if x < z then 60 else 64)) := snd_icmp_ge dX9_variable_57 (by decide)
theorem s_X9_variable_60 : Snd PG.nam M118 60 (m_const (.int (nI 1)) 61) := snd_iconst dX9_variable_60 (by decide)
theorem s_X9_variable_61 : Snd PG.nam M118 61 (m_goto 65) := snd_goto dX9_variable_61 (by decide)
theorem s_X9_variable_64 : Snd PG.nam M118 64 (m_const (.int (nI 0)) 65) := snd_iconst dX9_variable_64 (by decide)
theorem s_X9_variable_65 : Snd PG.nam M118 65 (m_aload 0 66) := snd_aload_n dX9_variable_65 rfl
theorem s_X9_variable_66 : Snd PG.nam M118 66 (m_getf [(7, 6)] 69) := snd_getf dX9_variable_66 fd_X9_82
theorem s_X9_variable_69 : Snd PG.nam M118 69 (m_callV true [(7, 116)] 2 72) := snd_callV (nam := PG.nam) (List.forall_mem_cons.mpr ⟨dr_V (ym := PG.nam 116) dX9_variable_69 (Or.inl w973) mi_116 rfl (lw_all_tbl qs13), (fun q hq => absurd hq List.not_mem_nil)⟩) (by decide)
theorem s_X9_variable_72 : Snd PG.nam M118 72 (m_iload 1 73) := snd_iload_n dX9_variable_72 rfl
theorem s_X9_variable_73 : Snd PG.nam M118 73 (m_aload 0 74) := snd_aload_n dX9_variable_73 rfl
theorem s_X9_variable_74 : Snd PG.nam M118 74 (m_getf [(7, 3)] 77) := snd_getf dX9_variable_74 fd_X9_118
theorem s_X9_variable_77 : Snd PG.nam M118 77 (m_icmp (fun x z => if x = z then 80 else 100)) := snd_icmp_ne dX9_variable_77 (by decide)
theorem s_X9_variable_80 : Snd PG.nam M118 80 (m_aload 0 81) := snd_aload_n dX9_variable_80 rfl
theorem s_X9_variable_81 : Snd PG.nam M118 81 (m_getf [(7, 2)] 84) := snd_getf dX9_variable_81 fd_X9_11
theorem s_X9_variable_84 : Snd PG.nam M118 84 (m_iload 1 85) := snd_iload_n dX9_variable_84 rfl
theorem s_X9_variable_85 : Snd PG.nam M118 85 (m_aload 0 86) := snd_aload_n dX9_variable_85 rfl
theorem s_X9_variable_86 : Snd PG.nam M118 86 (m_getf [(7, 5)] 89) := snd_getf dX9_variable_86 fd_X9_87
theorem s_X9_variable_89 : Snd PG.nam M118 89 (m_aast "java/lang/String" [23] 90) := snd_aast dX9_variable_89 (List.forall_mem_cons.mpr ⟨⟨_, rfl, Or.inr rfl⟩, (fun ci hci => absurd hci List.not_mem_nil)⟩)
theorem s_X9_variable_90 : Snd PG.nam M118 90 (m_aload 0 91) := snd_aload_n dX9_variable_90 rfl
theorem s_X9_variable_91 : Snd PG.nam M118 91 (m_dup 92) := snd_dup dX9_variable_91
theorem s_X9_variable_92 : Snd PG.nam M118 92 (m_getf [(7, 3)] 95) := snd_getf dX9_variable_92 fd_X9_118
theorem s_X9_variable_95 : Snd PG.nam M118 95 (m_const (.int (nI 1)) 96) := snd_iconst dX9_variable_95 (by decide)
theorem s_X9_variable_96 : Snd PG.nam M118 96 (m_ibin (fun a b => a + b) 97) := snd_iadd dX9_variable_96
theorem s_X9_variable_97 : Snd PG.nam M118 97 (m_putf [(7, 3)] .int 100) := snd_putf dX9_variable_97 fd_X9_118
theorem s_X9_variable_100 : Snd PG.nam M118 100 (m_aload 0 101) := snd_aload_n dX9_variable_100 rfl
theorem s_X9_variable_101 : Snd PG.nam M118 101 (m_callV true [(7, 108)] 0 104) := snd_callV (nam := PG.nam) (List.forall_mem_cons.mpr ⟨dr_V (ym := PG.nam 108) dX9_variable_101 (Or.inl w761) mi_108 rfl (lw_all_tbl qs10), (fun q hq => absurd hq List.not_mem_nil)⟩) (by decide)
theorem s_X9_variable_104 : Snd PG.nam M118 104 (m_iload 1 105) := snd_iload_n dX9_variable_104 rfl
theorem s_X9_variable_105 : Snd PG.nam M118 105 (m_iret .int) := snd_iret dX9_variable_105 rfl
theorem T118 : ∀ q ∈ S118, Snd PG.nam M118 q.1 q.2 := List.forall_mem_cons.mpr ⟨s_X9_variable_0, List.forall_mem_cons.mpr ⟨s_X9_variable_1, List.forall_mem_cons.mpr ⟨s_X9_variable_2, List.forall_mem_cons.mpr ⟨s_X9_variable_5, List.forall_mem_cons.mpr ⟨s_X9_variable_6, List.forall_mem_cons.mpr ⟨s_X9_variable_9, List.forall_mem_cons.mpr ⟨s_X9_variable_10, List.forall_mem_cons.mpr ⟨s_X9_variable_13, List.forall_mem_cons.mpr ⟨s_X9_variable_14, List.forall_mem_cons.mpr ⟨s_X9_variable_15, List.forall_mem_cons.mpr ⟨s_X9_variable_18, List.forall_mem_cons.mpr ⟨s_X9_variable_21, List.forall_mem_cons.mpr ⟨s_X9_variable_22, List.forall_mem_cons.mpr ⟨s_X9_variable_23, List.forall_mem_cons.mpr ⟨s_X9_variable_24, List.forall_mem_cons.mpr ⟨s_X9_variable_25, List.forall_mem_cons.mpr ⟨s_X9_variable_28, List.forall_mem_cons.mpr ⟨s_X9_variable_31, List.forall_mem_cons.mpr ⟨s_X9_variable_32, List.forall_mem_cons.mpr ⟨s_X9_variable_35, List.forall_mem_cons.mpr ⟨s_X9_variable_36, List.forall_mem_cons.mpr ⟨s_X9_variable_37, List.forall_mem_cons.mpr ⟨s_X9_variable_38, List.forall_mem_cons.mpr ⟨s_X9_variable_41, List.forall_mem_cons.mpr ⟨s_X9_variable_44, List.forall_mem_cons.mpr ⟨s_X9_variable_47, List.forall_mem_cons.mpr ⟨s_X9_variable_50, List.forall_mem_cons.mpr ⟨s_X9_variable_53, List.forall_mem_cons.mpr ⟨s_X9_variable_54, List.forall_mem_cons.mpr ⟨s_X9_variable_55, List.forall_mem_cons.mpr ⟨s_X9_variable_57, List.forall_mem_cons.mpr ⟨s_X9_variable_60, List.forall_mem_cons.mpr ⟨s_X9_variable_61, List.forall_mem_cons.mpr ⟨s_X9_variable_64, List.forall_mem_cons.mpr ⟨s_X9_variable_65, List.forall_mem_cons.mpr ⟨s_X9_variable_66, List.forall_mem_cons.mpr ⟨s_X9_variable_69, List.forall_mem_cons.mpr ⟨s_X9_variable_72, List.forall_mem_cons.mpr ⟨s_X9_variable_73, List.forall_mem_cons.mpr ⟨s_X9_variable_74, List.forall_mem_cons.mpr ⟨s_X9_variable_77, List.forall_mem_cons.mpr ⟨s_X9_variable_80, List.forall_mem_cons.mpr ⟨s_X9_variable_81, List.forall_mem_cons.mpr ⟨s_X9_variable_84, List.forall_mem_cons.mpr ⟨s_X9_variable_85, List.forall_mem_cons.mpr ⟨s_X9_variable_86, List.forall_mem_cons.mpr ⟨s_X9_variable_89, List.forall_mem_cons.mpr ⟨s_X9_variable_90, List.forall_mem_cons.mpr ⟨s_X9_variable_91, List.forall_mem_cons.mpr ⟨s_X9_variable_92, List.forall_mem_cons.mpr ⟨s_X9_variable_95, List.forall_mem_cons.mpr ⟨s_X9_variable_96, List.forall_mem_cons.mpr ⟨s_X9_variable_97, List.forall_mem_cons.mpr ⟨s_X9_variable_100, List.forall_mem_cons.mpr ⟨s_X9_variable_101, List.forall_mem_cons.mpr ⟨s_X9_variable_104, List.forall_mem_cons.mpr ⟨s_X9_variable_105, (fun q hq => absurd hq List.not_mem_nil)⟩⟩⟩⟩⟩⟩⟩⟩⟩⟩⟩⟩⟩⟩⟩⟩⟩⟩⟩⟩⟩⟩⟩⟩⟩⟩⟩⟩⟩⟩⟩⟩⟩⟩⟩⟩⟩⟩⟩⟩⟩⟩⟩⟩⟩⟩⟩⟩⟩⟩⟩⟩⟩⟩⟩⟩⟩
theorem s_X9_group_0 : Snd PG.nam M119 0 (m_aload 0 1) := snd_aload_n dX9_group_0 rfl
theorem s_X9_group_1 : Snd PG.nam M119 1 (m_aload 0 2) := snd_aload_n dX9_group_1 rfl
theorem s_X9_group_2 : Snd PG.nam M119 2 (m_getf [(7, 4)] 5) := snd_getf dX9_group_2 fd_X9_90
theorem s_X9_group_5 : Snd PG.nam M119 5 (m_const (.int (nI 123)) 7) := snd_bipush dX9_group_5 (by decide)
theorem s_X9_group_7 : Snd PG.nam M119 7 (m_icmp (fun x z => if x = z then 10 else 22)) := snd_icmp_ne dX9_group_7 (by decide)
theorem s_X9_group_10 : Snd PG.nam M119 10 (m_aload 0 11) := snd_aload_n dX9_group_10 rfl
theorem s_X9_group_11 : Snd PG.nam M119 11 (m_getf [(7, 10)] 14) := snd_getf dX9_group_11 fd_X9_172
theorem s_X9_group_14 : Snd PG.nam M119 14 (m_const (.int (nI 4)) 15) := snd_iconst dX9_group_14 (by decide)
theorem s_X9_group_15 : Snd PG.nam M119 15 (m_icmp (fun x z => if x < z then 18 else 22)) := snd_icmp_ge dX9_group_15 (by decide)
theorem s_X9_group_18 : Snd PG.nam M119 18 (m_const (.int (nI 1)) 19) := snd_iconst dX9_group_18 (by decide)
theorem s_X9_group_19 : Snd PG.nam M119 19 (m_goto 23) := snd_goto dX9_group_19 (by decide)
theorem s_X9_group_22 : Snd PG.nam M119 22 (m_const (.int (nI 0)) 23) := snd_iconst dX9_group_22 (by decide)
theorem s_X9_group_23 : Snd PG.nam M119 23 (m_aload 0 24) := snd_aload_n dX9_group_23 rfl
theorem s_X9_group_24 : Snd PG.nam M119 24 (m_getf [(7, 6)] 27) := snd_getf dX9_group_24 fd_X9_82
theorem s_X9_group_27 : Snd PG.nam M119 27 (m_callV true [(7, 116)] 2 30) := snd_callV (nam := PG.nam) (List.forall_mem_cons.mpr ⟨dr_V (ym := PG.nam 116) dX9_group_27 (Or.inl w973) mi_116 rfl (lw_all_tbl qs13), (fun q hq => absurd hq List.not_mem_nil)⟩) (by decide)
theorem s_X9_group_30 : Snd PG.nam M119 30 (m_aload 0 31) := snd_aload_n dX9_group_30 rfl
theorem s_X9_group_31 : Snd PG.nam M119 31 (m_dup 32) := snd_dup dX9_group_31
theorem s_X9_group_32 : Snd PG.nam M119 32 (m_getf [(7, 10)] 35) := snd_getf dX9_group_32 fd_X9_172
theorem s_X9_group_35 : Snd PG.nam M119 35 (m_const (.int (nI 1)) 36) := snd_iconst dX9_group_35 (by decide)
theorem s_X9_group_36 : Snd PG.nam M119 36 (m_ibin (fun a b => a + b) 37) := snd_iadd dX9_group_36
theorem s_X9_group_37 : Snd PG.nam M119 37 (m_putf [(7, 10)] .int 40) := snd_putf dX9_group_37 fd_X9_172
theorem s_X9_group_40 : Snd PG.nam M119 40 (m_aload 0 41) := snd_aload_n dX9_group_40 rfl
theorem s_X9_group_41 : Snd PG.nam M119 41 (m_callV true [(7, 108)] 0 44) := snd_callV (nam := PG.nam) (List.forall_mem_cons.mpr ⟨dr_V (ym := PG.nam 108) dX9_group_41 (Or.inl w761) mi_108 rfl (lw_all_tbl qs10), (fun q hq => absurd hq List.not_mem_nil)⟩) (by decide)
theorem s_X9_group_44 : Snd PG.nam M119 44 (m_new 9 [.null, .null] 47) := snd_new dX9_group_44 rfl w991 w992 w90 rfl (by decide +kernel)
theorem s_X9_group_47 : Snd PG.nam M119 47 (m_dup 48) := snd_dup dX9_group_47
theorem s_X9_group_48 : Snd PG.nam M119 48 (m_callI 126 0 51) := snd_callI (nam := PG.nam) (yy := 126) dX9_group_48 (Or.inr ⟨_, w993⟩) mi_126 rfl w995 (by decide)
theorem s_X9_group_51 : Snd PG.nam M119 51 (m_astore 1 52) := snd_astore_n dX9_group_51 rfl (by decide)
theorem s_X9_group_52 : Snd PG.nam M119 52 (m_aload 0 53) := snd_aload_n dX9_group_52 rfl
theorem s_X9_group_53 : Snd PG.nam M119 53 (m_getf [(7, 4)] 56) := snd_getf dX9_group_53 fd_X9_90
theorem s_X9_group_56 : Snd PG.nam M119 56 (m_const (.int (nI 125)) 58) := snd_bipush dX9_group_56 (by decide)
theorem s_X9_group_58 : Snd PG.nam M119 58 (m_icmp (fun x z => if x = z then 93 else 61)) := snd_icmp_eq dX9_group_58 (by decide)
theorem s_X9_group_61 : Snd PG.nam M119 61 (m_aload 1 62) := snd_aload_n dX9_group_61 rfl
theorem s_X9_group_62 : Snd PG.nam M119 62 (m_aload 0 63) := snd_aload_n dX9_group_62 rfl
theorem s_X9_group_63 : Snd PG.nam M119 63 (m_callV false [(7, 120)] 0 66) := snd_callV (nam := PG.nam) (List.forall_mem_cons.mpr ⟨dr_V (ym := PG.nam 120) dX9_group_63 (Or.inl w1004) mi_120 rfl (lw_all_tbl qs17), (fun q hq => absurd hq List.not_mem_nil)⟩) (by decide)
theorem s_X9_group_66 : Snd PG.nam M119 66 (m_callV true [(9, 127)] 1 69) := snd_callV (nam := PG.nam) (List.forall_mem_cons.mpr ⟨dr_V (ym := PG.nam 127) dX9_group_66 (Or.inl w1149) mi_127 rfl w1151, (fun q hq => absurd hq List.not_mem_nil)⟩) (by decide)
theorem s_X9_group_69 : Snd PG.nam M119 69 (m_aload 0 70) := snd_aload_n dX9_group_69 rfl
theorem s_X9_group_70 : Snd PG.nam M119 70 (m_getf [(7, 4)] 73) := snd_getf dX9_group_70 fd_X9_90
theorem s_X9_group_73 : Snd PG.nam M119 73 (m_const (.int (nI 46)) 75) := snd_bipush dX9_group_73 (by decide)
theorem s_X9_group_75 : Snd PG.nam M119 75 (m_icmp (fun x z => if x = z then 78 else 93)) := snd_icmp_ne dX9_group_75 (by decide)
theorem s_X9_group_78 : Snd PG.nam M119 78 (m_aload 0 79) := snd_aload_n dX9_group_78 rfl
theorem s_X9_group_79 : Snd PG.nam M119 79 (m_callV true [(7, 108)] 0 82) := snd_callV (nam := PG.nam) (List.forall_mem_cons.mpr ⟨dr_V (ym := PG.nam 108) dX9_group_79 (Or.inl w761) mi_108 rfl (lw_all_tbl qs10), (fun q hq => absurd hq List.not_mem_nil)⟩) (by decide)
theorem s_X9_group_82 : Snd PG.nam M119 82 (m_aload 1 83) := snd_aload_n dX9_group_82 rfl
theorem s_X9_group_83 : Snd PG.nam M119 83 (m_aload 0 84) := snd_aload_n dX9_group_83 rfl
theorem s_X9_group_84 : Snd PG.nam M119 84 (m_callV false [(7, 120)] 0 87) := snd_callV (nam := PG.nam) (List.forall_mem_cons.mpr ⟨dr_V (ym := PG.nam 120) dX9_group_84 (Or.inl w1004) mi_120 rfl (lw_all_tbl qs17), (fun q hq => absurd hq List.not_mem_nil)⟩) (by decide)
theorem s_X9_group_87 : Snd PG.nam M119 87 (m_callV true [(9, 127)] 1 90) := snd_callV (nam := PG.nam) (List.forall_mem_cons.mpr ⟨dr_V (ym := PG.nam 127) dX9_group_87 (Or.inl w1149) mi_127 rfl w1151, (fun q hq => absurd hq List.not_mem_nil)⟩) (by decide)
theorem s_X9_group_90 : Snd PG.nam M119 90 (m_goto 69) := snd_goto dX9_group_90 (by decide)
theorem s_X9_group_93 : Snd PG.nam M119 93 (m_aload 0 94) := snd_aload_n dX9_group_93 rfl
theorem s_X9_group_94 : Snd PG.nam M119 94 (m_const (.int (nI 125)) 96) := snd_bipush dX9_group_94 (by decide)
theorem s_X9_group_96 : Snd PG.nam M119 96 (m_callV true [(7, 124)] 1 99) := snd_callV (nam := PG.nam) (List.forall_mem_cons.mpr ⟨dr_V (ym := PG.nam 124) dX9_group_96 (Or.inl w1153) mi_124 rfl (lw_all_tbl qs21), (fun q hq => absurd hq List.not_mem_nil)⟩) (by decide)
theorem s_X9_group_99 : Snd PG.nam M119 99 (m_aload 0 100) := snd_aload_n dX9_group_99 rfl
theorem s_X9_group_100 : Snd PG.nam M119 100 (m_dup 101) := snd_dup dX9_group_100
theorem s_X9_group_101 : Snd PG.nam M119 101 (m_getf [(7, 10)] 104) := snd_getf dX9_group_101 fd_X9_172
theorem s_X9_group_104 : Snd PG.nam M119 104 (m_const (.int (nI 1)) 105) := snd_iconst dX9_group_104 (by decide)
theorem s_X9_group_105 : Snd PG.nam M119 105 (m_ibin (fun a b => a - b) 106) := snd_isub dX9_group_105
theorem s_X9_group_106 : Snd PG.nam M119 106 (m_putf [(7, 10)] .int 109) := snd_putf dX9_group_106 fd_X9_172
theorem s_X9_group_109 : Snd PG.nam M119 109 (m_aload 1 110) := snd_aload_n dX9_group_109 rfl
theorem s_X9_group_110 : Snd PG.nam M119 110 (m_aret) := snd_aret dX9_group_110 rfl (Or.inl ⟨_, rfl⟩)
theorem T119 : ∀ q ∈ S119, Snd PG.nam M119 q.1 q.2 := List.forall_mem_cons.mpr ⟨s_X9_group_0, List.forall_mem_cons.mpr ⟨s_X9_group_1, List.forall_mem_cons.mpr ⟨s_X9_group_2, List.forall_mem_cons.mpr ⟨s_X9_group_5, List.forall_mem_cons.mpr ⟨s_X9_group_7, List.forall_mem_cons.mpr ⟨s_X9_group_10, List.forall_mem_cons.mpr ⟨s_X9_group_11, List.forall_mem_cons.mpr ⟨s_X9_group_14, List.forall_mem_cons.mpr ⟨s_X9_group_15, List.forall_mem_cons.mpr ⟨s_X9_group_18, List.forall_mem_cons.mpr ⟨s_X9_group_19, List.forall_mem_cons.mpr ⟨s_X9_group_22, List.forall_mem_cons.mpr ⟨s_X9_group_23, List.forall_mem_cons.mpr ⟨s_X9_group_24, List.forall_mem_cons.mpr ⟨s_X9_group_27, List.forall_mem_cons.mpr ⟨s_X9_group_30, List.forall_mem_cons.mpr ⟨s_X9_group_31, List.forall_mem_cons.mpr ⟨s_X9_group_32, List.forall_mem_cons.mpr ⟨s_X9_group_35, List.forall_mem_cons.mpr ⟨s_X9_group_36, List.forall_mem_cons.mpr ⟨s_X9_group_37, List.forall_mem_cons.mpr ⟨s_X9_group_40, List.forall_mem_cons.mpr ⟨s_X9_group_41, List.forall_mem_cons.mpr ⟨s_X9_group_44, List.forall_mem_cons.mpr ⟨s_X9_group_47, List.forall_mem_cons.mpr ⟨s_X9_group_48, List.forall_mem_cons.mpr ⟨s_X9_group_51, List.forall_mem_cons.mpr ⟨s_X9_group_52, List.forall_mem_cons.mpr ⟨s_X9_group_53, List.forall_mem_cons.mpr ⟨s_X9_group_56, List.forall_mem_cons.mpr ⟨s_X9_group_58, List.forall_mem_cons.mpr ⟨s_X9_group_61, List.forall_mem_cons.mpr ⟨s_X9_group_62, List.forall_mem_cons.mpr ⟨s_X9_group_63, List.forall_mem_cons.mpr ⟨s_X9_group_66, List.forall_mem_cons.mpr ⟨s_X9_group_69, List.forall_mem_cons.mpr ⟨s_X9_group_70, List.forall_mem_cons.mpr ⟨s_X9_group_73, List.forall_mem_cons.mpr ⟨s_X9_group_75, List.forall_mem_cons.mpr ⟨s_X9_group_78, List.forall_mem_cons.mpr ⟨s_X9_group_79, List.forall_mem_cons.mpr ⟨s_X9_group_82, List.forall_mem_cons.mpr ⟨s_X9_group_83, List.forall_mem_cons.mpr ⟨s_X9_group_84, List.forall_mem_cons.mpr ⟨s_X9_group_87, List.forall_mem_cons.mpr ⟨s_X9_group_90, List.forall_mem_cons.mpr ⟨s_X9_group_93, List.forall_mem_cons.mpr ⟨s_X9_group_94, List.forall_mem_cons.mpr ⟨s_X9_group_96, List.forall_mem_cons.mpr ⟨s_X9_group_99, List.forall_mem_cons.mpr ⟨s_X9_group_100, List.forall_mem_cons.mpr ⟨s_X9_group_101, List.forall_mem_cons.mpr ⟨s_X9_group_104, List.forall_mem_cons.mpr ⟨s_X9_group_105, List.forall_mem_cons.mpr ⟨s_X9_group_106, List.forall_mem_cons.mpr ⟨s_X9_group_109, List.forall_mem_cons.mpr ⟨s_X9_group_110, (fun q hq => absurd hq List.not_mem_nil)⟩⟩⟩⟩⟩⟩⟩⟩⟩⟩⟩⟩⟩⟩⟩⟩⟩⟩⟩⟩⟩⟩⟩⟩⟩⟩⟩⟩⟩⟩⟩⟩⟩⟩⟩⟩⟩⟩⟩⟩⟩⟩⟩⟩⟩⟩⟩⟩⟩⟩⟩⟩⟩⟩⟩⟩⟩
theorem s_X9_element_0 : Snd PG.nam M120 0 (m_aload 0 1) := snd_aload_n dX9_element_0 rfl
theorem s_X9_element_1 : Snd PG.nam M120 1 (m_getf [(7, 4)] 4) := snd_getf dX9_element_1 fd_X9_90
theorem s_X9_element_4 : Snd PG.nam M120 4 (m_const (.int (nI 123)) 6) := snd_bipush dX9_element_4 (by decide)
theorem s_X9_element_6 : Snd PG.nam M120 6 (m_icmp (fun x z => if x = z then 60 else 9)) := snd_icmp_eq dX9_element_6 (by decide)
theorem s_X9_element_9 : Snd PG.nam M120 9 (m_aload 0 10) := snd_aload_n dX9_element_9 rfl
theorem s_X9_element_10 : Snd PG.nam M120 10 (m_gets (fun Ω => .ref (Ω.k 7)) 12) := snd_ldcS (i := 7) dX9_element_10 rfl
theorem s_X9_element_12 : Snd PG.nam M120 12 (m_callV false [(7, 115)] 1 15) := snd_callV (nam := PG.nam) (List.forall_mem_cons.mpr ⟨dr_V (ym := PG.nam 115) dX9_element_12 (Or.inl w969) mi_115 rfl (lw_all_tbl qs12), (fun q hq => absurd hq List.not_mem_nil)⟩) (by decide)
theorem s_X9_element_15 : Snd PG.nam M120 15 (m_ifz (fun x => if x = 0 then 18 else 60)) := snd_if_ne dX9_element_15 (by decide)
theorem s_X9_element_18 : Snd PG.nam M120 18 (m_aload 0 19) := snd_aload_n dX9_element_18 rfl
theorem s_X9_element_19 : Snd PG.nam M120 19 (m_gets (fun Ω => .ref (Ω.k 8)) 21) := snd_ldcS (i := 8) dX9_element_19 rfl
theorem s_X9_element_21 : Snd PG.nam M120 21 (m_callV false [(7, 115)] 1 24) := snd_callV (nam := PG.nam) (List.forall_mem_cons.mpr ⟨dr_V (ym := PG.nam 115) dX9_element_21 (Or.inl w969) mi_115 rfl (lw_all_tbl qs12), (fun q hq => absurd hq List.not_mem_nil)⟩) (by decide)
theorem s_X9_element_24 : Snd PG.nam M120 24 (m_ifz (fun x => if x = 0 then 27 else 60)) := snd_if_ne dX9_element_24 (by decide)
theorem s_X9_element_27 : Snd PG.nam M120 27 (m_aload 0 28) := snd_aload_n dX9_element_27 rfl
theorem s_X9_element_28 : Snd PG.nam M120 28 (m_gets (fun Ω => .ref (Ω.k 9)) 30) := snd_ldcS (i := 9) dX9_element_28 rfl
theorem s_X9_element_30 : Snd PG.nam M120 30 (m_callV false [(7, 115)] 1 33) := snd_callV (nam := PG.nam) (List.forall_mem_cons.mpr ⟨dr_V (ym := PG.nam 115) dX9_element_30 (Or.inl w969) mi_115 rfl (lw_all_tbl qs12), (fun q hq => absurd hq List.not_mem_nil)⟩) (by decide)
theorem s_X9_element_33 : Snd PG.nam M120 33 (m_ifz (fun x => if x = 0 then 36 else 60)) := snd_if_ne dX9_element_33 (by decide)
theorem s_X9_element_36 : Snd PG.nam M120 36 (m_aload 0 37) := snd_aload_n dX9_element_36 rfl
theorem s_X9_element_37 : Snd PG.nam M120 37 (m_getf [(7, 4)] 40) := snd_getf dX9_element_37 fd_X9_90
theorem s_X9_element_40 : Snd PG.nam M120 40 (m_const (.int (nI 1)) 41) := snd_iconst dX9_element_40 (by decide)
theorem s_X9_element_41 : Snd PG.nam M120 41 (m_icmp (fun x z => if x = z then 60 else 44)) := snd_icmp_eq dX9_element_41 (by decide)
theorem s_X9_element_44 : Snd PG.nam M120 44 (m_aload 0 45) := snd_aload_n dX9_element_44 rfl
theorem s_X9_element_45 : Snd PG.nam M120 45 (m_getf [(7, 4)] 48) := snd_getf dX9_element_45 fd_X9_90
theorem s_X9_element_48 : Snd PG.nam M120 48 (m_const (.int (nI 3)) 49) := snd_iconst dX9_element_48 (by decide)
theorem s_X9_element_49 : Snd PG.nam M120 49 (m_icmp (fun x z => if x = z then 60 else 52)) := snd_icmp_eq dX9_element_49 (by decide)
theorem s_X9_element_52 : Snd PG.nam M120 52 (m_aload 0 53) := snd_aload_n dX9_element_52 rfl
theorem s_X9_element_53 : Snd PG.nam M120 53 (m_getf [(7, 4)] 56) := snd_getf dX9_element_53 fd_X9_90
theorem s_X9_element_56 : Snd PG.nam M120 56 (m_const (.int (nI 4)) 57) := snd_iconst dX9_element_56 (by decide)
theorem s_X9_element_57 : Snd PG.nam M120 57 (m_icmp (fun x z => if x = z then 60 else 64)) := snd_icmp_ne dX9_element_57 (by decide)
theorem s_X9_element_60 : Snd PG.nam M120 60 (m_const (.int (nI 1)) 61) := snd_iconst dX9_element_60 (by decide)
theorem s_X9_element_61 : Snd PG.nam M120 61 (m_goto 65) := snd_goto dX9_element_61 (by decide)
theorem s_X9_element_64 : Snd PG.nam M120 64 (m_const (.int (nI 0)) 65) := snd_iconst dX9_element_64 (by decide)
theorem s_X9_element_65 : Snd PG.nam M120 65 (m_istore 1 66) := snd_istore_n dX9_element_65 rfl (by decide)
theorem s_X9_element_66 : Snd PG.nam M120 66 (m_aload 0 67) := snd_aload_n dX9_element_66 rfl
theorem s_X9_element_67 : Snd PG.nam M120 67 (m_iload 1 68) := snd_iload_n dX9_element_67 rfl
theorem s_X9_element_68 : Snd PG.nam M120 68 (m_ifz (fun x => if x = 0 then 84 else 71)) := snd_if_eq dX9_element_68 (by decide)
theorem s_X9_element_71 : Snd PG.nam M120 71 (m_aload 0 72) := snd_aload_n dX9_element_71 rfl
theorem s_X9_element_72 : Snd PG.nam M120 72 (m_getf [(7, 9)] 75) := snd_getf dX9_element_72 fd_X9_189
theorem s_X9_element_75 : Snd PG.nam M120 75 (m_const (.int (nI 12)) 77) := snd_bipush dX9_element_75 (by decide)
theorem s_X9_element_77 : Snd PG.nam M120 77 (m_icmp (fun x z => if x < z then 80 else 84)) := snd_icmp_ge dX9_element_77 (by decide)
theorem s_X9_element_80 : Snd PG.nam M120 80 (m_const (.int (nI 1)) 81) := snd_iconst dX9_element_80 (by decide)
theorem s_X9_element_81 : Snd PG.nam M120 81 (m_goto 85) := snd_goto dX9_element_81 (by decide)
theorem s_X9_element_84 : Snd PG.nam M120 84 (m_const (.int (nI 0)) 85) := snd_iconst dX9_element_84 (by decide)
theorem s_X9_element_85 : Snd PG.nam M120 85 (m_aload 0 86) := snd_aload_n dX9_element_85 rfl
theorem s_X9_element_86 : Snd PG.nam M120 86 (m_getf [(7, 6)] 89) := snd_getf dX9_element_86 fd_X9_82
theorem s_X9_element_89 : Snd PG.nam M120 89 (m_callV true [(7, 116)] 2 92) := snd_callV (nam := PG.nam) (List.forall_mem_cons.mpr ⟨dr_V (ym := PG.nam 116) dX9_element_89 (Or.inl w973) mi_116 rfl (lw_all_tbl qs13), (fun q hq => absurd hq List.not_mem_nil)⟩) (by decide)
theorem s_X9_element_92 : Snd PG.nam M120 92 (m_aload 0 93) := snd_aload_n dX9_element_92 rfl
theorem s_X9_element_93 : Snd PG.nam M120 93 (m_dup 94) := snd_dup dX9_element_93
theorem s_X9_element_94 : Snd PG.nam M120 94 (m_getf [(7, 9)] 97) := snd_getf dX9_element_94 fd_X9_189
theorem s_X9_element_97 : Snd PG.nam M120 97 (m_const (.int (nI 1)) 98) := snd_iconst dX9_element_97 (by decide)
theorem s_X9_element_98 : Snd PG.nam M120 98 (m_ibin (fun a b => a + b) 99) := snd_iadd dX9_element_98
theorem s_X9_element_99 : Snd PG.nam M120 99 (m_putf [(7, 9)] .int 102) := snd_putf dX9_element_99 fd_X9_189
theorem s_X9_element_102 : Snd PG.nam M120 102 (m_aload 0 103) := snd_aload_n dX9_element_102 rfl
theorem s_X9_element_103 : Snd PG.nam M120 103 (m_gets (fun Ω => .ref (Ω.k 7)) 105) := snd_ldcS (i := 7) dX9_element_103 rfl
theorem s_X9_element_105 : Snd PG.nam M120 105 (m_callV false [(7, 117)] 1 108) := snd_callV (nam := PG.nam) (List.forall_mem_cons.mpr ⟨dr_V (ym := PG.nam 117) dX9_element_105 (Or.inl w979) mi_117 rfl (lw_all_tbl qs14), (fun q hq => absurd hq List.not_mem_nil)⟩) (by decide)
theorem s_X9_element_108 : Snd PG.nam M120 108 (m_ifz (fun x => if x = 0 then 124 else 111)) := snd_if_eq dX9_element_108 (by decide)
theorem s_X9_element_111 : Snd PG.nam M120 111 (m_new 10 [.null, .null] 114) := snd_new dX9_element_111 rfl w1008 w1009 w92 rfl (by decide +kernel)
theorem s_X9_element_114 : Snd PG.nam M120 114 (m_dup 115) := snd_dup dX9_element_114
theorem s_X9_element_115 : Snd PG.nam M120 115 (m_aload 0 116) := snd_aload_n dX9_element_115 rfl
theorem s_X9_element_116 : Snd PG.nam M120 116 (m_const (.int (nI 0)) 117) := snd_iconst dX9_element_116 (by decide)
theorem s_X9_element_117 : Snd PG.nam M120 117 (m_callV false [(7, 121)] 1 120) := snd_callV (nam := PG.nam) (List.forall_mem_cons.mpr ⟨dr_V (ym := PG.nam 121) dX9_element_117 (Or.inl w1010) mi_121 rfl (lw_all_tbl qs18), (fun q hq => absurd hq List.not_mem_nil)⟩) (by decide)
theorem s_X9_element_120 : Snd PG.nam M120 120 (m_callI 130 1 123) := snd_callI (nam := PG.nam) (yy := 130) dX9_element_120 (Or.inl w1080) mi_130 rfl w1082 (by decide)
theorem s_X9_element_123 : Snd PG.nam M120 123 (m_aret) := snd_aret dX9_element_123 rfl (Or.inl ⟨_, rfl⟩)
theorem s_X9_element_124 : Snd PG.nam M120 124 (m_aload 0 125) := snd_aload_n dX9_element_124 rfl
theorem s_X9_element_125 : Snd PG.nam M120 125 (m_gets (fun Ω => .ref (Ω.k 8)) 127) := snd_ldcS (i := 8) dX9_element_125 rfl
theorem s_X9_element_127 : Snd PG.nam M120 127 (m_callV false [(7, 117)] 1 130) := snd_callV (nam := PG.nam) (List.forall_mem_cons.mpr ⟨dr_V (ym := PG.nam 117) dX9_element_127 (Or.inl w979) mi_117 rfl (lw_all_tbl qs14), (fun q hq => absurd hq List.not_mem_nil)⟩) (by decide)
theorem s_X9_element_130 : Snd PG.nam M120 130 (m_ifz (fun x => if x = 0 then 145 else 133)) := snd_if_eq dX9_element_130 (by decide)
theorem s_X9_element_133 : Snd PG.nam M120 133 (m_new 15 [.null, .null] 136) := snd_new dX9_element_133 rfl w1094 w1095 w98 rfl (by decide +kernel)
theorem s_X9_element_136 : Snd PG.nam M120 136 (m_dup 137) := snd_dup dX9_element_136
theorem s_X9_element_137 : Snd PG.nam M120 137 (m_aload 0 138) := snd_aload_n dX9_element_137 rfl
theorem s_X9_element_138 : Snd PG.nam M120 138 (m_callV false [(7, 119)] 0 141) := snd_callV (nam := PG.nam) (List.forall_mem_cons.mpr ⟨dr_V (ym := PG.nam 119) dX9_element_138 (Or.inl w987) mi_119 rfl (lw_all_tbl qs16), (fun q hq => absurd hq List.not_mem_nil)⟩) (by decide)
theorem s_X9_element_141 : Snd PG.nam M120 141 (m_callI 142 1 144) := snd_callI (nam := PG.nam) (yy := 142) dX9_element_141 (Or.inl w1096) mi_142 rfl w1098 (by decide)
theorem s_X9_element_144 : Snd PG.nam M120 144 (m_aret) := snd_aret dX9_element_144 rfl (Or.inl ⟨_, rfl⟩)
theorem s_X9_element_145 : Snd PG.nam M120 145 (m_aload 0 146) := snd_aload_n dX9_element_145 rfl
theorem s_X9_element_146 : Snd PG.nam M120 146 (m_gets (fun Ω => .ref (Ω.k 9)) 148) := snd_ldcS (i := 9) dX9_element_146 rfl
theorem s_X9_element_148 : Snd PG.nam M120 148 (m_callV false [(7, 117)] 1 151) := snd_callV (nam := PG.nam) (List.forall_mem_cons.mpr ⟨dr_V (ym := PG.nam 117) dX9_element_148 (Or.inl w979) mi_117 rfl (lw_all_tbl qs14), (fun q hq => absurd hq List.not_mem_nil)⟩) (by decide)
theorem s_X9_element_151 : Snd PG.nam M120 151 (m_ifz (fun x => if x = 0 then 166 else 154)) := snd_if_eq dX9_element_151 (by decide)
theorem s_X9_element_154 : Snd PG.nam M120 154 (m_new 16 [.null, .null] 157) := snd_new dX9_element_154 rfl w1105 w1106 w99 rfl (by decide +kernel)
theorem s_X9_element_157 : Snd PG.nam M120 157 (m_dup 158) := snd_dup dX9_element_157
theorem s_X9_element_158 : Snd PG.nam M120 158 (m_aload 0 159) := snd_aload_n dX9_element_158 rfl
theorem s_X9_element_159 : Snd PG.nam M120 159 (m_callV false [(7, 119)] 0 162) := snd_callV (nam := PG.nam) (List.forall_mem_cons.mpr ⟨dr_V (ym := PG.nam 119) dX9_element_159 (Or.inl w987) mi_119 rfl (lw_all_tbl qs16), (fun q hq => absurd hq List.not_mem_nil)⟩) (by decide)
theorem s_X9_element_162 : Snd PG.nam M120 162 (m_callI 144 1 165) := snd_callI (nam := PG.nam) (yy := 144) dX9_element_162 (Or.inl w1107) mi_144 rfl w1109 (by decide)
theorem s_X9_element_165 : Snd PG.nam M120 165 (m_aret) := snd_aret dX9_element_165 rfl (Or.inl ⟨_, rfl⟩)
theorem s_X9_element_166 : Snd PG.nam M120 166 (m_aload 0 167) := snd_aload_n dX9_element_166 rfl
theorem s_X9_element_167 : Snd PG.nam M120 167 (m_getf [(7, 4)] 170) := snd_getf dX9_element_167 fd_X9_90
theorem s_X9_element_170 : Snd PG.nam M120 170 (m_const (.int (nI 123)) 172) := snd_bipush dX9_element_170 (by decide)
theorem s_X9_element_172 : Snd PG.nam M120 172 (m_icmp (fun x z => if x = z then 175 else 235)) := snd_icmp_ne dX9_element_172 (by decide)
theorem s_X9_element_175 : Snd PG.nam M120 175 (m_new 17 [.null, .null, .int 0] 178) := snd_new dX9_element_175 rfl w1116 w1117 w100 rfl (by decide +kernel)
theorem s_X9_element_178 : Snd PG.nam M120 178 (m_dup 179) := snd_dup dX9_element_178
theorem s_X9_element_179 : Snd PG.nam M120 179 (m_callI 147 0 182) := snd_callI (nam := PG.nam) (yy := 147) dX9_element_179 (Or.inr ⟨_, w1118⟩) mi_147 rfl w1120 (by decide)
theorem s_X9_element_182 : Snd PG.nam M120 182 (m_astore 2 183) := snd_astore_n dX9_element_182 rfl (by decide)
theorem s_X9_element_183 : Snd PG.nam M120 183 (m_aload 2 184) := snd_aload_n dX9_element_183 rfl
theorem s_X9_element_184 : Snd PG.nam M120 184 (m_aload 0 185) := snd_aload_n dX9_element_184 rfl
theorem s_X9_element_185 : Snd PG.nam M120 185 (m_callV false [(7, 119)] 0 188) := snd_callV (nam := PG.nam) (List.forall_mem_cons.mpr ⟨dr_V (ym := PG.nam 119) dX9_element_185 (Or.inl w987) mi_119 rfl (lw_all_tbl qs16), (fun q hq => absurd hq List.not_mem_nil)⟩) (by decide)
theorem s_X9_element_188 : Snd PG.nam M120 188 (m_callV true [(17, 148)] 1 191) := snd_callV (nam := PG.nam) (List.forall_mem_cons.mpr ⟨dr_V (ym := PG.nam 148) dX9_element_188 (Or.inl w1133) mi_148 rfl w1135, (fun q hq => absurd hq List.not_mem_nil)⟩) (by decide)
theorem s_X9_element_191 : Snd PG.nam M120 191 (m_aload 0 192) := snd_aload_n dX9_element_191 rfl
theorem s_X9_element_192 : Snd PG.nam M120 192 (m_gets (fun Ω => .ref (Ω.k 10)) 194) := snd_ldcS (i := 10) dX9_element_192 rfl
theorem s_X9_element_194 : Snd PG.nam M120 194 (m_callV false [(7, 117)] 1 197) := snd_callV (nam := PG.nam) (List.forall_mem_cons.mpr ⟨dr_V (ym := PG.nam 117) dX9_element_194 (Or.inl w979) mi_117 rfl (lw_all_tbl qs14), (fun q hq => absurd hq List.not_mem_nil)⟩) (by decide)
theorem s_X9_element_197 : Snd PG.nam M120 197 (m_ifz (fun x => if x = 0 then 233 else 200)) := snd_if_eq dX9_element_197 (by decide)
theorem s_X9_element_200 : Snd PG.nam M120 200 (m_aload 0 201) := snd_aload_n dX9_element_200 rfl
theorem s_X9_element_201 : Snd PG.nam M120 201 (m_aload 2 202) := snd_aload_n dX9_element_201 rfl
theorem s_X9_element_202 : Snd PG.nam M120 202 (m_getf [(17, 2)] 205) := snd_getf dX9_element_202 fd_X9_214
theorem s_X9_element_205 : Snd PG.nam M120 205 (m_const (.int (nI 12)) 207) := snd_bipush dX9_element_205 (by decide)
theorem s_X9_element_207 : Snd PG.nam M120 207 (m_icmp (fun x z => if x < z then 210 else 214)) := snd_icmp_ge dX9_element_207 (by decide)
theorem s_X9_element_210 : Snd PG.nam M120 210 (m_const (.int (nI 1)) 211) := snd_iconst dX9_element_210 (by decide)
theorem s_X9_element_211 : Snd PG.nam M120 211 (m_goto 215) := snd_goto dX9_element_211 (by decide)
theorem s_X9_element_214 : Snd PG.nam M120 214 (m_const (.int (nI 0)) 215) := snd_iconst dX9_element_214 (by decide)
theorem s_X9_element_215 : Snd PG.nam M120 215 (m_aload 0 216) := snd_aload_n dX9_element_215 rfl
theorem s_X9_element_216 : Snd PG.nam M120 216 (m_getf [(7, 6)] 219) := snd_getf dX9_element_216 fd_X9_82
theorem s_X9_element_219 : Snd PG.nam M120 219 (m_callV true [(7, 116)] 2 222) := snd_callV (nam := PG.nam) (List.forall_mem_cons.mpr ⟨dr_V (ym := PG.nam 116) dX9_element_219 (Or.inl w973) mi_116 rfl (lw_all_tbl qs13), (fun q hq => absurd hq List.not_mem_nil)⟩) (by decide)
theorem s_X9_element_222 : Snd PG.nam M120 222 (m_aload 2 223) := snd_aload_n dX9_element_222 rfl
theorem s_X9_element_223 : Snd PG.nam M120 223 (m_aload 0 224) := snd_aload_n dX9_element_223 rfl
theorem s_X9_element_224 : Snd PG.nam M120 224 (m_callV false [(7, 119)] 0 227) := snd_callV (nam := PG.nam) (List.forall_mem_cons.mpr ⟨dr_V (ym := PG.nam 119) dX9_element_224 (Or.inl w987) mi_119 rfl (lw_all_tbl qs16), (fun q hq => absurd hq List.not_mem_nil)⟩) (by decide)
theorem s_X9_element_227 : Snd PG.nam M120 227 (m_callV true [(17, 148)] 1 230) := snd_callV (nam := PG.nam) (List.forall_mem_cons.mpr ⟨dr_V (ym := PG.nam 148) dX9_element_227 (Or.inl w1133) mi_148 rfl w1135, (fun q hq => absurd hq List.not_mem_nil)⟩) (by decide)
theorem s_X9_element_230 : Snd PG.nam M120 230 (m_goto 191) := snd_goto dX9_element_230 (by decide)
theorem s_X9_element_233 : Snd PG.nam M120 233 (m_aload 2 234) := snd_aload_n dX9_element_233 rfl
theorem s_X9_element_234 : Snd PG.nam M120 234 (m_aret) := snd_aret dX9_element_234 rfl (Or.inl ⟨_, rfl⟩)
theorem s_X9_element_235 : Snd PG.nam M120 235 (m_const (.int (nI 3)) 236) := snd_iconst dX9_element_235 (by decide)
theorem s_X9_element_236 : Snd PG.nam M120 236 (m_anew "TripleStore$Side" 239) := snd_anew dX9_element_236 w1041 w1137
theorem s_X9_element_239 : Snd PG.nam M120 239 (m_dup 240) := snd_dup dX9_element_239
theorem s_X9_element_240 : Snd PG.nam M120 240 (m_const (.int (nI 0)) 241) := snd_iconst dX9_element_240 (by decide)
theorem s_X9_element_241 : Snd PG.nam M120 241 (m_aload 0 242) := snd_aload_n dX9_element_241 rfl
theorem s_X9_element_242 : Snd PG.nam M120 242 (m_callV false [(7, 122)] 0 245) := snd_callV (nam := PG.nam) (List.forall_mem_cons.mpr ⟨dr_V (ym := PG.nam 122) dX9_element_242 (Or.inl w1037) mi_122 rfl (lw_all_tbl qs19), (fun q hq => absurd hq List.not_mem_nil)⟩) (by decide)
theorem s_X9_element_245 : Snd PG.nam M120 245 (m_aast "TripleStore$Side" [13] 246) := snd_aast dX9_element_245 (List.forall_mem_cons.mpr ⟨⟨_, rfl, Or.inr rfl⟩, (fun ci hci => absurd hci List.not_mem_nil)⟩)
theorem s_X9_element_246 : Snd PG.nam M120 246 (m_dup 247) := snd_dup dX9_element_246
theorem s_X9_element_247 : Snd PG.nam M120 247 (m_const (.int (nI 1)) 248) := snd_iconst dX9_element_247 (by decide)
theorem s_X9_element_248 : Snd PG.nam M120 248 (m_aload 0 249) := snd_aload_n dX9_element_248 rfl
theorem s_X9_element_249 : Snd PG.nam M120 249 (m_callV false [(7, 122)] 0 252) := snd_callV (nam := PG.nam) (List.forall_mem_cons.mpr ⟨dr_V (ym := PG.nam 122) dX9_element_249 (Or.inl w1037) mi_122 rfl (lw_all_tbl qs19), (fun q hq => absurd hq List.not_mem_nil)⟩) (by decide)
theorem s_X9_element_252 : Snd PG.nam M120 252 (m_aast "TripleStore$Side" [13] 253) := snd_aast dX9_element_252 (List.forall_mem_cons.mpr ⟨⟨_, rfl, Or.inr rfl⟩, (fun ci hci => absurd hci List.not_mem_nil)⟩)
theorem s_X9_element_253 : Snd PG.nam M120 253 (m_dup 254) := snd_dup dX9_element_253
theorem s_X9_element_254 : Snd PG.nam M120 254 (m_const (.int (nI 2)) 255) := snd_iconst dX9_element_254 (by decide)
theorem s_X9_element_255 : Snd PG.nam M120 255 (m_aload 0 256) := snd_aload_n dX9_element_255 rfl
theorem s_X9_element_256 : Snd PG.nam M120 256 (m_callV false [(7, 122)] 0 259) := snd_callV (nam := PG.nam) (List.forall_mem_cons.mpr ⟨dr_V (ym := PG.nam 122) dX9_element_256 (Or.inl w1037) mi_122 rfl (lw_all_tbl qs19), (fun q hq => absurd hq List.not_mem_nil)⟩) (by decide)
theorem s_X9_element_259 : Snd PG.nam M120 259 (m_aast "TripleStore$Side" [13] 260) := snd_aast dX9_element_259 (List.forall_mem_cons.mpr ⟨⟨_, rfl, Or.inr rfl⟩, (fun ci hci => absurd hci List.not_mem_nil)⟩)
theorem s_X9_element_260 : Snd PG.nam M120 260 (m_astore 2 261) := snd_astore_n dX9_element_260 rfl (by decide)
theorem s_X9_element_261 : Snd PG.nam M120 261 (m_new 18 [.null, .null] 264) := snd_new dX9_element_261 rfl w1138 w1139 w101 rfl (by decide +kernel)
theorem s_X9_element_264 : Snd PG.nam M120 264 (m_dup 265) := snd_dup dX9_element_264
theorem s_X9_element_265 : Snd PG.nam M120 265 (m_aload 2 266) := snd_aload_n dX9_element_265 rfl
theorem s_X9_element_266 : Snd PG.nam M120 266 (m_callI 150 1 269) := snd_callI (nam := PG.nam) (yy := 150) dX9_element_266 (Or.inl w1140) mi_150 rfl w1142 (by decide)
theorem s_X9_element_269 : Snd PG.nam M120 269 (m_aret) := snd_aret dX9_element_269 rfl (Or.inl ⟨_, rfl⟩)
theorem T120 : ∀ q ∈ S120, Snd PG.nam M120 q.1 q.2 := List.forall_mem_cons.mpr ⟨s_X9_element_0, List.forall_mem_cons.mpr ⟨s_X9_element_1, List.forall_mem_cons.mpr ⟨s_X9_element_4, List.forall_mem_cons.mpr ⟨s_X9_element_6, List.forall_mem_cons.mpr ⟨s_X9_element_9, List.forall_mem_cons.mpr ⟨s_X9_element_10, List.forall_mem_cons.mpr ⟨s_X9_element_12, List.forall_mem_cons.mpr ⟨s_X9_element_15, List.forall_mem_cons.mpr ⟨s_X9_element_18, List.forall_mem_cons.mpr ⟨s_X9_element_19, List.forall_mem_cons.mpr ⟨s_X9_element_21, List.forall_mem_cons.mpr ⟨s_X9_element_24, List.forall_mem_cons.mpr ⟨s_X9_element_27, List.forall_mem_cons.mpr ⟨s_X9_element_28, List.forall_mem_cons.mpr ⟨s_X9_element_30, List.forall_mem_cons.mpr ⟨s_X9_element_33, List.forall_mem_cons.mpr ⟨s_X9_element_36, List.forall_mem_cons.mpr ⟨s_X9_element_37, List.forall_mem_cons.mpr ⟨s_X9_element_40, List.forall_mem_cons.mpr ⟨s_X9_element_41, List.forall_mem_cons.mpr ⟨s_X9_element_44, List.forall_mem_cons.mpr ⟨s_X9_element_45, List.forall_mem_cons.mpr ⟨s_X9_element_48, List.forall_mem_cons.mpr ⟨s_X9_element_49, List.forall_mem_cons.mpr ⟨s_X9_element_52, List.forall_mem_cons.mpr ⟨s_X9_element_53, List.forall_mem_cons.mpr ⟨s_X9_element_56, List.forall_mem_cons.mpr ⟨s_X9_element_57, List.forall_mem_cons.mpr ⟨s_X9_element_60, List.forall_mem_cons.mpr ⟨s_X9_element_61, List.forall_mem_cons.mpr ⟨s_X9_element_64, List.forall_mem_cons.mpr ⟨s_X9_element_65, List.forall_mem_cons.mpr ⟨s_X9_element_66, List.forall_mem_cons.mpr ⟨s_X9_element_67, List.forall_mem_cons.mpr ⟨s_X9_element_68, List.forall_mem_cons.mpr ⟨s_X9_element_71, List.forall_mem_cons.mpr ⟨s_X9_element_72, List.forall_mem_cons.mpr ⟨s_X9_element_75, List.forall_mem_cons.mpr ⟨s_X9_element_77, List.forall_mem_cons.mpr ⟨s_X9_element_80, List.forall_mem_cons.mpr ⟨s_X9_element_81, List.forall_mem_cons.mpr ⟨s_X9_element_84, List.forall_mem_cons.mpr ⟨s_X9_element_85, List.forall_mem_cons.mpr ⟨s_X9_element_86, List.forall_mem_cons.mpr ⟨s_X9_element_89, List.forall_mem_cons.mpr ⟨s_X9_element_92, List.forall_mem_cons.mpr ⟨s_X9_element_93, List.forall_mem_cons.mpr ⟨s_X9_element_94, List.forall_mem_cons.mpr ⟨s_X9_element_97, List.forall_mem_cons.mpr ⟨s_X9_element_98, List.forall_mem_cons.mpr ⟨s_X9_element_99, List.forall_mem_cons.mpr ⟨s_X9_element_102, List.forall_mem_cons.mpr ⟨s_X9_element_103, List.forall_mem_cons.mpr ⟨s_X9_element_105, List.forall_mem_cons.mpr ⟨s_X9_element_108, List.forall_mem_cons.mpr ⟨s_X9_element_111, List.forall_mem_cons.mpr ⟨s_X9_element_114, List.forall_mem_cons.mpr ⟨s_X9_element_115, List.forall_mem_cons.mpr ⟨s_X9_element_116, List.forall_mem_cons.mpr ⟨s_X9_element_117, List.forall_mem_cons.mpr ⟨s_X9_element_120, List.forall_mem_cons.mpr ⟨s_X9_element_123, List.forall_mem_cons.mpr ⟨s_X9_element_124, List.forall_mem_cons.mpr ⟨s_X9_element_125, List.forall_mem_cons.mpr ⟨s_X9_element_127, List.forall_mem_cons.mpr ⟨s_X9_element_130, List.forall_mem_cons.mpr ⟨s_X9_element_133, List.forall_mem_cons.mpr ⟨s_X9_element_136, List.forall_mem_cons.mpr ⟨s_X9_element_137, List.forall_mem_cons.mpr ⟨s_X9_element_138, List.forall_mem_cons.mpr ⟨s_X9_element_141, List.forall_mem_cons.mpr ⟨s_X9_element_144, List.forall_mem_cons.mpr ⟨s_X9_element_145, List.forall_mem_cons.mpr ⟨s_X9_element_146, List.forall_mem_cons.mpr ⟨s_X9_element_148, List.forall_mem_cons.mpr ⟨s_X9_element_151, List.forall_mem_cons.mpr ⟨s_X9_element_154, List.forall_mem_cons.mpr ⟨s_X9_element_157, List.forall_mem_cons.mpr ⟨s_X9_element_158, List.forall_mem_cons.mpr ⟨s_X9_element_159, List.forall_mem_cons.mpr ⟨s_X9_element_162, List.forall_mem_cons.mpr ⟨s_X9_element_165, List.forall_mem_cons.mpr ⟨s_X9_element_166, List.forall_mem_cons.mpr ⟨s_X9_element_167, List.forall_mem_cons.mpr ⟨s_X9_element_170, List.forall_mem_cons.mpr ⟨s_X9_element_172, List.forall_mem_cons.mpr ⟨s_X9_element_175, List.forall_mem_cons.mpr ⟨s_X9_element_178, List.forall_mem_cons.mpr ⟨s_X9_element_179, List.forall_mem_cons.mpr ⟨s_X9_element_182, List.forall_mem_cons.mpr ⟨s_X9_element_183, List.forall_mem_cons.mpr ⟨s_X9_element_184, List.forall_mem_cons.mpr ⟨s_X9_element_185, List.forall_mem_cons.mpr ⟨s_X9_element_188, List.forall_mem_cons.mpr ⟨s_X9_element_191, List.forall_mem_cons.mpr ⟨s_X9_element_192, List.forall_mem_cons.mpr ⟨s_X9_element_194, List.forall_mem_cons.mpr ⟨s_X9_element_197, List.forall_mem_cons.mpr ⟨s_X9_element_200, List.forall_mem_cons.mpr ⟨s_X9_element_201, List.forall_mem_cons.mpr ⟨s_X9_element_202, List.forall_mem_cons.mpr ⟨s_X9_element_205, List.forall_mem_cons.mpr ⟨s_X9_element_207, List.forall_mem_cons.mpr ⟨s_X9_element_210, List.forall_mem_cons.mpr ⟨s_X9_element_211, List.forall_mem_cons.mpr ⟨s_X9_element_214, List.forall_mem_cons.mpr ⟨s_X9_element_215, List.forall_mem_cons.mpr ⟨s_X9_element_216, List.forall_mem_cons.mpr ⟨s_X9_element_219, List.forall_mem_cons.mpr ⟨s_X9_element_222, List.forall_mem_cons.mpr ⟨s_X9_element_223, List.forall_mem_cons.mpr ⟨s_X9_element_224, List.forall_mem_cons.mpr ⟨s_X9_element_227, List.forall_mem_cons.mpr ⟨s_X9_element_230, List.forall_mem_cons.mpr ⟨s_X9_element_233, List.forall_mem_cons.mpr ⟨s_X9_element_234, List.forall_mem_cons.mpr ⟨s_X9_element_235, List.forall_mem_cons.mpr ⟨s_X9_element_236, List.forall_mem_cons.mpr ⟨s_X9_element_239, List.forall_mem_cons.mpr ⟨s_X9_element_240, List.forall_mem_cons.mpr ⟨s_X9_element_241, List.forall_mem_cons.mpr ⟨s_X9_element_242, List.forall_mem_cons.mpr ⟨s_X9_element_245, List.forall_mem_cons.mpr ⟨s_X9_element_246, List.forall_mem_cons.mpr ⟨s_X9_element_247, List.forall_mem_cons.mpr ⟨s_X9_element_248, List.forall_mem_cons.mpr ⟨s_X9_element_249, List.forall_mem_cons.mpr ⟨s_X9_element_252, List.forall_mem_cons.mpr ⟨s_X9_element_253, List.forall_mem_cons.mpr ⟨s_X9_element_254, List.forall_mem_cons.mpr ⟨s_X9_element_255, List.forall_mem_cons.mpr ⟨s_X9_element_256, List.forall_mem_cons.mpr ⟨s_X9_element_259, List.forall_mem_cons.mpr ⟨s_X9_element_260, List.forall_mem_cons.mpr ⟨s_X9_element_261, List.forall_mem_cons.mpr ⟨s_X9_element_264, List.forall_mem_cons.mpr ⟨s_X9_element_265, List.forall_mem_cons.mpr ⟨s_X9_element_266, List.forall_mem_cons.mpr ⟨s_X9_element_269, (fun q hq => absurd hq List.not_mem_nil)⟩⟩⟩⟩⟩⟩⟩⟩⟩⟩⟩⟩⟩⟩⟩⟩⟩⟩⟩⟩⟩⟩⟩⟩⟩⟩⟩⟩⟩⟩⟩⟩⟩⟩⟩⟩⟩⟩⟩⟩⟩⟩⟩⟩⟩⟩⟩⟩⟩⟩⟩⟩⟩⟩⟩⟩⟩⟩⟩⟩⟩⟩⟩⟩⟩⟩⟩⟩⟩⟩⟩⟩⟩⟩⟩⟩⟩⟩⟩⟩⟩⟩⟩⟩⟩⟩⟩⟩⟩⟩⟩⟩⟩⟩⟩⟩⟩⟩⟩⟩⟩⟩⟩⟩⟩⟩⟩⟩⟩⟩⟩⟩⟩⟩⟩⟩⟩⟩⟩⟩⟩⟩⟩⟩⟩⟩⟩⟩⟩⟩⟩⟩⟩⟩⟩⟩⟩⟩⟩
theorem s_X9_test_0 : Snd PG.nam M121 0 (m_aload 0 1) := snd_aload_n dX9_test_0 rfl
theorem s_X9_test_1 : Snd PG.nam M121 1 (m_gets (fun Ω => .ref (Ω.k 11)) 3) := snd_ldcS (i := 11) dX9_test_1 rfl
theorem s_X9_test_3 : Snd PG.nam M121 3 (m_callV false [(7, 115)] 1 6) := snd_callV (nam := PG.nam) (List.forall_mem_cons.mpr ⟨dr_V (ym := PG.nam 115) dX9_test_3 (Or.inl w969) mi_115 rfl (lw_all_tbl qs12), (fun q hq => absurd hq List.not_mem_nil)⟩) (by decide)
theorem s_X9_test_6 : Snd PG.nam M121 6 (m_ifz (fun x => if x = 0 then 46 else 9)) := snd_if_eq dX9_test_6 (by decide)
theorem s_X9_test_9 : Snd PG.nam M121 9 (m_aload 0 10) := snd_aload_n dX9_test_9 rfl
theorem s_X9_test_10 : Snd PG.nam M121 10 (m_iload 1 11) := snd_iload_n dX9_test_10 rfl
theorem s_X9_test_11 : Snd PG.nam M121 11 (m_const (.int (nI 4)) 12) := snd_iconst dX9_test_11 (by decide)
theorem s_X9_test_12 : Snd PG.nam M121 12 (m_icmp (fun x z => if x < z then 15 else 19)) := snd_icmp_ge dX9_test_12 (by decide)
theorem s_X9_test_15 : Snd PG.nam M121 15 (m_const (.int (nI 1)) 16) := snd_iconst dX9_test_15 (by decide)
theorem s_X9_test_16 : Snd PG.nam M121 16 (m_goto 20) := snd_goto dX9_test_16 (by decide)
theorem s_X9_test_19 : Snd PG.nam M121 19 (m_const (.int (nI 0)) 20) := snd_iconst dX9_test_19 (by decide)
theorem s_X9_test_20 : Snd PG.nam M121 20 (m_aload 0 21) := snd_aload_n dX9_test_20 rfl
theorem s_X9_test_21 : Snd PG.nam M121 21 (m_getf [(7, 6)] 24) := snd_getf dX9_test_21 fd_X9_82
theorem s_X9_test_24 : Snd PG.nam M121 24 (m_callV true [(7, 116)] 2 27) := snd_callV (nam := PG.nam) (List.forall_mem_cons.mpr ⟨dr_V (ym := PG.nam 116) dX9_test_24 (Or.inl w973) mi_116 rfl (lw_all_tbl qs13), (fun q hq => absurd hq List.not_mem_nil)⟩) (by decide)
theorem s_X9_test_27 : Snd PG.nam M121 27 (m_aload 0 28) := snd_aload_n dX9_test_27 rfl
theorem s_X9_test_28 : Snd PG.nam M121 28 (m_callV true [(7, 108)] 0 31) := snd_callV (nam := PG.nam) (List.forall_mem_cons.mpr ⟨dr_V (ym := PG.nam 108) dX9_test_28 (Or.inl w761) mi_108 rfl (lw_all_tbl qs10), (fun q hq => absurd hq List.not_mem_nil)⟩) (by decide)
theorem s_X9_test_31 : Snd PG.nam M121 31 (m_new 11 [.null] 34) := snd_new dX9_test_31 rfl w1014 w1015 w94 rfl (by decide +kernel)
theorem s_X9_test_34 : Snd PG.nam M121 34 (m_dup 35) := snd_dup dX9_test_34
theorem s_X9_test_35 : Snd PG.nam M121 35 (m_aload 0 36) := snd_aload_n dX9_test_35 rfl
theorem s_X9_test_36 : Snd PG.nam M121 36 (m_iload 1 37) := snd_iload_n dX9_test_36 rfl
theorem s_X9_test_37 : Snd PG.nam M121 37 (m_const (.int (nI 1)) 38) := snd_iconst dX9_test_37 (by decide)
theorem s_X9_test_38 : Snd PG.nam M121 38 (m_ibin (fun a b => a + b) 39) := snd_iadd dX9_test_38
theorem s_X9_test_39 : Snd PG.nam M121 39 (m_callV false [(7, 121)] 1 42) := snd_callV (nam := PG.nam) (List.forall_mem_cons.mpr ⟨dr_V (ym := PG.nam 121) dX9_test_39 (Or.inl w1010) mi_121 rfl (lw_all_tbl qs18), (fun q hq => absurd hq List.not_mem_nil)⟩) (by decide)
theorem s_X9_test_42 : Snd PG.nam M121 42 (m_callI 134 1 45) := snd_callI (nam := PG.nam) (yy := 134) dX9_test_42 (Or.inl w1016) mi_134 rfl w1018 (by decide)
theorem s_X9_test_45 : Snd PG.nam M121 45 (m_aret) := snd_aret dX9_test_45 rfl (Or.inl ⟨_, rfl⟩)
theorem s_X9_test_46 : Snd PG.nam M121 46 (m_aload 0 47) := snd_aload_n dX9_test_46 rfl
theorem s_X9_test_47 : Snd PG.nam M121 47 (m_gets (fun Ω => .ref (Ω.k 12)) 49) := snd_ldcS (i := 12) dX9_test_47 rfl
theorem s_X9_test_49 : Snd PG.nam M121 49 (m_callV false [(7, 117)] 1 52) := snd_callV (nam := PG.nam) (List.forall_mem_cons.mpr ⟨dr_V (ym := PG.nam 117) dX9_test_49 (Or.inl w979) mi_117 rfl (lw_all_tbl qs14), (fun q hq => absurd hq List.not_mem_nil)⟩) (by decide)
theorem s_X9_test_52 : Snd PG.nam M121 52 (m_ifz (fun x => if x = 0 then 67 else 55)) := snd_if_eq dX9_test_52 (by decide)
theorem s_X9_test_55 : Snd PG.nam M121 55 (m_new 12 [.int 0] 58) := snd_new dX9_test_55 rfl w1027 w1028 w95 rfl (by decide +kernel)
theorem s_X9_test_58 : Snd PG.nam M121 58 (m_dup 59) := snd_dup dX9_test_58
theorem s_X9_test_59 : Snd PG.nam M121 59 (m_aload 0 60) := snd_aload_n dX9_test_59 rfl
theorem s_X9_test_60 : Snd PG.nam M121 60 (m_callV false [(7, 118)] 0 63) := snd_callV (nam := PG.nam) (List.forall_mem_cons.mpr ⟨dr_V (ym := PG.nam 118) dX9_test_60 (Or.inl w983) mi_118 rfl (lw_all_tbl qs15), (fun q hq => absurd hq List.not_mem_nil)⟩) (by decide)
theorem s_X9_test_63 : Snd PG.nam M121 63 (m_callI 136 1 66) := snd_callI (nam := PG.nam) (yy := 136) dX9_test_63 (Or.inl w1029) mi_136 rfl w1031 (by decide)
theorem s_X9_test_66 : Snd PG.nam M121 66 (m_aret) := snd_aret dX9_test_66 rfl (Or.inl ⟨_, rfl⟩)
theorem s_X9_test_67 : Snd PG.nam M121 67 (m_aload 0 68) := snd_aload_n dX9_test_67 rfl
theorem s_X9_test_68 : Snd PG.nam M121 68 (m_callV false [(7, 122)] 0 71) := snd_callV (nam := PG.nam) (List.forall_mem_cons.mpr ⟨dr_V (ym := PG.nam 122) dX9_test_68 (Or.inl w1037) mi_122 rfl (lw_all_tbl qs19), (fun q hq => absurd hq List.not_mem_nil)⟩) (by decide)
theorem s_X9_test_71 : Snd PG.nam M121 71 (m_astore 2 72) := snd_astore_n dX9_test_71 rfl (by decide)
theorem s_X9_test_72 : Snd PG.nam M121 72 (m_aload 0 73) := snd_aload_n dX9_test_72 rfl
theorem s_X9_test_73 : Snd PG.nam M121 73 (m_getf [(7, 4)] 76) := snd_getf dX9_test_73 fd_X9_90
theorem s_X9_test_76 : Snd PG.nam M121 76 (m_iun (fun a => (a.toUInt32 % 65536).toInt32) 77) := snd_i2c dX9_test_76
theorem s_X9_test_77 : Snd PG.nam M121 77 (m_istore 3 78) := snd_istore_n dX9_test_77 rfl (by decide)
theorem s_X9_test_78 : Snd PG.nam M121 78 (m_aload 0 79) := snd_aload_n dX9_test_78 rfl
theorem s_X9_test_79 : Snd PG.nam M121 79 (m_aload 0 80) := snd_aload_n dX9_test_79 rfl
theorem s_X9_test_80 : Snd PG.nam M121 80 (m_getf [(7, 4)] 83) := snd_getf dX9_test_80 fd_X9_90
theorem s_X9_test_83 : Snd PG.nam M121 83 (m_const (.int (nI 61)) 85) := snd_bipush dX9_test_83 (by decide)
theorem s_X9_test_85 : Snd PG.nam M121 85 (m_icmp (fun x z => if x = z then 115 else 88)) := snd_icmp_eq dX9_test_85 (by decide)
theorem s_X9_test_88 : Snd PG.nam M121 88 (m_aload 0 89) := snd_aload_n dX9_test_88 rfl
theorem s_X9_test_89 : Snd PG.nam M121 89 (m_getf [(7, 4)] 92) := snd_getf dX9_test_89 fd_X9_90
theorem s_X9_test_92 : Snd PG.nam M121 92 (m_const (.int (nI 60)) 94) := snd_bipush dX9_test_92 (by decide)
theorem s_X9_test_94 : Snd PG.nam M121 94 (m_icmp (fun x z => if x = z then 115 else 97)) := snd_icmp_eq dX9_test_94 (by decide)
theorem s_X9_test_97 : Snd PG.nam M121 97 (m_aload 0 98) := snd_aload_n dX9_test_97 rfl
theorem s_X9_test_98 : Snd PG.nam M121 98 (m_getf [(7, 4)] 101) := snd_getf dX9_test_98 fd_X9_90
theorem s_X9_test_101 : Snd PG.nam M121 101 (m_const (.int (nI 62)) 103) := snd_bipush dX9_test_101 (by decide)
theorem s_X9_test_103 : Snd PG.nam M121 103 (m_icmp (fun x z => if x = z then 115 else 106)) := snd_icmp_eq dX9_test_103 (by decide)
theorem s_X9_test_106 : Snd PG.nam M121 106 (m_aload 0 107) := snd_aload_n dX9_test_106 rfl
theorem s_X9_test_107 : Snd PG.nam M121 107 (m_getf [(7, 4)] 110) := snd_getf dX9_test_107 fd_X9_90
theorem s_X9_test_110 : Snd PG.nam M121 110 (m_const (.int (nI 33)) 112) := snd_bipush dX9_test_110 (by decide)
theorem s_X9_test_112 : Snd PG.nam M121 112 (m_icmp (fun x z => if x = z then 115 else 119)) := snd_icmp_ne dX9_test_112 (by decide)
theorem s_X9_test_115 : Snd PG.nam M121 115 (m_const (.int (nI 1)) 116) := snd_iconst dX9_test_115 (by decide)
theorem s_X9_test_116 : Snd PG.nam M121 116 (m_goto 120) := snd_goto dX9_test_116 (by decide)
theorem s_X9_test_119 : Snd PG.nam M121 119 (m_const (.int (nI 0)) 120) := snd_iconst dX9_test_119 (by decide)
theorem s_X9_test_120 : Snd PG.nam M121 120 (m_aload 0 121) := snd_aload_n dX9_test_120 rfl
theorem s_X9_test_121 : Snd PG.nam M121 121 (m_getf [(7, 6)] 124) := snd_getf dX9_test_121 fd_X9_82
theorem s_X9_test_124 : Snd PG.nam M121 124 (m_callV true [(7, 116)] 2 127) := snd_callV (nam := PG.nam) (List.forall_mem_cons.mpr ⟨dr_V (ym := PG.nam 116) dX9_test_124 (Or.inl w973) mi_116 rfl (lw_all_tbl qs13), (fun q hq => absurd hq List.not_mem_nil)⟩) (by decide)
theorem s_X9_test_127 : Snd PG.nam M121 127 (m_aload 0 128) := snd_aload_n dX9_test_127 rfl
theorem s_X9_test_128 : Snd PG.nam M121 128 (m_callV true [(7, 108)] 0 131) := snd_callV (nam := PG.nam) (List.forall_mem_cons.mpr ⟨dr_V (ym := PG.nam 108) dX9_test_128 (Or.inl w761) mi_108 rfl (lw_all_tbl qs10), (fun q hq => absurd hq List.not_mem_nil)⟩) (by decide)
theorem s_X9_test_131 : Snd PG.nam M121 131 (m_new 14 [.null, .int 0, .null] 134) := snd_new dX9_test_131 rfl w1064 w1065 w97 rfl (by decide +kernel)
theorem s_X9_test_134 : Snd PG.nam M121 134 (m_dup 135) := snd_dup dX9_test_134
theorem s_X9_test_135 : Snd PG.nam M121 135 (m_aload 2 136) := snd_aload_n dX9_test_135 rfl
theorem s_X9_test_136 : Snd PG.nam M121 136 (m_iload 3 137) := snd_iload_n dX9_test_136 rfl
theorem s_X9_test_137 : Snd PG.nam M121 137 (m_aload 0 138) := snd_aload_n dX9_test_137 rfl
theorem s_X9_test_138 : Snd PG.nam M121 138 (m_callV false [(7, 122)] 0 141) := snd_callV (nam := PG.nam) (List.forall_mem_cons.mpr ⟨dr_V (ym := PG.nam 122) dX9_test_138 (Or.inl w1037) mi_122 rfl (lw_all_tbl qs19), (fun q hq => absurd hq List.not_mem_nil)⟩) (by decide)
theorem s_X9_test_141 : Snd PG.nam M121 141 (m_callI 140 3 144) := snd_callI (nam := PG.nam) (yy := 140) dX9_test_141 (Or.inl w1066) mi_140 rfl w1068 (by decide)
theorem s_X9_test_144 : Snd PG.nam M121 144 (m_aret) := snd_aret dX9_test_144 rfl (Or.inl ⟨_, rfl⟩)
theorem T121 : ∀ q ∈ S121, Snd PG.nam M121 q.1 q.2 := List.forall_mem_cons.mpr ⟨s_X9_test_0, List.forall_mem_cons.mpr ⟨s_X9_test_1, List.forall_mem_cons.mpr ⟨s_X9_test_3, List.forall_mem_cons.mpr ⟨s_X9_test_6, List.forall_mem_cons.mpr ⟨s_X9_test_9, List.forall_mem_cons.mpr ⟨s_X9_test_10, List.forall_mem_cons.mpr ⟨s_X9_test_11, List.forall_mem_cons.mpr ⟨s_X9_test_12, List.forall_mem_cons.mpr ⟨s_X9_test_15, List.forall_mem_cons.mpr ⟨s_X9_test_16, List.forall_mem_cons.mpr ⟨s_X9_test_19, List.forall_mem_cons.mpr ⟨s_X9_test_20, List.forall_mem_cons.mpr ⟨s_X9_test_21, List.forall_mem_cons.mpr ⟨s_X9_test_24, List.forall_mem_cons.mpr ⟨s_X9_test_27, List.forall_mem_cons.mpr ⟨s_X9_test_28, List.forall_mem_cons.mpr ⟨s_X9_test_31, List.forall_mem_cons.mpr ⟨s_X9_test_34, List.forall_mem_cons.mpr ⟨s_X9_test_35, List.forall_mem_cons.mpr ⟨s_X9_test_36, List.forall_mem_cons.mpr ⟨s_X9_test_37, List.forall_mem_cons.mpr ⟨s_X9_test_38, List.forall_mem_cons.mpr ⟨s_X9_test_39, List.forall_mem_cons.mpr ⟨s_X9_test_42, List.forall_mem_cons.mpr ⟨s_X9_test_45, List.forall_mem_cons.mpr ⟨s_X9_test_46, List.forall_mem_cons.mpr ⟨s_X9_test_47, List.forall_mem_cons.mpr ⟨s_X9_test_49, List.forall_mem_cons.mpr ⟨s_X9_test_52, List.forall_mem_cons.mpr ⟨s_X9_test_55, List.forall_mem_cons.mpr ⟨s_X9_test_58, List.forall_mem_cons.mpr ⟨s_X9_test_59, List.forall_mem_cons.mpr ⟨s_X9_test_60, List.forall_mem_cons.mpr ⟨s_X9_test_63, List.forall_mem_cons.mpr ⟨s_X9_test_66, List.forall_mem_cons.mpr ⟨s_X9_test_67, List.forall_mem_cons.mpr ⟨s_X9_test_68, List.forall_mem_cons.mpr ⟨s_X9_test_71, List.forall_mem_cons.mpr ⟨s_X9_test_72, List.forall_mem_cons.mpr ⟨s_X9_test_73, List.forall_mem_cons.mpr ⟨s_X9_test_76, List.forall_mem_cons.mpr ⟨s_X9_test_77, List.forall_mem_cons.mpr ⟨s_X9_test_78, List.forall_mem_cons.mpr ⟨s_X9_test_79, List.forall_mem_cons.mpr ⟨s_X9_test_80, List.forall_mem_cons.mpr ⟨s_X9_test_83, List.forall_mem_cons.mpr ⟨s_X9_test_85, List.forall_mem_cons.mpr ⟨s_X9_test_88, List.forall_mem_cons.mpr ⟨s_X9_test_89, List.forall_mem_cons.mpr ⟨s_X9_test_92, List.forall_mem_cons.mpr ⟨s_X9_test_94, List.forall_mem_cons.mpr ⟨s_X9_test_97, List.forall_mem_cons.mpr ⟨s_X9_test_98, List.forall_mem_cons.mpr ⟨s_X9_test_101, List.forall_mem_cons.mpr ⟨s_X9_test_103, List.forall_mem_cons.mpr ⟨s_X9_test_106, List.forall_mem_cons.mpr ⟨s_X9_test_107, List.forall_mem_cons.mpr ⟨s_X9_test_110, List.forall_mem_cons.mpr ⟨s_X9_test_112, List.forall_mem_cons.mpr ⟨s_X9_test_115, List.forall_mem_cons.mpr ⟨s_X9_test_116, List.forall_mem_cons.mpr ⟨s_X9_test_119, List.forall_mem_cons.mpr ⟨s_X9_test_120, List.forall_mem_cons.mpr ⟨s_X9_test_121, List.forall_mem_cons.mpr ⟨s_X9_test_124, List.forall_mem_cons.mpr ⟨s_X9_test_127, List.forall_mem_cons.mpr ⟨s_X9_test_128, List.forall_mem_cons.mpr ⟨s_X9_test_131, List.forall_mem_cons.mpr ⟨s_X9_test_134, List.forall_mem_cons.mpr ⟨s_X9_test_135, List.forall_mem_cons.mpr ⟨s_X9_test_136, List.forall_mem_cons.mpr ⟨s_X9_test_137, List.forall_mem_cons.mpr ⟨s_X9_test_138, List.forall_mem_cons.mpr ⟨s_X9_test_141, List.forall_mem_cons.mpr ⟨s_X9_test_144, (fun q hq => absurd hq List.not_mem_nil)⟩⟩⟩⟩⟩⟩⟩⟩⟩⟩⟩⟩⟩⟩⟩⟩⟩⟩⟩⟩⟩⟩⟩⟩⟩⟩⟩⟩⟩⟩⟩⟩⟩⟩⟩⟩⟩⟩⟩⟩⟩⟩⟩⟩⟩⟩⟩⟩⟩⟩⟩⟩⟩⟩⟩⟩⟩⟩⟩⟩⟩⟩⟩⟩⟩⟩⟩⟩⟩⟩⟩⟩⟩⟩⟩
